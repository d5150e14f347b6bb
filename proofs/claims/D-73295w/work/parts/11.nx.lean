/-! GuestView$Guest -/
set_option maxRecDepth 100000
def RX4 : String := "GuestView$Guest"
def TX4 : u_T := fun k => match k with
  | 0 => ("GuestView$Guest", "machine", "LGuestView$Machine;", true)
  | 1 => ("GuestView$Guest", "pc", "I", false)
  | _ => ("GuestView$Guest", "shift", "I", false)
def tyX4 : Nat → FieldType := fun k => match k with
  | 0 => .object "GuestView$Machine"
  | 1 => .int
  | _ => .int
abbrev wsX40 : List Cond := u_ws RX4 TX4 3
theorem nmX4 : ∀ a, a < 3 → ∀ b, b < 3 → a ≠ b → (TX4 a).2.1 ≠ (TX4 b).2.1 := by decide +kernel
theorem tyX4_ok : ∀ k, k < 3 → parseFieldDescriptor (TX4 k).2.2.1 = some (tyX4 k) := by decide +kernel
abbrev cX4_init : ByteArray := prog_6_method_1_code
def yX4_init : MethodName := ⟨RX4, "<init>", "()V"⟩
def dkwX4_init_0 : List UInt8 := [42, 183, 0, 3, 42, 187, 0, 9, 89, 183, 0, 11, 181, 0, 12, 177]
abbrev dktX4_init_0 : List UInt8 := dkwX4_init_0 ++ []
theorem dksX4_init_0 : cX4_init.data.toList.drop 0 = dktX4_init_0 := by decide +kernel
theorem dX4_init_0 : decode cX4_init 0 = .ok (.aload_n 0, 1) := dk_42 (dk_at dksX4_init_0 0 rfl rfl)
theorem dX4_init_1 : decode cX4_init 1 = .ok (.invokespecial 3, 3) := dk_183 0 3 (dk_at dksX4_init_0 1 rfl rfl)
theorem dX4_init_4 : decode cX4_init 4 = .ok (.aload_n 0, 1) := dk_42 (dk_at dksX4_init_0 4 rfl rfl)
theorem dX4_init_5 : decode cX4_init 5 = .ok (.new 9, 3) := dk_187 0 9 (dk_at dksX4_init_0 5 rfl rfl)
theorem dX4_init_8 : decode cX4_init 8 = .ok (.dup, 1) := dk_89 (dk_at dksX4_init_0 8 rfl rfl)
theorem dX4_init_9 : decode cX4_init 9 = .ok (.invokespecial 11, 3) := dk_183 0 11 (dk_at dksX4_init_0 9 rfl rfl)
theorem dX4_init_12 : decode cX4_init 12 = .ok (.putfield 12, 3) := dk_181 0 12 (dk_at dksX4_init_0 12 rfl rfl)
theorem dX4_init_15 : decode cX4_init 15 = .ok (.return_, 1) := dk_177 (dk_at dksX4_init_0 15 rfl rfl)
abbrev cX4_boots : ByteArray := prog_6_method_3_code
def yX4_boots : MethodName := ⟨RX4, "boots", "([II)V"⟩
def dkwX4_boots_3 : List UInt8 := [132, 3, 1, 167, 255, 227, 177]
abbrev dktX4_boots_3 : List UInt8 := dkwX4_boots_3 ++ []
def dkwX4_boots_2 : List UInt8 := [162, 0, 29, 42, 180, 0, 12, 180, 0, 41, 29, 42, 180, 0, 26, 96, 16, 8, 112, 43, 29, 46, 79]
abbrev dktX4_boots_2 : List UInt8 := dkwX4_boots_2 ++ dktX4_boots_3
def dkwX4_boots_1 : List UInt8 := [181, 0, 32, 42, 180, 0, 12, 3, 181, 0, 35, 42, 180, 0, 12, 3, 181, 0, 38, 3, 62, 29, 16, 8]
abbrev dktX4_boots_1 : List UInt8 := dkwX4_boots_1 ++ dktX4_boots_2
def dkwX4_boots_0 : List UInt8 := [42, 3, 181, 0, 22, 42, 28, 181, 0, 26, 42, 180, 0, 12, 3, 181, 0, 29, 42, 180, 0, 12, 4]
abbrev dktX4_boots_0 : List UInt8 := dkwX4_boots_0 ++ dktX4_boots_1
theorem dksX4_boots_0 : cX4_boots.data.toList.drop 0 = dktX4_boots_0 := by decide +kernel
theorem dksX4_boots_1 : cX4_boots.data.toList.drop 23 = dktX4_boots_1 := dk_seg dksX4_boots_0 23 rfl rfl
theorem dksX4_boots_2 : cX4_boots.data.toList.drop 47 = dktX4_boots_2 := dk_seg dksX4_boots_1 24 rfl rfl
theorem dksX4_boots_3 : cX4_boots.data.toList.drop 70 = dktX4_boots_3 := dk_seg dksX4_boots_2 23 rfl rfl
theorem dX4_boots_0 : decode cX4_boots 0 = .ok (.aload_n 0, 1) := dk_42 (dk_at dksX4_boots_0 0 rfl rfl)
theorem dX4_boots_1 : decode cX4_boots 1 = .ok (.iconst 0, 1) := dk_3 (dk_at dksX4_boots_0 1 rfl rfl)
theorem dX4_boots_2 : decode cX4_boots 2 = .ok (.putfield 22, 3) := dk_181 0 22 (dk_at dksX4_boots_0 2 rfl rfl)
theorem dX4_boots_5 : decode cX4_boots 5 = .ok (.aload_n 0, 1) := dk_42 (dk_at dksX4_boots_0 5 rfl rfl)
theorem dX4_boots_6 : decode cX4_boots 6 = .ok (.iload_n 2, 1) := dk_28 (dk_at dksX4_boots_0 6 rfl rfl)
theorem dX4_boots_7 : decode cX4_boots 7 = .ok (.putfield 26, 3) := dk_181 0 26 (dk_at dksX4_boots_0 7 rfl rfl)
theorem dX4_boots_10 : decode cX4_boots 10 = .ok (.aload_n 0, 1) := dk_42 (dk_at dksX4_boots_0 10 rfl rfl)
theorem dX4_boots_11 : decode cX4_boots 11 = .ok (.getfield 12, 3) := dk_180 0 12 (dk_at dksX4_boots_0 11 rfl rfl)
theorem dX4_boots_14 : decode cX4_boots 14 = .ok (.iconst 0, 1) := dk_3 (dk_at dksX4_boots_0 14 rfl rfl)
theorem dX4_boots_15 : decode cX4_boots 15 = .ok (.putfield 29, 3) := dk_181 0 29 (dk_at dksX4_boots_0 15 rfl rfl)
theorem dX4_boots_18 : decode cX4_boots 18 = .ok (.aload_n 0, 1) := dk_42 (dk_at dksX4_boots_0 18 rfl rfl)
theorem dX4_boots_19 : decode cX4_boots 19 = .ok (.getfield 12, 3) := dk_180 0 12 (dk_at dksX4_boots_0 19 rfl rfl)
theorem dX4_boots_22 : decode cX4_boots 22 = .ok (.iconst 1, 1) := dk_4 (dk_at dksX4_boots_0 22 rfl rfl)
theorem dX4_boots_23 : decode cX4_boots 23 = .ok (.putfield 32, 3) := dk_181 0 32 (dk_at dksX4_boots_1 0 rfl rfl)
theorem dX4_boots_26 : decode cX4_boots 26 = .ok (.aload_n 0, 1) := dk_42 (dk_at dksX4_boots_1 3 rfl rfl)
theorem dX4_boots_27 : decode cX4_boots 27 = .ok (.getfield 12, 3) := dk_180 0 12 (dk_at dksX4_boots_1 4 rfl rfl)
theorem dX4_boots_30 : decode cX4_boots 30 = .ok (.iconst 0, 1) := dk_3 (dk_at dksX4_boots_1 7 rfl rfl)
theorem dX4_boots_31 : decode cX4_boots 31 = .ok (.putfield 35, 3) := dk_181 0 35 (dk_at dksX4_boots_1 8 rfl rfl)
theorem dX4_boots_34 : decode cX4_boots 34 = .ok (.aload_n 0, 1) := dk_42 (dk_at dksX4_boots_1 11 rfl rfl)
theorem dX4_boots_35 : decode cX4_boots 35 = .ok (.getfield 12, 3) := dk_180 0 12 (dk_at dksX4_boots_1 12 rfl rfl)
theorem dX4_boots_38 : decode cX4_boots 38 = .ok (.iconst 0, 1) := dk_3 (dk_at dksX4_boots_1 15 rfl rfl)
theorem dX4_boots_39 : decode cX4_boots 39 = .ok (.putfield 38, 3) := dk_181 0 38 (dk_at dksX4_boots_1 16 rfl rfl)
theorem dX4_boots_42 : decode cX4_boots 42 = .ok (.iconst 0, 1) := dk_3 (dk_at dksX4_boots_1 19 rfl rfl)
theorem dX4_boots_43 : decode cX4_boots 43 = .ok (.istore_n 3, 1) := dk_62 (dk_at dksX4_boots_1 20 rfl rfl)
theorem dX4_boots_44 : decode cX4_boots 44 = .ok (.iload_n 3, 1) := dk_29 (dk_at dksX4_boots_1 21 rfl rfl)
theorem dX4_boots_45 : decode cX4_boots 45 = .ok (.bipush 8, 2) := dk_16 8 (dk_at dksX4_boots_1 22 rfl rfl)
theorem dX4_boots_47 : decode cX4_boots 47 = .ok (.if_icmp .ge 29, 3) := dk_162 0 29 (dk_at dksX4_boots_2 0 rfl rfl)
theorem dX4_boots_50 : decode cX4_boots 50 = .ok (.aload_n 0, 1) := dk_42 (dk_at dksX4_boots_2 3 rfl rfl)
theorem dX4_boots_51 : decode cX4_boots 51 = .ok (.getfield 12, 3) := dk_180 0 12 (dk_at dksX4_boots_2 4 rfl rfl)
theorem dX4_boots_54 : decode cX4_boots 54 = .ok (.getfield 41, 3) := dk_180 0 41 (dk_at dksX4_boots_2 7 rfl rfl)
theorem dX4_boots_57 : decode cX4_boots 57 = .ok (.iload_n 3, 1) := dk_29 (dk_at dksX4_boots_2 10 rfl rfl)
theorem dX4_boots_58 : decode cX4_boots 58 = .ok (.aload_n 0, 1) := dk_42 (dk_at dksX4_boots_2 11 rfl rfl)
theorem dX4_boots_59 : decode cX4_boots 59 = .ok (.getfield 26, 3) := dk_180 0 26 (dk_at dksX4_boots_2 12 rfl rfl)
theorem dX4_boots_62 : decode cX4_boots 62 = .ok (.iadd, 1) := dk_96 (dk_at dksX4_boots_2 15 rfl rfl)
theorem dX4_boots_63 : decode cX4_boots 63 = .ok (.bipush 8, 2) := dk_16 8 (dk_at dksX4_boots_2 16 rfl rfl)
theorem dX4_boots_65 : decode cX4_boots 65 = .ok (.irem, 1) := dk_112 (dk_at dksX4_boots_2 18 rfl rfl)
theorem dX4_boots_66 : decode cX4_boots 66 = .ok (.aload_n 1, 1) := dk_43 (dk_at dksX4_boots_2 19 rfl rfl)
theorem dX4_boots_67 : decode cX4_boots 67 = .ok (.iload_n 3, 1) := dk_29 (dk_at dksX4_boots_2 20 rfl rfl)
theorem dX4_boots_68 : decode cX4_boots 68 = .ok (.iaload, 1) := dk_46 (dk_at dksX4_boots_2 21 rfl rfl)
theorem dX4_boots_69 : decode cX4_boots 69 = .ok (.iastore, 1) := dk_79 (dk_at dksX4_boots_2 22 rfl rfl)
theorem dX4_boots_70 : decode cX4_boots 70 = .ok (.iinc 3 1, 3) := dk_132 3 1 (dk_at dksX4_boots_3 0 rfl rfl)
theorem dX4_boots_73 : decode cX4_boots 73 = .ok (.goto (-29), 3) := dk_167 255 227 (dk_at dksX4_boots_3 3 rfl rfl)
theorem dX4_boots_76 : decode cX4_boots 76 = .ok (.return_, 1) := dk_177 (dk_at dksX4_boots_3 6 rfl rfl)
abbrev cX4_be : ByteArray := prog_6_method_2_code
def yX4_be : MethodName := ⟨RX4, "be", "(LGuestView$Guest;)V"⟩
def dkwX4_be_1 : List UInt8 := [181, 0, 26, 177]
abbrev dktX4_be_1 : List UInt8 := dkwX4_be_1 ++ []
def dkwX4_be_0 : List UInt8 := [42, 180, 0, 12, 43, 180, 0, 12, 182, 0, 18, 42, 43, 180, 0, 22, 181, 0, 22, 42, 43, 180, 0, 26]
abbrev dktX4_be_0 : List UInt8 := dkwX4_be_0 ++ dktX4_be_1
theorem dksX4_be_0 : cX4_be.data.toList.drop 0 = dktX4_be_0 := by decide +kernel
theorem dksX4_be_1 : cX4_be.data.toList.drop 24 = dktX4_be_1 := dk_seg dksX4_be_0 24 rfl rfl
theorem dX4_be_0 : decode cX4_be 0 = .ok (.aload_n 0, 1) := dk_42 (dk_at dksX4_be_0 0 rfl rfl)
theorem dX4_be_1 : decode cX4_be 1 = .ok (.getfield 12, 3) := dk_180 0 12 (dk_at dksX4_be_0 1 rfl rfl)
theorem dX4_be_4 : decode cX4_be 4 = .ok (.aload_n 1, 1) := dk_43 (dk_at dksX4_be_0 4 rfl rfl)
theorem dX4_be_5 : decode cX4_be 5 = .ok (.getfield 12, 3) := dk_180 0 12 (dk_at dksX4_be_0 5 rfl rfl)
theorem dX4_be_8 : decode cX4_be 8 = .ok (.invokevirtual 18, 3) := dk_182 0 18 (dk_at dksX4_be_0 8 rfl rfl)
theorem dX4_be_11 : decode cX4_be 11 = .ok (.aload_n 0, 1) := dk_42 (dk_at dksX4_be_0 11 rfl rfl)
theorem dX4_be_12 : decode cX4_be 12 = .ok (.aload_n 1, 1) := dk_43 (dk_at dksX4_be_0 12 rfl rfl)
theorem dX4_be_13 : decode cX4_be 13 = .ok (.getfield 22, 3) := dk_180 0 22 (dk_at dksX4_be_0 13 rfl rfl)
theorem dX4_be_16 : decode cX4_be 16 = .ok (.putfield 22, 3) := dk_181 0 22 (dk_at dksX4_be_0 16 rfl rfl)
theorem dX4_be_19 : decode cX4_be 19 = .ok (.aload_n 0, 1) := dk_42 (dk_at dksX4_be_0 19 rfl rfl)
theorem dX4_be_20 : decode cX4_be 20 = .ok (.aload_n 1, 1) := dk_43 (dk_at dksX4_be_0 20 rfl rfl)
theorem dX4_be_21 : decode cX4_be 21 = .ok (.getfield 26, 3) := dk_180 0 26 (dk_at dksX4_be_0 21 rfl rfl)
theorem dX4_be_24 : decode cX4_be 24 = .ok (.putfield 26, 3) := dk_181 0 26 (dk_at dksX4_be_1 0 rfl rfl)
theorem dX4_be_27 : decode cX4_be 27 = .ok (.return_, 1) := dk_177 (dk_at dksX4_be_1 3 rfl rfl)
abbrev cX4_isLike : ByteArray := prog_6_method_8_code
def yX4_isLike : MethodName := ⟨RX4, "isLike", "(LGuestView$Guest;)Z"⟩
def dkwX4_isLike_4 : List UInt8 := [3, 126, 61, 132, 3, 1, 167, 255, 226, 28, 172]
abbrev dktX4_isLike_4 : List UInt8 := dkwX4_isLike_4 ++ []
def dkwX4_isLike_3 : List UInt8 := [29, 16, 8, 162, 0, 30, 28, 42, 29, 182, 0, 55, 43, 29, 182, 0, 55, 160, 0, 7, 4, 167, 0, 4]
abbrev dktX4_isLike_3 : List UInt8 := dkwX4_isLike_3 ++ dktX4_isLike_4
def dkwX4_isLike_2 : List UInt8 := [180, 0, 12, 180, 0, 35, 43, 180, 0, 12, 180, 0, 35, 160, 0, 7, 4, 167, 0, 4, 3, 61, 3, 62]
abbrev dktX4_isLike_2 : List UInt8 := dkwX4_isLike_2 ++ dktX4_isLike_3
def dkwX4_isLike_1 : List UInt8 := [180, 0, 29, 160, 0, 41, 42, 180, 0, 12, 180, 0, 32, 43, 180, 0, 12, 180, 0, 32, 160, 0, 24, 42]
abbrev dktX4_isLike_1 : List UInt8 := dkwX4_isLike_1 ++ dktX4_isLike_2
def dkwX4_isLike_0 : List UInt8 := [42, 180, 0, 22, 43, 180, 0, 22, 160, 0, 58, 42, 180, 0, 12, 180, 0, 29, 43, 180, 0, 12]
abbrev dktX4_isLike_0 : List UInt8 := dkwX4_isLike_0 ++ dktX4_isLike_1
theorem dksX4_isLike_0 : cX4_isLike.data.toList.drop 0 = dktX4_isLike_0 := by decide +kernel
theorem dksX4_isLike_1 : cX4_isLike.data.toList.drop 22 = dktX4_isLike_1 := dk_seg dksX4_isLike_0 22 rfl rfl
theorem dksX4_isLike_2 : cX4_isLike.data.toList.drop 46 = dktX4_isLike_2 := dk_seg dksX4_isLike_1 24 rfl rfl
theorem dksX4_isLike_3 : cX4_isLike.data.toList.drop 70 = dktX4_isLike_3 := dk_seg dksX4_isLike_2 24 rfl rfl
theorem dksX4_isLike_4 : cX4_isLike.data.toList.drop 94 = dktX4_isLike_4 := dk_seg dksX4_isLike_3 24 rfl rfl
theorem dX4_isLike_0 : decode cX4_isLike 0 = .ok (.aload_n 0, 1) := dk_42 (dk_at dksX4_isLike_0 0 rfl rfl)
theorem dX4_isLike_1 : decode cX4_isLike 1 = .ok (.getfield 22, 3) := dk_180 0 22 (dk_at dksX4_isLike_0 1 rfl rfl)
theorem dX4_isLike_4 : decode cX4_isLike 4 = .ok (.aload_n 1, 1) := dk_43 (dk_at dksX4_isLike_0 4 rfl rfl)
theorem dX4_isLike_5 : decode cX4_isLike 5 = .ok (.getfield 22, 3) := dk_180 0 22 (dk_at dksX4_isLike_0 5 rfl rfl)
theorem dX4_isLike_8 : decode cX4_isLike 8 = .ok (.if_icmp .ne 58, 3) := dk_160 0 58 (dk_at dksX4_isLike_0 8 rfl rfl)
theorem dX4_isLike_11 : decode cX4_isLike 11 = .ok (.aload_n 0, 1) := dk_42 (dk_at dksX4_isLike_0 11 rfl rfl)
theorem dX4_isLike_12 : decode cX4_isLike 12 = .ok (.getfield 12, 3) := dk_180 0 12 (dk_at dksX4_isLike_0 12 rfl rfl)
theorem dX4_isLike_15 : decode cX4_isLike 15 = .ok (.getfield 29, 3) := dk_180 0 29 (dk_at dksX4_isLike_0 15 rfl rfl)
theorem dX4_isLike_18 : decode cX4_isLike 18 = .ok (.aload_n 1, 1) := dk_43 (dk_at dksX4_isLike_0 18 rfl rfl)
theorem dX4_isLike_19 : decode cX4_isLike 19 = .ok (.getfield 12, 3) := dk_180 0 12 (dk_at dksX4_isLike_0 19 rfl rfl)
theorem dX4_isLike_22 : decode cX4_isLike 22 = .ok (.getfield 29, 3) := dk_180 0 29 (dk_at dksX4_isLike_1 0 rfl rfl)
theorem dX4_isLike_25 : decode cX4_isLike 25 = .ok (.if_icmp .ne 41, 3) := dk_160 0 41 (dk_at dksX4_isLike_1 3 rfl rfl)
theorem dX4_isLike_28 : decode cX4_isLike 28 = .ok (.aload_n 0, 1) := dk_42 (dk_at dksX4_isLike_1 6 rfl rfl)
theorem dX4_isLike_29 : decode cX4_isLike 29 = .ok (.getfield 12, 3) := dk_180 0 12 (dk_at dksX4_isLike_1 7 rfl rfl)
theorem dX4_isLike_32 : decode cX4_isLike 32 = .ok (.getfield 32, 3) := dk_180 0 32 (dk_at dksX4_isLike_1 10 rfl rfl)
theorem dX4_isLike_35 : decode cX4_isLike 35 = .ok (.aload_n 1, 1) := dk_43 (dk_at dksX4_isLike_1 13 rfl rfl)
theorem dX4_isLike_36 : decode cX4_isLike 36 = .ok (.getfield 12, 3) := dk_180 0 12 (dk_at dksX4_isLike_1 14 rfl rfl)
theorem dX4_isLike_39 : decode cX4_isLike 39 = .ok (.getfield 32, 3) := dk_180 0 32 (dk_at dksX4_isLike_1 17 rfl rfl)
theorem dX4_isLike_42 : decode cX4_isLike 42 = .ok (.if_icmp .ne 24, 3) := dk_160 0 24 (dk_at dksX4_isLike_1 20 rfl rfl)
theorem dX4_isLike_45 : decode cX4_isLike 45 = .ok (.aload_n 0, 1) := dk_42 (dk_at dksX4_isLike_1 23 rfl rfl)
theorem dX4_isLike_46 : decode cX4_isLike 46 = .ok (.getfield 12, 3) := dk_180 0 12 (dk_at dksX4_isLike_2 0 rfl rfl)
theorem dX4_isLike_49 : decode cX4_isLike 49 = .ok (.getfield 35, 3) := dk_180 0 35 (dk_at dksX4_isLike_2 3 rfl rfl)
theorem dX4_isLike_52 : decode cX4_isLike 52 = .ok (.aload_n 1, 1) := dk_43 (dk_at dksX4_isLike_2 6 rfl rfl)
theorem dX4_isLike_53 : decode cX4_isLike 53 = .ok (.getfield 12, 3) := dk_180 0 12 (dk_at dksX4_isLike_2 7 rfl rfl)
theorem dX4_isLike_56 : decode cX4_isLike 56 = .ok (.getfield 35, 3) := dk_180 0 35 (dk_at dksX4_isLike_2 10 rfl rfl)
theorem dX4_isLike_59 : decode cX4_isLike 59 = .ok (.if_icmp .ne 7, 3) := dk_160 0 7 (dk_at dksX4_isLike_2 13 rfl rfl)
theorem dX4_isLike_62 : decode cX4_isLike 62 = .ok (.iconst 1, 1) := dk_4 (dk_at dksX4_isLike_2 16 rfl rfl)
theorem dX4_isLike_63 : decode cX4_isLike 63 = .ok (.goto 4, 3) := dk_167 0 4 (dk_at dksX4_isLike_2 17 rfl rfl)
theorem dX4_isLike_66 : decode cX4_isLike 66 = .ok (.iconst 0, 1) := dk_3 (dk_at dksX4_isLike_2 20 rfl rfl)
theorem dX4_isLike_67 : decode cX4_isLike 67 = .ok (.istore_n 2, 1) := dk_61 (dk_at dksX4_isLike_2 21 rfl rfl)
theorem dX4_isLike_68 : decode cX4_isLike 68 = .ok (.iconst 0, 1) := dk_3 (dk_at dksX4_isLike_2 22 rfl rfl)
theorem dX4_isLike_69 : decode cX4_isLike 69 = .ok (.istore_n 3, 1) := dk_62 (dk_at dksX4_isLike_2 23 rfl rfl)
theorem dX4_isLike_70 : decode cX4_isLike 70 = .ok (.iload_n 3, 1) := dk_29 (dk_at dksX4_isLike_3 0 rfl rfl)
theorem dX4_isLike_71 : decode cX4_isLike 71 = .ok (.bipush 8, 2) := dk_16 8 (dk_at dksX4_isLike_3 1 rfl rfl)
theorem dX4_isLike_73 : decode cX4_isLike 73 = .ok (.if_icmp .ge 30, 3) := dk_162 0 30 (dk_at dksX4_isLike_3 3 rfl rfl)
theorem dX4_isLike_76 : decode cX4_isLike 76 = .ok (.iload_n 2, 1) := dk_28 (dk_at dksX4_isLike_3 6 rfl rfl)
theorem dX4_isLike_77 : decode cX4_isLike 77 = .ok (.aload_n 0, 1) := dk_42 (dk_at dksX4_isLike_3 7 rfl rfl)
theorem dX4_isLike_78 : decode cX4_isLike 78 = .ok (.iload_n 3, 1) := dk_29 (dk_at dksX4_isLike_3 8 rfl rfl)
theorem dX4_isLike_79 : decode cX4_isLike 79 = .ok (.invokevirtual 55, 3) := dk_182 0 55 (dk_at dksX4_isLike_3 9 rfl rfl)
theorem dX4_isLike_82 : decode cX4_isLike 82 = .ok (.aload_n 1, 1) := dk_43 (dk_at dksX4_isLike_3 12 rfl rfl)
theorem dX4_isLike_83 : decode cX4_isLike 83 = .ok (.iload_n 3, 1) := dk_29 (dk_at dksX4_isLike_3 13 rfl rfl)
theorem dX4_isLike_84 : decode cX4_isLike 84 = .ok (.invokevirtual 55, 3) := dk_182 0 55 (dk_at dksX4_isLike_3 14 rfl rfl)
theorem dX4_isLike_87 : decode cX4_isLike 87 = .ok (.if_icmp .ne 7, 3) := dk_160 0 7 (dk_at dksX4_isLike_3 17 rfl rfl)
theorem dX4_isLike_90 : decode cX4_isLike 90 = .ok (.iconst 1, 1) := dk_4 (dk_at dksX4_isLike_3 20 rfl rfl)
theorem dX4_isLike_91 : decode cX4_isLike 91 = .ok (.goto 4, 3) := dk_167 0 4 (dk_at dksX4_isLike_3 21 rfl rfl)
theorem dX4_isLike_94 : decode cX4_isLike 94 = .ok (.iconst 0, 1) := dk_3 (dk_at dksX4_isLike_4 0 rfl rfl)
theorem dX4_isLike_95 : decode cX4_isLike 95 = .ok (.iand, 1) := dk_126 (dk_at dksX4_isLike_4 1 rfl rfl)
theorem dX4_isLike_96 : decode cX4_isLike 96 = .ok (.istore_n 2, 1) := dk_61 (dk_at dksX4_isLike_4 2 rfl rfl)
theorem dX4_isLike_97 : decode cX4_isLike 97 = .ok (.iinc 3 1, 3) := dk_132 3 1 (dk_at dksX4_isLike_4 3 rfl rfl)
theorem dX4_isLike_100 : decode cX4_isLike 100 = .ok (.goto (-30), 3) := dk_167 255 226 (dk_at dksX4_isLike_4 6 rfl rfl)
theorem dX4_isLike_103 : decode cX4_isLike 103 = .ok (.iload_n 2, 1) := dk_28 (dk_at dksX4_isLike_4 9 rfl rfl)
theorem dX4_isLike_104 : decode cX4_isLike 104 = .ok (.ireturn, 1) := dk_172 (dk_at dksX4_isLike_4 10 rfl rfl)
abbrev cX4_cellAt : ByteArray := prog_6_method_4_code
def yX4_cellAt : MethodName := ⟨RX4, "cellAt", "(I)I"⟩
def dkwX4_cellAt_0 : List UInt8 := [42, 180, 0, 12, 180, 0, 41, 27, 42, 180, 0, 26, 96, 16, 8, 112, 46, 172]
abbrev dktX4_cellAt_0 : List UInt8 := dkwX4_cellAt_0 ++ []
theorem dksX4_cellAt_0 : cX4_cellAt.data.toList.drop 0 = dktX4_cellAt_0 := by decide +kernel
theorem dX4_cellAt_0 : decode cX4_cellAt 0 = .ok (.aload_n 0, 1) := dk_42 (dk_at dksX4_cellAt_0 0 rfl rfl)
theorem dX4_cellAt_1 : decode cX4_cellAt 1 = .ok (.getfield 12, 3) := dk_180 0 12 (dk_at dksX4_cellAt_0 1 rfl rfl)
theorem dX4_cellAt_4 : decode cX4_cellAt 4 = .ok (.getfield 41, 3) := dk_180 0 41 (dk_at dksX4_cellAt_0 4 rfl rfl)
theorem dX4_cellAt_7 : decode cX4_cellAt 7 = .ok (.iload_n 1, 1) := dk_27 (dk_at dksX4_cellAt_0 7 rfl rfl)
theorem dX4_cellAt_8 : decode cX4_cellAt 8 = .ok (.aload_n 0, 1) := dk_42 (dk_at dksX4_cellAt_0 8 rfl rfl)
theorem dX4_cellAt_9 : decode cX4_cellAt 9 = .ok (.getfield 26, 3) := dk_180 0 26 (dk_at dksX4_cellAt_0 9 rfl rfl)
theorem dX4_cellAt_12 : decode cX4_cellAt 12 = .ok (.iadd, 1) := dk_96 (dk_at dksX4_cellAt_0 12 rfl rfl)
theorem dX4_cellAt_13 : decode cX4_cellAt 13 = .ok (.bipush 8, 2) := dk_16 8 (dk_at dksX4_cellAt_0 13 rfl rfl)
theorem dX4_cellAt_15 : decode cX4_cellAt 15 = .ok (.irem, 1) := dk_112 (dk_at dksX4_cellAt_0 15 rfl rfl)
theorem dX4_cellAt_16 : decode cX4_cellAt 16 = .ok (.iaload, 1) := dk_46 (dk_at dksX4_cellAt_0 16 rfl rfl)
theorem dX4_cellAt_17 : decode cX4_cellAt 17 = .ok (.ireturn, 1) := dk_172 (dk_at dksX4_cellAt_0 17 rfl rfl)
abbrev cX4_jumps : ByteArray := prog_6_method_6_code
def yX4_jumps : MethodName := ⟨RX4, "jumps", "(I)V"⟩
def dkwX4_jumps_0 : List UInt8 := [42, 180, 0, 12, 4, 181, 0, 32, 42, 27, 181, 0, 22, 177]
abbrev dktX4_jumps_0 : List UInt8 := dkwX4_jumps_0 ++ []
theorem dksX4_jumps_0 : cX4_jumps.data.toList.drop 0 = dktX4_jumps_0 := by decide +kernel
theorem dX4_jumps_0 : decode cX4_jumps 0 = .ok (.aload_n 0, 1) := dk_42 (dk_at dksX4_jumps_0 0 rfl rfl)
theorem dX4_jumps_1 : decode cX4_jumps 1 = .ok (.getfield 12, 3) := dk_180 0 12 (dk_at dksX4_jumps_0 1 rfl rfl)
theorem dX4_jumps_4 : decode cX4_jumps 4 = .ok (.iconst 1, 1) := dk_4 (dk_at dksX4_jumps_0 4 rfl rfl)
theorem dX4_jumps_5 : decode cX4_jumps 5 = .ok (.putfield 32, 3) := dk_181 0 32 (dk_at dksX4_jumps_0 5 rfl rfl)
theorem dX4_jumps_8 : decode cX4_jumps 8 = .ok (.aload_n 0, 1) := dk_42 (dk_at dksX4_jumps_0 8 rfl rfl)
theorem dX4_jumps_9 : decode cX4_jumps 9 = .ok (.iload_n 1, 1) := dk_27 (dk_at dksX4_jumps_0 9 rfl rfl)
theorem dX4_jumps_10 : decode cX4_jumps 10 = .ok (.putfield 22, 3) := dk_181 0 22 (dk_at dksX4_jumps_0 10 rfl rfl)
theorem dX4_jumps_13 : decode cX4_jumps 13 = .ok (.return_, 1) := dk_177 (dk_at dksX4_jumps_0 13 rfl rfl)
abbrev cX4_goesOn : ByteArray := prog_6_method_5_code
def yX4_goesOn : MethodName := ⟨RX4, "goesOn", "()V"⟩
def dkwX4_goesOn_1 : List UInt8 := [184, 0, 49, 181, 0, 22, 177]
abbrev dktX4_goesOn_1 : List UInt8 := dkwX4_goesOn_1 ++ []
def dkwX4_goesOn_0 : List UInt8 := [42, 16, 12, 42, 180, 0, 22, 42, 180, 0, 12, 180, 0, 45, 153, 0, 7, 5, 167, 0, 4, 4, 96]
abbrev dktX4_goesOn_0 : List UInt8 := dkwX4_goesOn_0 ++ dktX4_goesOn_1
theorem dksX4_goesOn_0 : cX4_goesOn.data.toList.drop 0 = dktX4_goesOn_0 := by decide +kernel
theorem dksX4_goesOn_1 : cX4_goesOn.data.toList.drop 23 = dktX4_goesOn_1 := dk_seg dksX4_goesOn_0 23 rfl rfl
theorem dX4_goesOn_0 : decode cX4_goesOn 0 = .ok (.aload_n 0, 1) := dk_42 (dk_at dksX4_goesOn_0 0 rfl rfl)
theorem dX4_goesOn_1 : decode cX4_goesOn 1 = .ok (.bipush 12, 2) := dk_16 12 (dk_at dksX4_goesOn_0 1 rfl rfl)
theorem dX4_goesOn_3 : decode cX4_goesOn 3 = .ok (.aload_n 0, 1) := dk_42 (dk_at dksX4_goesOn_0 3 rfl rfl)
theorem dX4_goesOn_4 : decode cX4_goesOn 4 = .ok (.getfield 22, 3) := dk_180 0 22 (dk_at dksX4_goesOn_0 4 rfl rfl)
theorem dX4_goesOn_7 : decode cX4_goesOn 7 = .ok (.aload_n 0, 1) := dk_42 (dk_at dksX4_goesOn_0 7 rfl rfl)
theorem dX4_goesOn_8 : decode cX4_goesOn 8 = .ok (.getfield 12, 3) := dk_180 0 12 (dk_at dksX4_goesOn_0 8 rfl rfl)
theorem dX4_goesOn_11 : decode cX4_goesOn 11 = .ok (.getfield 45, 3) := dk_180 0 45 (dk_at dksX4_goesOn_0 11 rfl rfl)
theorem dX4_goesOn_14 : decode cX4_goesOn 14 = .ok (.ifCond .eq 7, 3) := dk_153 0 7 (dk_at dksX4_goesOn_0 14 rfl rfl)
theorem dX4_goesOn_17 : decode cX4_goesOn 17 = .ok (.iconst 2, 1) := dk_5 (dk_at dksX4_goesOn_0 17 rfl rfl)
theorem dX4_goesOn_18 : decode cX4_goesOn 18 = .ok (.goto 4, 3) := dk_167 0 4 (dk_at dksX4_goesOn_0 18 rfl rfl)
theorem dX4_goesOn_21 : decode cX4_goesOn 21 = .ok (.iconst 1, 1) := dk_4 (dk_at dksX4_goesOn_0 21 rfl rfl)
theorem dX4_goesOn_22 : decode cX4_goesOn 22 = .ok (.iadd, 1) := dk_96 (dk_at dksX4_goesOn_0 22 rfl rfl)
theorem dX4_goesOn_23 : decode cX4_goesOn 23 = .ok (.invokestatic 49, 3) := dk_184 0 49 (dk_at dksX4_goesOn_1 0 rfl rfl)
theorem dX4_goesOn_26 : decode cX4_goesOn 26 = .ok (.putfield 22, 3) := dk_181 0 22 (dk_at dksX4_goesOn_1 3 rfl rfl)
theorem dX4_goesOn_29 : decode cX4_goesOn 29 = .ok (.return_, 1) := dk_177 (dk_at dksX4_goesOn_1 6 rfl rfl)
abbrev cX4_ages : ByteArray := prog_6_method_7_code
def yX4_ages : MethodName := ⟨RX4, "ages", "(I)V"⟩
def dkwX4_ages_0 : List UInt8 := [42, 180, 0, 12, 42, 180, 0, 12, 180, 0, 38, 27, 96, 16, 8, 112, 181, 0, 38, 177]
abbrev dktX4_ages_0 : List UInt8 := dkwX4_ages_0 ++ []
theorem dksX4_ages_0 : cX4_ages.data.toList.drop 0 = dktX4_ages_0 := by decide +kernel
theorem dX4_ages_0 : decode cX4_ages 0 = .ok (.aload_n 0, 1) := dk_42 (dk_at dksX4_ages_0 0 rfl rfl)
theorem dX4_ages_1 : decode cX4_ages 1 = .ok (.getfield 12, 3) := dk_180 0 12 (dk_at dksX4_ages_0 1 rfl rfl)
theorem dX4_ages_4 : decode cX4_ages 4 = .ok (.aload_n 0, 1) := dk_42 (dk_at dksX4_ages_0 4 rfl rfl)
theorem dX4_ages_5 : decode cX4_ages 5 = .ok (.getfield 12, 3) := dk_180 0 12 (dk_at dksX4_ages_0 5 rfl rfl)
theorem dX4_ages_8 : decode cX4_ages 8 = .ok (.getfield 38, 3) := dk_180 0 38 (dk_at dksX4_ages_0 8 rfl rfl)
theorem dX4_ages_11 : decode cX4_ages 11 = .ok (.iload_n 1, 1) := dk_27 (dk_at dksX4_ages_0 11 rfl rfl)
theorem dX4_ages_12 : decode cX4_ages 12 = .ok (.iadd, 1) := dk_96 (dk_at dksX4_ages_0 12 rfl rfl)
theorem dX4_ages_13 : decode cX4_ages 13 = .ok (.bipush 8, 2) := dk_16 8 (dk_at dksX4_ages_0 13 rfl rfl)
theorem dX4_ages_15 : decode cX4_ages 15 = .ok (.irem, 1) := dk_112 (dk_at dksX4_ages_0 15 rfl rfl)
theorem dX4_ages_16 : decode cX4_ages 16 = .ok (.putfield 38, 3) := dk_181 0 38 (dk_at dksX4_ages_0 16 rfl rfl)
theorem dX4_ages_19 : decode cX4_ages 19 = .ok (.return_, 1) := dk_177 (dk_at dksX4_ages_0 19 rfl rfl)
theorem q155 : (Jvm.Cond.initialized "GuestView$Guest") ∈ lw_all := lw_g (lw_at lw_m1 4 rfl) rfl
theorem q236 : (Jvm.Cond.instantiable "GuestView$Guest" (3 : Nat)) ∈ lw_all := lw_g (lw_at lw_m1 85 rfl) rfl
theorem q238 : (Jvm.Cond.instanceMethod ({ cls := "GuestView$Guest", name := "<init>", desc := "()V" } : Jvm.MethodName)) ∈ lw_all := lw_g (lw_at lw_m1 87 rfl) rfl
theorem q239 : (Jvm.Cond.code ({ cls := "GuestView$Guest", name := "<init>", desc := "()V" } : Jvm.MethodName) prog_6_method_1_code (1 : Nat) (Option.none : Option Jvm.ClassFile.FieldType)) ∈ lw_all := lw_g (lw_at lw_m1 88 rfl) rfl
theorem q240 : (Jvm.Cond.methodLink "GuestView$Guest" (3 : Nat) ({ cls := "java/lang/Object", name := "<init>", desc := "()V" } : Jvm.MethodName)) ∈ lw_all := lw_g (lw_at lw_m1 89 rfl) rfl
theorem q241 : (Jvm.Cond.classLink "GuestView$Guest" (9 : Nat) "GuestView$Machine") ∈ lw_all := lw_g (lw_at lw_m1 90 rfl) rfl
theorem q243 : (Jvm.Cond.methodLinkNest "GuestView$Guest" (11 : Nat) ({ cls := "GuestView$Machine", name := "<init>", desc := "()V" } : Jvm.MethodName) "GuestView") ∈ lw_tbl := lw_at lw_m1 92 rfl
theorem q248 : (Jvm.Cond.fieldLinkNest "GuestView$Guest" (41 : Nat) "GuestView$Machine" "cells" "[I" "GuestView") ∈ lw_tbl := lw_at lw_m1 97 rfl
theorem q251 : (Jvm.Cond.fieldLinkNest "GuestView$Guest" (29 : Nat) "GuestView$Machine" "\x72" "I" "GuestView") ∈ lw_tbl := lw_at lw_m1 100 rfl
theorem q254 : (Jvm.Cond.fieldLinkNest "GuestView$Guest" (32 : Nat) "GuestView$Machine" "mode" "I" "GuestView") ∈ lw_tbl := lw_at lw_m1 103 rfl
theorem q258 : (Jvm.Cond.fieldLinkNest "GuestView$Guest" (35 : Nat) "GuestView$Machine" "base" "I" "GuestView") ∈ lw_tbl := lw_at lw_m1 107 rfl
theorem q262 : (Jvm.Cond.fieldLinkNest "GuestView$Guest" (38 : Nat) "GuestView$Machine" "clock" "I" "GuestView") ∈ lw_tbl := lw_at lw_m1 111 rfl
theorem q266 : (Jvm.Cond.fieldLinkNest "GuestView$Guest" (45 : Nat) "GuestView$Machine" "skips" "Z" "GuestView") ∈ lw_tbl := lw_at lw_m1 115 rfl
theorem q286 : (Jvm.Cond.fieldLink "GuestView$Guest" (12 : Nat) "GuestView$Guest" "machine" "LGuestView$Machine;") ∈ lw_all := lw_g (lw_at lw_m1 135 rfl) rfl
theorem q289 : (Jvm.Cond.fieldLink "GuestView$Guest" (22 : Nat) "GuestView$Guest" "pc" "I") ∈ lw_all := lw_g (lw_at lw_m1 138 rfl) rfl
theorem q292 : (Jvm.Cond.fieldLink "GuestView$Guest" (26 : Nat) "GuestView$Guest" "shift" "I") ∈ lw_all := lw_g (lw_at lw_m1 141 rfl) rfl
theorem q294 : (Jvm.Cond.laysFinal "GuestView$Guest" "GuestView$Guest" "machine" "LGuestView$Machine;") ∈ lw_all := lw_g (lw_at lw_m1 143 rfl) rfl
theorem q295 : (Jvm.Cond.soleField "GuestView$Guest" "machine") ∈ lw_all := lw_g (lw_at lw_m1 144 rfl) rfl
theorem q296 : (Jvm.Cond.lays "GuestView$Guest" "GuestView$Guest" "pc" "I") ∈ lw_all := lw_g (lw_at lw_m1 145 rfl) rfl
theorem q297 : (Jvm.Cond.soleField "GuestView$Guest" "pc") ∈ lw_all := lw_g (lw_at lw_m1 146 rfl) rfl
theorem q298 : (Jvm.Cond.lays "GuestView$Guest" "GuestView$Guest" "shift" "I") ∈ lw_all := lw_g (lw_at lw_m1 147 rfl) rfl
theorem q299 : (Jvm.Cond.soleField "GuestView$Guest" "shift") ∈ lw_all := lw_g (lw_at lw_m1 148 rfl) rfl
theorem q300 : (Jvm.Cond.superclass "GuestView$Guest" "java/lang/Object") ∈ lw_all := lw_g (lw_at lw_m1 149 rfl) rfl
theorem q549 : (Jvm.Cond.instanceMethod ({ cls := "GuestView$Guest", name := "boots", desc := "([II)V" } : Jvm.MethodName)) ∈ lw_all := lw_g (lw_at lw_m2 158 rfl) rfl
theorem q550 : (Jvm.Cond.selects "GuestView$Guest" ({ cls := "GuestView$Guest", name := "boots", desc := "([II)V" } : Jvm.MethodName) ({ cls := "GuestView$Guest", name := "boots", desc := "([II)V" } : Jvm.MethodName)) ∈ lw_all := lw_g (lw_at lw_m2 159 rfl) rfl
theorem q551 : (Jvm.Cond.code ({ cls := "GuestView$Guest", name := "boots", desc := "([II)V" } : Jvm.MethodName) prog_6_method_3_code (4 : Nat) (Option.none : Option Jvm.ClassFile.FieldType)) ∈ lw_all := lw_g (lw_at lw_m2 160 rfl) rfl
theorem q648 : (Jvm.Cond.instanceMethod ({ cls := "GuestView$Guest", name := "be", desc := "(LGuestView$Guest;)V" } : Jvm.MethodName)) ∈ lw_all := lw_g (lw_at lw_m3 17 rfl) rfl
theorem q649 : (Jvm.Cond.selects "GuestView$Guest" ({ cls := "GuestView$Guest", name := "be", desc := "(LGuestView$Guest;)V" } : Jvm.MethodName) ({ cls := "GuestView$Guest", name := "be", desc := "(LGuestView$Guest;)V" } : Jvm.MethodName)) ∈ lw_all := lw_g (lw_at lw_m3 18 rfl) rfl
theorem q650 : (Jvm.Cond.code ({ cls := "GuestView$Guest", name := "be", desc := "(LGuestView$Guest;)V" } : Jvm.MethodName) prog_6_method_2_code (2 : Nat) (Option.none : Option Jvm.ClassFile.FieldType)) ∈ lw_all := lw_g (lw_at lw_m3 19 rfl) rfl
theorem q651 : (Jvm.Cond.methodLink "GuestView$Guest" (18 : Nat) ({ cls := "GuestView$Machine", name := "be", desc := "(LGuestView$Machine;)V" } : Jvm.MethodName)) ∈ lw_all := lw_g (lw_at lw_m3 20 rfl) rfl
theorem q684 : (Jvm.Cond.instanceMethod ({ cls := "GuestView$Guest", name := "isLike", desc := "(LGuestView$Guest;)Z" } : Jvm.MethodName)) ∈ lw_all := lw_g (lw_at lw_m3 53 rfl) rfl
theorem q685 : (Jvm.Cond.selects "GuestView$Guest" ({ cls := "GuestView$Guest", name := "isLike", desc := "(LGuestView$Guest;)Z" } : Jvm.MethodName) ({ cls := "GuestView$Guest", name := "isLike", desc := "(LGuestView$Guest;)Z" } : Jvm.MethodName)) ∈ lw_all := lw_g (lw_at lw_m3 54 rfl) rfl
theorem q686 : (Jvm.Cond.code ({ cls := "GuestView$Guest", name := "isLike", desc := "(LGuestView$Guest;)Z" } : Jvm.MethodName) prog_6_method_8_code (4 : Nat) (Option.some Jvm.ClassFile.FieldType.boolean)) ∈ lw_all := lw_g (lw_at lw_m3 55 rfl) rfl
theorem q687 : (Jvm.Cond.methodLink "GuestView$Guest" (55 : Nat) ({ cls := "GuestView$Guest", name := "cellAt", desc := "(I)I" } : Jvm.MethodName)) ∈ lw_all := lw_g (lw_at lw_m3 56 rfl) rfl
theorem q688 : (Jvm.Cond.instanceMethod ({ cls := "GuestView$Guest", name := "cellAt", desc := "(I)I" } : Jvm.MethodName)) ∈ lw_all := lw_g (lw_at lw_m3 57 rfl) rfl
theorem q689 : (Jvm.Cond.selects "GuestView$Guest" ({ cls := "GuestView$Guest", name := "cellAt", desc := "(I)I" } : Jvm.MethodName) ({ cls := "GuestView$Guest", name := "cellAt", desc := "(I)I" } : Jvm.MethodName)) ∈ lw_all := lw_g (lw_at lw_m3 58 rfl) rfl
theorem q690 : (Jvm.Cond.code ({ cls := "GuestView$Guest", name := "cellAt", desc := "(I)I" } : Jvm.MethodName) prog_6_method_4_code (2 : Nat) (Option.some Jvm.ClassFile.FieldType.int)) ∈ lw_all := lw_g (lw_at lw_m3 59 rfl) rfl
theorem q712 : (Jvm.Cond.instanceMethod ({ cls := "GuestView$Guest", name := "jumps", desc := "(I)V" } : Jvm.MethodName)) ∈ lw_all := lw_g (lw_at lw_m3 81 rfl) rfl
theorem q713 : (Jvm.Cond.selects "GuestView$Guest" ({ cls := "GuestView$Guest", name := "jumps", desc := "(I)V" } : Jvm.MethodName) ({ cls := "GuestView$Guest", name := "jumps", desc := "(I)V" } : Jvm.MethodName)) ∈ lw_all := lw_g (lw_at lw_m3 82 rfl) rfl
theorem q714 : (Jvm.Cond.code ({ cls := "GuestView$Guest", name := "jumps", desc := "(I)V" } : Jvm.MethodName) prog_6_method_6_code (2 : Nat) (Option.none : Option Jvm.ClassFile.FieldType)) ∈ lw_all := lw_g (lw_at lw_m3 83 rfl) rfl
theorem q728 : (Jvm.Cond.instanceMethod ({ cls := "GuestView$Guest", name := "goesOn", desc := "()V" } : Jvm.MethodName)) ∈ lw_all := lw_g (lw_at lw_m3 97 rfl) rfl
theorem q729 : (Jvm.Cond.selects "GuestView$Guest" ({ cls := "GuestView$Guest", name := "goesOn", desc := "()V" } : Jvm.MethodName) ({ cls := "GuestView$Guest", name := "goesOn", desc := "()V" } : Jvm.MethodName)) ∈ lw_all := lw_g (lw_at lw_m3 98 rfl) rfl
theorem q730 : (Jvm.Cond.code ({ cls := "GuestView$Guest", name := "goesOn", desc := "()V" } : Jvm.MethodName) prog_6_method_5_code (1 : Nat) (Option.none : Option Jvm.ClassFile.FieldType)) ∈ lw_all := lw_g (lw_at lw_m3 99 rfl) rfl
theorem q731 : (Jvm.Cond.methodLink "GuestView$Guest" (49 : Nat) ({ cls := "java/lang/Math", name := "min", desc := "(II)I" } : Jvm.MethodName)) ∈ lw_all := lw_g (lw_at lw_m3 100 rfl) rfl
theorem q733 : (Jvm.Cond.instanceMethod ({ cls := "GuestView$Guest", name := "ages", desc := "(I)V" } : Jvm.MethodName)) ∈ lw_all := lw_g (lw_at lw_m3 102 rfl) rfl
theorem q734 : (Jvm.Cond.selects "GuestView$Guest" ({ cls := "GuestView$Guest", name := "ages", desc := "(I)V" } : Jvm.MethodName) ({ cls := "GuestView$Guest", name := "ages", desc := "(I)V" } : Jvm.MethodName)) ∈ lw_all := lw_g (lw_at lw_m3 103 rfl) rfl
theorem q735 : (Jvm.Cond.code ({ cls := "GuestView$Guest", name := "ages", desc := "(I)V" } : Jvm.MethodName) prog_6_method_7_code (2 : Nat) (Option.none : Option Jvm.ClassFile.FieldType)) ∈ lw_all := lw_g (lw_at lw_m3 104 rfl) rfl
theorem q2442 : (Jvm.Cond.castable "GuestView$Guest" "java/lang/Object") ∈ lw_tbl := lw_at lw_m10 131 rfl
theorem in_X4 : ∀ w ∈ wsX40, w ∈ lw_all := lw_in wsX40 [294, 296, 298] (by decide +kernel) (by decide +kernel)
/-! GuestView$Machine -/
set_option maxRecDepth 100000
def RX5 : String := "GuestView$Machine"
def TX5 : u_T := fun k => match k with
  | 0 => ("GuestView$Machine", "cells", "[I", true)
  | 1 => ("GuestView$Machine", "\x72", "I", false)
  | 2 => ("GuestView$Machine", "mode", "I", false)
  | 3 => ("GuestView$Machine", "base", "I", false)
  | 4 => ("GuestView$Machine", "clock", "I", false)
  | 5 => ("GuestView$Machine", "offset", "I", false)
  | _ => ("GuestView$Machine", "skips", "Z", false)
def tyX5 : Nat → FieldType := fun k => match k with
  | 0 => .array .int
  | 1 => .int
  | 2 => .int
  | 3 => .int
  | 4 => .int
  | 5 => .int
  | _ => .boolean
abbrev wsX50 : List Cond := u_ws RX5 TX5 7
theorem nmX5 : ∀ a, a < 7 → ∀ b, b < 7 → a ≠ b → (TX5 a).2.1 ≠ (TX5 b).2.1 := by decide +kernel
theorem tyX5_ok : ∀ k, k < 7 → parseFieldDescriptor (TX5 k).2.2.1 = some (tyX5 k) := by decide +kernel
abbrev cX5_init : ByteArray := prog_9_method_1_code
def yX5_init : MethodName := ⟨RX5, "<init>", "()V"⟩
def dkwX5_init_0 : List UInt8 := [42, 183, 0, 3, 42, 16, 8, 188, 10, 181, 0, 9, 42, 4, 181, 0, 15, 177]
abbrev dktX5_init_0 : List UInt8 := dkwX5_init_0 ++ []
theorem dksX5_init_0 : cX5_init.data.toList.drop 0 = dktX5_init_0 := by decide +kernel
theorem dX5_init_0 : decode cX5_init 0 = .ok (.aload_n 0, 1) := dk_42 (dk_at dksX5_init_0 0 rfl rfl)
theorem dX5_init_1 : decode cX5_init 1 = .ok (.invokespecial 3, 3) := dk_183 0 3 (dk_at dksX5_init_0 1 rfl rfl)
theorem dX5_init_4 : decode cX5_init 4 = .ok (.aload_n 0, 1) := dk_42 (dk_at dksX5_init_0 4 rfl rfl)
theorem dX5_init_5 : decode cX5_init 5 = .ok (.bipush 8, 2) := dk_16 8 (dk_at dksX5_init_0 5 rfl rfl)
theorem dX5_init_7 : decode cX5_init 7 = .ok (.newarray .int, 2) := dk_188_10 (dk_at dksX5_init_0 7 rfl rfl)
theorem dX5_init_9 : decode cX5_init 9 = .ok (.putfield 9, 3) := dk_181 0 9 (dk_at dksX5_init_0 9 rfl rfl)
theorem dX5_init_12 : decode cX5_init 12 = .ok (.aload_n 0, 1) := dk_42 (dk_at dksX5_init_0 12 rfl rfl)
theorem dX5_init_13 : decode cX5_init 13 = .ok (.iconst 1, 1) := dk_4 (dk_at dksX5_init_0 13 rfl rfl)
theorem dX5_init_14 : decode cX5_init 14 = .ok (.putfield 15, 3) := dk_181 0 15 (dk_at dksX5_init_0 14 rfl rfl)
theorem dX5_init_17 : decode cX5_init 17 = .ok (.return_, 1) := dk_177 (dk_at dksX5_init_0 17 rfl rfl)
abbrev cX5_be : ByteArray := prog_9_method_2_code
def yX5_be : MethodName := ⟨RX5, "be", "(LGuestView$Machine;)V"⟩
def dkwX5_be_1 : List UInt8 := [43, 180, 0, 15, 181, 0, 15, 42, 43, 180, 0, 28, 181, 0, 28, 42, 43, 180, 0, 31, 181, 0, 31, 177]
abbrev dktX5_be_1 : List UInt8 := dkwX5_be_1 ++ []
def dkwX5_be_0 : List UInt8 := [43, 180, 0, 9, 3, 42, 180, 0, 9, 3, 16, 8, 184, 0, 19, 42, 43, 180, 0, 25, 181, 0, 25, 42]
abbrev dktX5_be_0 : List UInt8 := dkwX5_be_0 ++ dktX5_be_1
theorem dksX5_be_0 : cX5_be.data.toList.drop 0 = dktX5_be_0 := by decide +kernel
theorem dksX5_be_1 : cX5_be.data.toList.drop 24 = dktX5_be_1 := dk_seg dksX5_be_0 24 rfl rfl
theorem dX5_be_0 : decode cX5_be 0 = .ok (.aload_n 1, 1) := dk_43 (dk_at dksX5_be_0 0 rfl rfl)
theorem dX5_be_1 : decode cX5_be 1 = .ok (.getfield 9, 3) := dk_180 0 9 (dk_at dksX5_be_0 1 rfl rfl)
theorem dX5_be_4 : decode cX5_be 4 = .ok (.iconst 0, 1) := dk_3 (dk_at dksX5_be_0 4 rfl rfl)
theorem dX5_be_5 : decode cX5_be 5 = .ok (.aload_n 0, 1) := dk_42 (dk_at dksX5_be_0 5 rfl rfl)
theorem dX5_be_6 : decode cX5_be 6 = .ok (.getfield 9, 3) := dk_180 0 9 (dk_at dksX5_be_0 6 rfl rfl)
theorem dX5_be_9 : decode cX5_be 9 = .ok (.iconst 0, 1) := dk_3 (dk_at dksX5_be_0 9 rfl rfl)
theorem dX5_be_10 : decode cX5_be 10 = .ok (.bipush 8, 2) := dk_16 8 (dk_at dksX5_be_0 10 rfl rfl)
theorem dX5_be_12 : decode cX5_be 12 = .ok (.invokestatic 19, 3) := dk_184 0 19 (dk_at dksX5_be_0 12 rfl rfl)
theorem dX5_be_15 : decode cX5_be 15 = .ok (.aload_n 0, 1) := dk_42 (dk_at dksX5_be_0 15 rfl rfl)
theorem dX5_be_16 : decode cX5_be 16 = .ok (.aload_n 1, 1) := dk_43 (dk_at dksX5_be_0 16 rfl rfl)
theorem dX5_be_17 : decode cX5_be 17 = .ok (.getfield 25, 3) := dk_180 0 25 (dk_at dksX5_be_0 17 rfl rfl)
theorem dX5_be_20 : decode cX5_be 20 = .ok (.putfield 25, 3) := dk_181 0 25 (dk_at dksX5_be_0 20 rfl rfl)
theorem dX5_be_23 : decode cX5_be 23 = .ok (.aload_n 0, 1) := dk_42 (dk_at dksX5_be_0 23 rfl rfl)
theorem dX5_be_24 : decode cX5_be 24 = .ok (.aload_n 1, 1) := dk_43 (dk_at dksX5_be_1 0 rfl rfl)
theorem dX5_be_25 : decode cX5_be 25 = .ok (.getfield 15, 3) := dk_180 0 15 (dk_at dksX5_be_1 1 rfl rfl)
theorem dX5_be_28 : decode cX5_be 28 = .ok (.putfield 15, 3) := dk_181 0 15 (dk_at dksX5_be_1 4 rfl rfl)
theorem dX5_be_31 : decode cX5_be 31 = .ok (.aload_n 0, 1) := dk_42 (dk_at dksX5_be_1 7 rfl rfl)
theorem dX5_be_32 : decode cX5_be 32 = .ok (.aload_n 1, 1) := dk_43 (dk_at dksX5_be_1 8 rfl rfl)
theorem dX5_be_33 : decode cX5_be 33 = .ok (.getfield 28, 3) := dk_180 0 28 (dk_at dksX5_be_1 9 rfl rfl)
theorem dX5_be_36 : decode cX5_be 36 = .ok (.putfield 28, 3) := dk_181 0 28 (dk_at dksX5_be_1 12 rfl rfl)
theorem dX5_be_39 : decode cX5_be 39 = .ok (.aload_n 0, 1) := dk_42 (dk_at dksX5_be_1 15 rfl rfl)
theorem dX5_be_40 : decode cX5_be 40 = .ok (.aload_n 1, 1) := dk_43 (dk_at dksX5_be_1 16 rfl rfl)
theorem dX5_be_41 : decode cX5_be 41 = .ok (.getfield 31, 3) := dk_180 0 31 (dk_at dksX5_be_1 17 rfl rfl)
theorem dX5_be_44 : decode cX5_be 44 = .ok (.putfield 31, 3) := dk_181 0 31 (dk_at dksX5_be_1 20 rfl rfl)
theorem dX5_be_47 : decode cX5_be 47 = .ok (.return_, 1) := dk_177 (dk_at dksX5_be_1 23 rfl rfl)
abbrev cX5_isTrapped : ByteArray := prog_9_method_8_code
def yX5_isTrapped : MethodName := ⟨RX5, "isTrapped", "(LGuestView$Op;)Z"⟩
def dkwX5_isTrapped_0 : List UInt8 := [43, 180, 0, 63, 153, 0, 14, 42, 180, 0, 15, 154, 0, 7, 4, 167, 0, 4, 3, 172]
abbrev dktX5_isTrapped_0 : List UInt8 := dkwX5_isTrapped_0 ++ []
theorem dksX5_isTrapped_0 : cX5_isTrapped.data.toList.drop 0 = dktX5_isTrapped_0 := by decide +kernel
theorem dX5_isTrapped_0 : decode cX5_isTrapped 0 = .ok (.aload_n 1, 1) := dk_43 (dk_at dksX5_isTrapped_0 0 rfl rfl)
theorem dX5_isTrapped_1 : decode cX5_isTrapped 1 = .ok (.getfield 63, 3) := dk_180 0 63 (dk_at dksX5_isTrapped_0 1 rfl rfl)
theorem dX5_isTrapped_4 : decode cX5_isTrapped 4 = .ok (.ifCond .eq 14, 3) := dk_153 0 14 (dk_at dksX5_isTrapped_0 4 rfl rfl)
theorem dX5_isTrapped_7 : decode cX5_isTrapped 7 = .ok (.aload_n 0, 1) := dk_42 (dk_at dksX5_isTrapped_0 7 rfl rfl)
theorem dX5_isTrapped_8 : decode cX5_isTrapped 8 = .ok (.getfield 15, 3) := dk_180 0 15 (dk_at dksX5_isTrapped_0 8 rfl rfl)
theorem dX5_isTrapped_11 : decode cX5_isTrapped 11 = .ok (.ifCond .ne 7, 3) := dk_154 0 7 (dk_at dksX5_isTrapped_0 11 rfl rfl)
theorem dX5_isTrapped_14 : decode cX5_isTrapped 14 = .ok (.iconst 1, 1) := dk_4 (dk_at dksX5_isTrapped_0 14 rfl rfl)
theorem dX5_isTrapped_15 : decode cX5_isTrapped 15 = .ok (.goto 4, 3) := dk_167 0 4 (dk_at dksX5_isTrapped_0 15 rfl rfl)
theorem dX5_isTrapped_18 : decode cX5_isTrapped 18 = .ok (.iconst 0, 1) := dk_3 (dk_at dksX5_isTrapped_0 18 rfl rfl)
theorem dX5_isTrapped_19 : decode cX5_isTrapped 19 = .ok (.ireturn, 1) := dk_172 (dk_at dksX5_isTrapped_0 19 rfl rfl)
abbrev cX5_does : ByteArray := prog_9_method_7_code
def yX5_does : MethodName := ⟨RX5, "does", "(LGuestView$Op;)V"⟩
def dkwX5_does_1 : List UInt8 := [180, 0, 53, 29, 46, 43, 180, 0, 56, 29, 46, 182, 0, 59, 61, 132, 3, 1, 167, 255, 224, 177]
abbrev dktX5_does_1 : List UInt8 := dkwX5_does_1 ++ []
def dkwX5_does_0 : List UInt8 := [42, 3, 181, 0, 44, 4, 61, 3, 62, 29, 43, 180, 0, 48, 162, 0, 30, 28, 153, 0, 26, 42, 43]
abbrev dktX5_does_0 : List UInt8 := dkwX5_does_0 ++ dktX5_does_1
theorem dksX5_does_0 : cX5_does.data.toList.drop 0 = dktX5_does_0 := by decide +kernel
theorem dksX5_does_1 : cX5_does.data.toList.drop 23 = dktX5_does_1 := dk_seg dksX5_does_0 23 rfl rfl
theorem dX5_does_0 : decode cX5_does 0 = .ok (.aload_n 0, 1) := dk_42 (dk_at dksX5_does_0 0 rfl rfl)
theorem dX5_does_1 : decode cX5_does 1 = .ok (.iconst 0, 1) := dk_3 (dk_at dksX5_does_0 1 rfl rfl)
theorem dX5_does_2 : decode cX5_does 2 = .ok (.putfield 44, 3) := dk_181 0 44 (dk_at dksX5_does_0 2 rfl rfl)
theorem dX5_does_5 : decode cX5_does 5 = .ok (.iconst 1, 1) := dk_4 (dk_at dksX5_does_0 5 rfl rfl)
theorem dX5_does_6 : decode cX5_does 6 = .ok (.istore_n 2, 1) := dk_61 (dk_at dksX5_does_0 6 rfl rfl)
theorem dX5_does_7 : decode cX5_does 7 = .ok (.iconst 0, 1) := dk_3 (dk_at dksX5_does_0 7 rfl rfl)
theorem dX5_does_8 : decode cX5_does 8 = .ok (.istore_n 3, 1) := dk_62 (dk_at dksX5_does_0 8 rfl rfl)
theorem dX5_does_9 : decode cX5_does 9 = .ok (.iload_n 3, 1) := dk_29 (dk_at dksX5_does_0 9 rfl rfl)
theorem dX5_does_10 : decode cX5_does 10 = .ok (.aload_n 1, 1) := dk_43 (dk_at dksX5_does_0 10 rfl rfl)
theorem dX5_does_11 : decode cX5_does 11 = .ok (.getfield 48, 3) := dk_180 0 48 (dk_at dksX5_does_0 11 rfl rfl)
theorem dX5_does_14 : decode cX5_does 14 = .ok (.if_icmp .ge 30, 3) := dk_162 0 30 (dk_at dksX5_does_0 14 rfl rfl)
theorem dX5_does_17 : decode cX5_does 17 = .ok (.iload_n 2, 1) := dk_28 (dk_at dksX5_does_0 17 rfl rfl)
theorem dX5_does_18 : decode cX5_does 18 = .ok (.ifCond .eq 26, 3) := dk_153 0 26 (dk_at dksX5_does_0 18 rfl rfl)
theorem dX5_does_21 : decode cX5_does 21 = .ok (.aload_n 0, 1) := dk_42 (dk_at dksX5_does_0 21 rfl rfl)
theorem dX5_does_22 : decode cX5_does 22 = .ok (.aload_n 1, 1) := dk_43 (dk_at dksX5_does_0 22 rfl rfl)
theorem dX5_does_23 : decode cX5_does 23 = .ok (.getfield 53, 3) := dk_180 0 53 (dk_at dksX5_does_1 0 rfl rfl)
theorem dX5_does_26 : decode cX5_does 26 = .ok (.iload_n 3, 1) := dk_29 (dk_at dksX5_does_1 3 rfl rfl)
theorem dX5_does_27 : decode cX5_does 27 = .ok (.iaload, 1) := dk_46 (dk_at dksX5_does_1 4 rfl rfl)
theorem dX5_does_28 : decode cX5_does 28 = .ok (.aload_n 1, 1) := dk_43 (dk_at dksX5_does_1 5 rfl rfl)
theorem dX5_does_29 : decode cX5_does 29 = .ok (.getfield 56, 3) := dk_180 0 56 (dk_at dksX5_does_1 6 rfl rfl)
theorem dX5_does_32 : decode cX5_does 32 = .ok (.iload_n 3, 1) := dk_29 (dk_at dksX5_does_1 9 rfl rfl)
theorem dX5_does_33 : decode cX5_does 33 = .ok (.iaload, 1) := dk_46 (dk_at dksX5_does_1 10 rfl rfl)
theorem dX5_does_34 : decode cX5_does 34 = .ok (.invokevirtual 59, 3) := dk_182 0 59 (dk_at dksX5_does_1 11 rfl rfl)
theorem dX5_does_37 : decode cX5_does 37 = .ok (.istore_n 2, 1) := dk_61 (dk_at dksX5_does_1 14 rfl rfl)
theorem dX5_does_38 : decode cX5_does 38 = .ok (.iinc 3 1, 3) := dk_132 3 1 (dk_at dksX5_does_1 15 rfl rfl)
theorem dX5_does_41 : decode cX5_does 41 = .ok (.goto (-32), 3) := dk_167 255 224 (dk_at dksX5_does_1 18 rfl rfl)
theorem dX5_does_44 : decode cX5_does 44 = .ok (.return_, 1) := dk_177 (dk_at dksX5_does_1 21 rfl rfl)
abbrev cX5_goes : ByteArray := prog_9_method_6_code
def yX5_goes : MethodName := ⟨RX5, "goes", "(II)Z"⟩
def dkwX5_goes_8 : List UInt8 := [167, 0, 17, 42, 180, 0, 15, 4, 160, 0, 7, 4, 167, 0, 4, 3, 172, 4, 172]
abbrev dktX5_goes_8 : List UInt8 := dkwX5_goes_8 ++ []
def dkwX5_goes_7 : List UInt8 := [89, 180, 0, 44, 42, 180, 0, 25, 28, 7, 112, 160, 0, 7, 4, 167, 0, 4, 3, 128, 181, 0, 44]
abbrev dktX5_goes_7 : List UInt8 := dkwX5_goes_7 ++ dktX5_goes_8
def dkwX5_goes_6 : List UInt8 := [42, 180, 0, 15, 181, 0, 25, 167, 0, 57, 42, 42, 180, 0, 31, 7, 112, 181, 0, 25, 167, 0, 44, 42]
abbrev dktX5_goes_6 : List UInt8 := dkwX5_goes_6 ++ dktX5_goes_7
def dkwX5_goes_5 : List UInt8 := [180, 0, 25, 104, 181, 0, 28, 167, 0, 81, 42, 42, 180, 0, 28, 5, 108, 181, 0, 25, 167, 0, 68, 42]
abbrev dktX5_goes_5 : List UInt8 := dkwX5_goes_5 ++ dktX5_goes_6
def dkwX5_goes_4 : List UInt8 := [167, 0, 110, 42, 4, 181, 0, 15, 167, 0, 102, 42, 3, 181, 0, 15, 167, 0, 94, 42, 5, 42]
abbrev dktX5_goes_4 : List UInt8 := dkwX5_goes_4 ++ dktX5_goes_5
def dkwX5_goes_3 : List UInt8 := [182, 0, 40, 46, 181, 0, 25, 167, 0, 127, 42, 180, 0, 9, 42, 28, 182, 0, 40, 42, 180, 0, 25, 79]
abbrev dktX5_goes_3 : List UInt8 := dkwX5_goes_3 ++ dktX5_goes_4
def dkwX5_goes_2 : List UInt8 := [42, 42, 180, 0, 25, 28, 96, 7, 112, 181, 0, 25, 167, 0, 144, 42, 42, 180, 0, 9, 42, 28]
abbrev dktX5_goes_2 : List UInt8 := dkwX5_goes_2 ++ dktX5_goes_3
def dkwX5_goes_1 : List UInt8 := [170, 0, 0, 0, 0, 0, 197, 0, 0, 0, 0, 0, 0, 0, 9, 0, 0, 0, 55, 0, 0, 0, 70, 0, 0, 0, 87, 0, 0, 0, 104, 0, 0, 0, 112, 0, 0, 0, 120, 0, 0, 0, 133, 0, 0, 0, 146, 0, 0, 0, 157, 0, 0, 0, 170]
abbrev dktX5_goes_1 : List UInt8 := dkwX5_goes_1 ++ dktX5_goes_2
def dkwX5_goes_0 : List UInt8 := [27]
abbrev dktX5_goes_0 : List UInt8 := dkwX5_goes_0 ++ dktX5_goes_1
theorem dksX5_goes_0 : cX5_goes.data.toList.drop 0 = dktX5_goes_0 := by decide +kernel
theorem dksX5_goes_1 : cX5_goes.data.toList.drop 1 = dktX5_goes_1 := dk_seg dksX5_goes_0 1 rfl rfl
theorem dksX5_goes_2 : cX5_goes.data.toList.drop 56 = dktX5_goes_2 := dk_seg dksX5_goes_1 55 rfl rfl
theorem dksX5_goes_3 : cX5_goes.data.toList.drop 78 = dktX5_goes_3 := dk_seg dksX5_goes_2 22 rfl rfl
theorem dksX5_goes_4 : cX5_goes.data.toList.drop 102 = dktX5_goes_4 := dk_seg dksX5_goes_3 24 rfl rfl
theorem dksX5_goes_5 : cX5_goes.data.toList.drop 124 = dktX5_goes_5 := dk_seg dksX5_goes_4 22 rfl rfl
theorem dksX5_goes_6 : cX5_goes.data.toList.drop 148 = dktX5_goes_6 := dk_seg dksX5_goes_5 24 rfl rfl
theorem dksX5_goes_7 : cX5_goes.data.toList.drop 172 = dktX5_goes_7 := dk_seg dksX5_goes_6 24 rfl rfl
theorem dksX5_goes_8 : cX5_goes.data.toList.drop 195 = dktX5_goes_8 := dk_seg dksX5_goes_7 23 rfl rfl
theorem dX5_goes_0 : decode cX5_goes 0 = .ok (.iload_n 1, 1) := dk_27 (dk_at dksX5_goes_0 0 rfl rfl)
theorem dX5_goes_1 : decode cX5_goes 1 = .ok (.tableswitch 197 0 9 #[55, 70, 87, 104, 112, 120, 133, 146, 157, 170], 55) := by decide +kernel
theorem dX5_goes_56 : decode cX5_goes 56 = .ok (.aload_n 0, 1) := dk_42 (dk_at dksX5_goes_2 0 rfl rfl)
theorem dX5_goes_57 : decode cX5_goes 57 = .ok (.aload_n 0, 1) := dk_42 (dk_at dksX5_goes_2 1 rfl rfl)
theorem dX5_goes_58 : decode cX5_goes 58 = .ok (.getfield 25, 3) := dk_180 0 25 (dk_at dksX5_goes_2 2 rfl rfl)
theorem dX5_goes_61 : decode cX5_goes 61 = .ok (.iload_n 2, 1) := dk_28 (dk_at dksX5_goes_2 5 rfl rfl)
theorem dX5_goes_62 : decode cX5_goes 62 = .ok (.iadd, 1) := dk_96 (dk_at dksX5_goes_2 6 rfl rfl)
theorem dX5_goes_63 : decode cX5_goes 63 = .ok (.iconst 4, 1) := dk_7 (dk_at dksX5_goes_2 7 rfl rfl)
theorem dX5_goes_64 : decode cX5_goes 64 = .ok (.irem, 1) := dk_112 (dk_at dksX5_goes_2 8 rfl rfl)
theorem dX5_goes_65 : decode cX5_goes 65 = .ok (.putfield 25, 3) := dk_181 0 25 (dk_at dksX5_goes_2 9 rfl rfl)
theorem dX5_goes_68 : decode cX5_goes 68 = .ok (.goto 144, 3) := dk_167 0 144 (dk_at dksX5_goes_2 12 rfl rfl)
theorem dX5_goes_71 : decode cX5_goes 71 = .ok (.aload_n 0, 1) := dk_42 (dk_at dksX5_goes_2 15 rfl rfl)
theorem dX5_goes_72 : decode cX5_goes 72 = .ok (.aload_n 0, 1) := dk_42 (dk_at dksX5_goes_2 16 rfl rfl)
theorem dX5_goes_73 : decode cX5_goes 73 = .ok (.getfield 9, 3) := dk_180 0 9 (dk_at dksX5_goes_2 17 rfl rfl)
theorem dX5_goes_76 : decode cX5_goes 76 = .ok (.aload_n 0, 1) := dk_42 (dk_at dksX5_goes_2 20 rfl rfl)
theorem dX5_goes_77 : decode cX5_goes 77 = .ok (.iload_n 2, 1) := dk_28 (dk_at dksX5_goes_2 21 rfl rfl)
theorem dX5_goes_78 : decode cX5_goes 78 = .ok (.invokevirtual 40, 3) := dk_182 0 40 (dk_at dksX5_goes_3 0 rfl rfl)
theorem dX5_goes_81 : decode cX5_goes 81 = .ok (.iaload, 1) := dk_46 (dk_at dksX5_goes_3 3 rfl rfl)
theorem dX5_goes_82 : decode cX5_goes 82 = .ok (.putfield 25, 3) := dk_181 0 25 (dk_at dksX5_goes_3 4 rfl rfl)
theorem dX5_goes_85 : decode cX5_goes 85 = .ok (.goto 127, 3) := dk_167 0 127 (dk_at dksX5_goes_3 7 rfl rfl)
theorem dX5_goes_88 : decode cX5_goes 88 = .ok (.aload_n 0, 1) := dk_42 (dk_at dksX5_goes_3 10 rfl rfl)
theorem dX5_goes_89 : decode cX5_goes 89 = .ok (.getfield 9, 3) := dk_180 0 9 (dk_at dksX5_goes_3 11 rfl rfl)
theorem dX5_goes_92 : decode cX5_goes 92 = .ok (.aload_n 0, 1) := dk_42 (dk_at dksX5_goes_3 14 rfl rfl)
theorem dX5_goes_93 : decode cX5_goes 93 = .ok (.iload_n 2, 1) := dk_28 (dk_at dksX5_goes_3 15 rfl rfl)
theorem dX5_goes_94 : decode cX5_goes 94 = .ok (.invokevirtual 40, 3) := dk_182 0 40 (dk_at dksX5_goes_3 16 rfl rfl)
theorem dX5_goes_97 : decode cX5_goes 97 = .ok (.aload_n 0, 1) := dk_42 (dk_at dksX5_goes_3 19 rfl rfl)
theorem dX5_goes_98 : decode cX5_goes 98 = .ok (.getfield 25, 3) := dk_180 0 25 (dk_at dksX5_goes_3 20 rfl rfl)
theorem dX5_goes_101 : decode cX5_goes 101 = .ok (.iastore, 1) := dk_79 (dk_at dksX5_goes_3 23 rfl rfl)
theorem dX5_goes_102 : decode cX5_goes 102 = .ok (.goto 110, 3) := dk_167 0 110 (dk_at dksX5_goes_4 0 rfl rfl)
theorem dX5_goes_105 : decode cX5_goes 105 = .ok (.aload_n 0, 1) := dk_42 (dk_at dksX5_goes_4 3 rfl rfl)
theorem dX5_goes_106 : decode cX5_goes 106 = .ok (.iconst 1, 1) := dk_4 (dk_at dksX5_goes_4 4 rfl rfl)
theorem dX5_goes_107 : decode cX5_goes 107 = .ok (.putfield 15, 3) := dk_181 0 15 (dk_at dksX5_goes_4 5 rfl rfl)
theorem dX5_goes_110 : decode cX5_goes 110 = .ok (.goto 102, 3) := dk_167 0 102 (dk_at dksX5_goes_4 8 rfl rfl)
theorem dX5_goes_113 : decode cX5_goes 113 = .ok (.aload_n 0, 1) := dk_42 (dk_at dksX5_goes_4 11 rfl rfl)
theorem dX5_goes_114 : decode cX5_goes 114 = .ok (.iconst 0, 1) := dk_3 (dk_at dksX5_goes_4 12 rfl rfl)
theorem dX5_goes_115 : decode cX5_goes 115 = .ok (.putfield 15, 3) := dk_181 0 15 (dk_at dksX5_goes_4 13 rfl rfl)
theorem dX5_goes_118 : decode cX5_goes 118 = .ok (.goto 94, 3) := dk_167 0 94 (dk_at dksX5_goes_4 16 rfl rfl)
theorem dX5_goes_121 : decode cX5_goes 121 = .ok (.aload_n 0, 1) := dk_42 (dk_at dksX5_goes_4 19 rfl rfl)
theorem dX5_goes_122 : decode cX5_goes 122 = .ok (.iconst 2, 1) := dk_5 (dk_at dksX5_goes_4 20 rfl rfl)
theorem dX5_goes_123 : decode cX5_goes 123 = .ok (.aload_n 0, 1) := dk_42 (dk_at dksX5_goes_4 21 rfl rfl)
theorem dX5_goes_124 : decode cX5_goes 124 = .ok (.getfield 25, 3) := dk_180 0 25 (dk_at dksX5_goes_5 0 rfl rfl)
theorem dX5_goes_127 : decode cX5_goes 127 = .ok (.imul, 1) := dk_104 (dk_at dksX5_goes_5 3 rfl rfl)
theorem dX5_goes_128 : decode cX5_goes 128 = .ok (.putfield 28, 3) := dk_181 0 28 (dk_at dksX5_goes_5 4 rfl rfl)
theorem dX5_goes_131 : decode cX5_goes 131 = .ok (.goto 81, 3) := dk_167 0 81 (dk_at dksX5_goes_5 7 rfl rfl)
theorem dX5_goes_134 : decode cX5_goes 134 = .ok (.aload_n 0, 1) := dk_42 (dk_at dksX5_goes_5 10 rfl rfl)
theorem dX5_goes_135 : decode cX5_goes 135 = .ok (.aload_n 0, 1) := dk_42 (dk_at dksX5_goes_5 11 rfl rfl)
theorem dX5_goes_136 : decode cX5_goes 136 = .ok (.getfield 28, 3) := dk_180 0 28 (dk_at dksX5_goes_5 12 rfl rfl)
theorem dX5_goes_139 : decode cX5_goes 139 = .ok (.iconst 2, 1) := dk_5 (dk_at dksX5_goes_5 15 rfl rfl)
theorem dX5_goes_140 : decode cX5_goes 140 = .ok (.idiv, 1) := dk_108 (dk_at dksX5_goes_5 16 rfl rfl)
theorem dX5_goes_141 : decode cX5_goes 141 = .ok (.putfield 25, 3) := dk_181 0 25 (dk_at dksX5_goes_5 17 rfl rfl)
theorem dX5_goes_144 : decode cX5_goes 144 = .ok (.goto 68, 3) := dk_167 0 68 (dk_at dksX5_goes_5 20 rfl rfl)
theorem dX5_goes_147 : decode cX5_goes 147 = .ok (.aload_n 0, 1) := dk_42 (dk_at dksX5_goes_5 23 rfl rfl)
theorem dX5_goes_148 : decode cX5_goes 148 = .ok (.aload_n 0, 1) := dk_42 (dk_at dksX5_goes_6 0 rfl rfl)
theorem dX5_goes_149 : decode cX5_goes 149 = .ok (.getfield 15, 3) := dk_180 0 15 (dk_at dksX5_goes_6 1 rfl rfl)
theorem dX5_goes_152 : decode cX5_goes 152 = .ok (.putfield 25, 3) := dk_181 0 25 (dk_at dksX5_goes_6 4 rfl rfl)
theorem dX5_goes_155 : decode cX5_goes 155 = .ok (.goto 57, 3) := dk_167 0 57 (dk_at dksX5_goes_6 7 rfl rfl)
theorem dX5_goes_158 : decode cX5_goes 158 = .ok (.aload_n 0, 1) := dk_42 (dk_at dksX5_goes_6 10 rfl rfl)
theorem dX5_goes_159 : decode cX5_goes 159 = .ok (.aload_n 0, 1) := dk_42 (dk_at dksX5_goes_6 11 rfl rfl)
theorem dX5_goes_160 : decode cX5_goes 160 = .ok (.getfield 31, 3) := dk_180 0 31 (dk_at dksX5_goes_6 12 rfl rfl)
theorem dX5_goes_163 : decode cX5_goes 163 = .ok (.iconst 4, 1) := dk_7 (dk_at dksX5_goes_6 15 rfl rfl)
theorem dX5_goes_164 : decode cX5_goes 164 = .ok (.irem, 1) := dk_112 (dk_at dksX5_goes_6 16 rfl rfl)
theorem dX5_goes_165 : decode cX5_goes 165 = .ok (.putfield 25, 3) := dk_181 0 25 (dk_at dksX5_goes_6 17 rfl rfl)
theorem dX5_goes_168 : decode cX5_goes 168 = .ok (.goto 44, 3) := dk_167 0 44 (dk_at dksX5_goes_6 20 rfl rfl)
theorem dX5_goes_171 : decode cX5_goes 171 = .ok (.aload_n 0, 1) := dk_42 (dk_at dksX5_goes_6 23 rfl rfl)
theorem dX5_goes_172 : decode cX5_goes 172 = .ok (.dup, 1) := dk_89 (dk_at dksX5_goes_7 0 rfl rfl)
theorem dX5_goes_173 : decode cX5_goes 173 = .ok (.getfield 44, 3) := dk_180 0 44 (dk_at dksX5_goes_7 1 rfl rfl)
theorem dX5_goes_176 : decode cX5_goes 176 = .ok (.aload_n 0, 1) := dk_42 (dk_at dksX5_goes_7 4 rfl rfl)
theorem dX5_goes_177 : decode cX5_goes 177 = .ok (.getfield 25, 3) := dk_180 0 25 (dk_at dksX5_goes_7 5 rfl rfl)
theorem dX5_goes_180 : decode cX5_goes 180 = .ok (.iload_n 2, 1) := dk_28 (dk_at dksX5_goes_7 8 rfl rfl)
theorem dX5_goes_181 : decode cX5_goes 181 = .ok (.iconst 4, 1) := dk_7 (dk_at dksX5_goes_7 9 rfl rfl)
theorem dX5_goes_182 : decode cX5_goes 182 = .ok (.irem, 1) := dk_112 (dk_at dksX5_goes_7 10 rfl rfl)
theorem dX5_goes_183 : decode cX5_goes 183 = .ok (.if_icmp .ne 7, 3) := dk_160 0 7 (dk_at dksX5_goes_7 11 rfl rfl)
theorem dX5_goes_186 : decode cX5_goes 186 = .ok (.iconst 1, 1) := dk_4 (dk_at dksX5_goes_7 14 rfl rfl)
theorem dX5_goes_187 : decode cX5_goes 187 = .ok (.goto 4, 3) := dk_167 0 4 (dk_at dksX5_goes_7 15 rfl rfl)
theorem dX5_goes_190 : decode cX5_goes 190 = .ok (.iconst 0, 1) := dk_3 (dk_at dksX5_goes_7 18 rfl rfl)
theorem dX5_goes_191 : decode cX5_goes 191 = .ok (.ior, 1) := dk_128 (dk_at dksX5_goes_7 19 rfl rfl)
theorem dX5_goes_192 : decode cX5_goes 192 = .ok (.putfield 44, 3) := dk_181 0 44 (dk_at dksX5_goes_7 20 rfl rfl)
theorem dX5_goes_195 : decode cX5_goes 195 = .ok (.goto 17, 3) := dk_167 0 17 (dk_at dksX5_goes_8 0 rfl rfl)
theorem dX5_goes_198 : decode cX5_goes 198 = .ok (.aload_n 0, 1) := dk_42 (dk_at dksX5_goes_8 3 rfl rfl)
theorem dX5_goes_199 : decode cX5_goes 199 = .ok (.getfield 15, 3) := dk_180 0 15 (dk_at dksX5_goes_8 4 rfl rfl)
theorem dX5_goes_202 : decode cX5_goes 202 = .ok (.iconst 1, 1) := dk_4 (dk_at dksX5_goes_8 7 rfl rfl)
theorem dX5_goes_203 : decode cX5_goes 203 = .ok (.if_icmp .ne 7, 3) := dk_160 0 7 (dk_at dksX5_goes_8 8 rfl rfl)
theorem dX5_goes_206 : decode cX5_goes 206 = .ok (.iconst 1, 1) := dk_4 (dk_at dksX5_goes_8 11 rfl rfl)
theorem dX5_goes_207 : decode cX5_goes 207 = .ok (.goto 4, 3) := dk_167 0 4 (dk_at dksX5_goes_8 12 rfl rfl)
theorem dX5_goes_210 : decode cX5_goes 210 = .ok (.iconst 0, 1) := dk_3 (dk_at dksX5_goes_8 15 rfl rfl)
theorem dX5_goes_211 : decode cX5_goes 211 = .ok (.ireturn, 1) := dk_172 (dk_at dksX5_goes_8 16 rfl rfl)
theorem dX5_goes_212 : decode cX5_goes 212 = .ok (.iconst 1, 1) := dk_4 (dk_at dksX5_goes_8 17 rfl rfl)
theorem dX5_goes_213 : decode cX5_goes 213 = .ok (.ireturn, 1) := dk_172 (dk_at dksX5_goes_8 18 rfl rfl)
abbrev cX5_place : ByteArray := prog_9_method_5_code
def yX5_place : MethodName := ⟨RX5, "place", "(I)I"⟩
def dkwX5_place_0 : List UInt8 := [27, 42, 180, 0, 28, 96, 42, 180, 0, 37, 96, 16, 8, 112, 172]
abbrev dktX5_place_0 : List UInt8 := dkwX5_place_0 ++ []
theorem dksX5_place_0 : cX5_place.data.toList.drop 0 = dktX5_place_0 := by decide +kernel
theorem dX5_place_0 : decode cX5_place 0 = .ok (.iload_n 1, 1) := dk_27 (dk_at dksX5_place_0 0 rfl rfl)
theorem dX5_place_1 : decode cX5_place 1 = .ok (.aload_n 0, 1) := dk_42 (dk_at dksX5_place_0 1 rfl rfl)
theorem dX5_place_2 : decode cX5_place 2 = .ok (.getfield 28, 3) := dk_180 0 28 (dk_at dksX5_place_0 2 rfl rfl)
theorem dX5_place_5 : decode cX5_place 5 = .ok (.iadd, 1) := dk_96 (dk_at dksX5_place_0 5 rfl rfl)
theorem dX5_place_6 : decode cX5_place 6 = .ok (.aload_n 0, 1) := dk_42 (dk_at dksX5_place_0 6 rfl rfl)
theorem dX5_place_7 : decode cX5_place 7 = .ok (.getfield 37, 3) := dk_180 0 37 (dk_at dksX5_place_0 7 rfl rfl)
theorem dX5_place_10 : decode cX5_place 10 = .ok (.iadd, 1) := dk_96 (dk_at dksX5_place_0 10 rfl rfl)
theorem dX5_place_11 : decode cX5_place 11 = .ok (.bipush 8, 2) := dk_16 8 (dk_at dksX5_place_0 11 rfl rfl)
theorem dX5_place_13 : decode cX5_place 13 = .ok (.irem, 1) := dk_112 (dk_at dksX5_place_0 13 rfl rfl)
theorem dX5_place_14 : decode cX5_place 14 = .ok (.ireturn, 1) := dk_172 (dk_at dksX5_place_0 14 rfl rfl)
abbrev cX5_isIn : ByteArray := prog_9_method_3_code
def yX5_isIn : MethodName := ⟨RX5, "isIn", "(I)V"⟩
def dkwX5_isIn_2 : List UInt8 := [42, 3, 181, 0, 31, 42, 3, 181, 0, 37, 177]
abbrev dktX5_isIn_2 : List UInt8 := dkwX5_isIn_2 ++ []
def dkwX5_isIn_1 : List UInt8 := [181, 0, 25, 42, 27, 7, 108, 5, 112, 181, 0, 15, 42, 27, 16, 8, 108, 7, 112, 5, 104, 181, 0, 28]
abbrev dktX5_isIn_1 : List UInt8 := dkwX5_isIn_1 ++ dktX5_isIn_2
def dkwX5_isIn_0 : List UInt8 := [178, 0, 34, 27, 16, 32, 108, 16, 8, 104, 42, 180, 0, 9, 3, 16, 8, 184, 0, 19, 42, 27, 7, 112]
abbrev dktX5_isIn_0 : List UInt8 := dkwX5_isIn_0 ++ dktX5_isIn_1
theorem dksX5_isIn_0 : cX5_isIn.data.toList.drop 0 = dktX5_isIn_0 := by decide +kernel
theorem dksX5_isIn_1 : cX5_isIn.data.toList.drop 24 = dktX5_isIn_1 := dk_seg dksX5_isIn_0 24 rfl rfl
theorem dksX5_isIn_2 : cX5_isIn.data.toList.drop 48 = dktX5_isIn_2 := dk_seg dksX5_isIn_1 24 rfl rfl
theorem dX5_isIn_0 : decode cX5_isIn 0 = .ok (.getstatic 34, 3) := dk_178 0 34 (dk_at dksX5_isIn_0 0 rfl rfl)
theorem dX5_isIn_3 : decode cX5_isIn 3 = .ok (.iload_n 1, 1) := dk_27 (dk_at dksX5_isIn_0 3 rfl rfl)
theorem dX5_isIn_4 : decode cX5_isIn 4 = .ok (.bipush 32, 2) := dk_16 32 (dk_at dksX5_isIn_0 4 rfl rfl)
theorem dX5_isIn_6 : decode cX5_isIn 6 = .ok (.idiv, 1) := dk_108 (dk_at dksX5_isIn_0 6 rfl rfl)
theorem dX5_isIn_7 : decode cX5_isIn 7 = .ok (.bipush 8, 2) := dk_16 8 (dk_at dksX5_isIn_0 7 rfl rfl)
theorem dX5_isIn_9 : decode cX5_isIn 9 = .ok (.imul, 1) := dk_104 (dk_at dksX5_isIn_0 9 rfl rfl)
theorem dX5_isIn_10 : decode cX5_isIn 10 = .ok (.aload_n 0, 1) := dk_42 (dk_at dksX5_isIn_0 10 rfl rfl)
theorem dX5_isIn_11 : decode cX5_isIn 11 = .ok (.getfield 9, 3) := dk_180 0 9 (dk_at dksX5_isIn_0 11 rfl rfl)
theorem dX5_isIn_14 : decode cX5_isIn 14 = .ok (.iconst 0, 1) := dk_3 (dk_at dksX5_isIn_0 14 rfl rfl)
theorem dX5_isIn_15 : decode cX5_isIn 15 = .ok (.bipush 8, 2) := dk_16 8 (dk_at dksX5_isIn_0 15 rfl rfl)
theorem dX5_isIn_17 : decode cX5_isIn 17 = .ok (.invokestatic 19, 3) := dk_184 0 19 (dk_at dksX5_isIn_0 17 rfl rfl)
theorem dX5_isIn_20 : decode cX5_isIn 20 = .ok (.aload_n 0, 1) := dk_42 (dk_at dksX5_isIn_0 20 rfl rfl)
theorem dX5_isIn_21 : decode cX5_isIn 21 = .ok (.iload_n 1, 1) := dk_27 (dk_at dksX5_isIn_0 21 rfl rfl)
theorem dX5_isIn_22 : decode cX5_isIn 22 = .ok (.iconst 4, 1) := dk_7 (dk_at dksX5_isIn_0 22 rfl rfl)
theorem dX5_isIn_23 : decode cX5_isIn 23 = .ok (.irem, 1) := dk_112 (dk_at dksX5_isIn_0 23 rfl rfl)
theorem dX5_isIn_24 : decode cX5_isIn 24 = .ok (.putfield 25, 3) := dk_181 0 25 (dk_at dksX5_isIn_1 0 rfl rfl)
theorem dX5_isIn_27 : decode cX5_isIn 27 = .ok (.aload_n 0, 1) := dk_42 (dk_at dksX5_isIn_1 3 rfl rfl)
theorem dX5_isIn_28 : decode cX5_isIn 28 = .ok (.iload_n 1, 1) := dk_27 (dk_at dksX5_isIn_1 4 rfl rfl)
theorem dX5_isIn_29 : decode cX5_isIn 29 = .ok (.iconst 4, 1) := dk_7 (dk_at dksX5_isIn_1 5 rfl rfl)
theorem dX5_isIn_30 : decode cX5_isIn 30 = .ok (.idiv, 1) := dk_108 (dk_at dksX5_isIn_1 6 rfl rfl)
theorem dX5_isIn_31 : decode cX5_isIn 31 = .ok (.iconst 2, 1) := dk_5 (dk_at dksX5_isIn_1 7 rfl rfl)
theorem dX5_isIn_32 : decode cX5_isIn 32 = .ok (.irem, 1) := dk_112 (dk_at dksX5_isIn_1 8 rfl rfl)
theorem dX5_isIn_33 : decode cX5_isIn 33 = .ok (.putfield 15, 3) := dk_181 0 15 (dk_at dksX5_isIn_1 9 rfl rfl)
theorem dX5_isIn_36 : decode cX5_isIn 36 = .ok (.aload_n 0, 1) := dk_42 (dk_at dksX5_isIn_1 12 rfl rfl)
theorem dX5_isIn_37 : decode cX5_isIn 37 = .ok (.iload_n 1, 1) := dk_27 (dk_at dksX5_isIn_1 13 rfl rfl)
theorem dX5_isIn_38 : decode cX5_isIn 38 = .ok (.bipush 8, 2) := dk_16 8 (dk_at dksX5_isIn_1 14 rfl rfl)
theorem dX5_isIn_40 : decode cX5_isIn 40 = .ok (.idiv, 1) := dk_108 (dk_at dksX5_isIn_1 16 rfl rfl)
theorem dX5_isIn_41 : decode cX5_isIn 41 = .ok (.iconst 4, 1) := dk_7 (dk_at dksX5_isIn_1 17 rfl rfl)
theorem dX5_isIn_42 : decode cX5_isIn 42 = .ok (.irem, 1) := dk_112 (dk_at dksX5_isIn_1 18 rfl rfl)
theorem dX5_isIn_43 : decode cX5_isIn 43 = .ok (.iconst 2, 1) := dk_5 (dk_at dksX5_isIn_1 19 rfl rfl)
theorem dX5_isIn_44 : decode cX5_isIn 44 = .ok (.imul, 1) := dk_104 (dk_at dksX5_isIn_1 20 rfl rfl)
theorem dX5_isIn_45 : decode cX5_isIn 45 = .ok (.putfield 28, 3) := dk_181 0 28 (dk_at dksX5_isIn_1 21 rfl rfl)
theorem dX5_isIn_48 : decode cX5_isIn 48 = .ok (.aload_n 0, 1) := dk_42 (dk_at dksX5_isIn_2 0 rfl rfl)
theorem dX5_isIn_49 : decode cX5_isIn 49 = .ok (.iconst 0, 1) := dk_3 (dk_at dksX5_isIn_2 1 rfl rfl)
theorem dX5_isIn_50 : decode cX5_isIn 50 = .ok (.putfield 31, 3) := dk_181 0 31 (dk_at dksX5_isIn_2 2 rfl rfl)
theorem dX5_isIn_53 : decode cX5_isIn 53 = .ok (.aload_n 0, 1) := dk_42 (dk_at dksX5_isIn_2 5 rfl rfl)
theorem dX5_isIn_54 : decode cX5_isIn 54 = .ok (.iconst 0, 1) := dk_3 (dk_at dksX5_isIn_2 6 rfl rfl)
theorem dX5_isIn_55 : decode cX5_isIn 55 = .ok (.putfield 37, 3) := dk_181 0 37 (dk_at dksX5_isIn_2 7 rfl rfl)
theorem dX5_isIn_58 : decode cX5_isIn 58 = .ok (.return_, 1) := dk_177 (dk_at dksX5_isIn_2 10 rfl rfl)
abbrev cX5_isUnlike : ByteArray := prog_9_method_9_code
def yX5_isUnlike : MethodName := ⟨RX5, "isUnlike", "(LGuestView$Machine;I)Z"⟩
def dkwX5_isUnlike_3 : List UInt8 := [167, 255, 216, 29, 172]
abbrev dktX5_isUnlike_3 : List UInt8 := dkwX5_isUnlike_3 ++ []
def dkwX5_isUnlike_2 : List UInt8 := [16, 8, 112, 46, 43, 180, 0, 9, 21, 4, 46, 159, 0, 7, 4, 167, 0, 4, 3, 128, 62, 132, 4, 1]
abbrev dktX5_isUnlike_2 : List UInt8 := dkwX5_isUnlike_2 ++ dktX5_isUnlike_3
def dkwX5_isUnlike_1 : List UInt8 := [167, 0, 4, 3, 62, 3, 54, 4, 21, 4, 16, 8, 162, 0, 39, 29, 42, 180, 0, 9, 21, 4, 28, 96]
abbrev dktX5_isUnlike_1 : List UInt8 := dkwX5_isUnlike_1 ++ dktX5_isUnlike_2
def dkwX5_isUnlike_0 : List UInt8 := [42, 180, 0, 25, 43, 180, 0, 25, 160, 0, 14, 42, 180, 0, 44, 43, 180, 0, 44, 159, 0, 7, 4]
abbrev dktX5_isUnlike_0 : List UInt8 := dkwX5_isUnlike_0 ++ dktX5_isUnlike_1
theorem dksX5_isUnlike_0 : cX5_isUnlike.data.toList.drop 0 = dktX5_isUnlike_0 := by decide +kernel
theorem dksX5_isUnlike_1 : cX5_isUnlike.data.toList.drop 23 = dktX5_isUnlike_1 := dk_seg dksX5_isUnlike_0 23 rfl rfl
theorem dksX5_isUnlike_2 : cX5_isUnlike.data.toList.drop 47 = dktX5_isUnlike_2 := dk_seg dksX5_isUnlike_1 24 rfl rfl
theorem dksX5_isUnlike_3 : cX5_isUnlike.data.toList.drop 71 = dktX5_isUnlike_3 := dk_seg dksX5_isUnlike_2 24 rfl rfl
theorem dX5_isUnlike_0 : decode cX5_isUnlike 0 = .ok (.aload_n 0, 1) := dk_42 (dk_at dksX5_isUnlike_0 0 rfl rfl)
theorem dX5_isUnlike_1 : decode cX5_isUnlike 1 = .ok (.getfield 25, 3) := dk_180 0 25 (dk_at dksX5_isUnlike_0 1 rfl rfl)
theorem dX5_isUnlike_4 : decode cX5_isUnlike 4 = .ok (.aload_n 1, 1) := dk_43 (dk_at dksX5_isUnlike_0 4 rfl rfl)
theorem dX5_isUnlike_5 : decode cX5_isUnlike 5 = .ok (.getfield 25, 3) := dk_180 0 25 (dk_at dksX5_isUnlike_0 5 rfl rfl)
theorem dX5_isUnlike_8 : decode cX5_isUnlike 8 = .ok (.if_icmp .ne 14, 3) := dk_160 0 14 (dk_at dksX5_isUnlike_0 8 rfl rfl)
theorem dX5_isUnlike_11 : decode cX5_isUnlike 11 = .ok (.aload_n 0, 1) := dk_42 (dk_at dksX5_isUnlike_0 11 rfl rfl)
theorem dX5_isUnlike_12 : decode cX5_isUnlike 12 = .ok (.getfield 44, 3) := dk_180 0 44 (dk_at dksX5_isUnlike_0 12 rfl rfl)
theorem dX5_isUnlike_15 : decode cX5_isUnlike 15 = .ok (.aload_n 1, 1) := dk_43 (dk_at dksX5_isUnlike_0 15 rfl rfl)
theorem dX5_isUnlike_16 : decode cX5_isUnlike 16 = .ok (.getfield 44, 3) := dk_180 0 44 (dk_at dksX5_isUnlike_0 16 rfl rfl)
theorem dX5_isUnlike_19 : decode cX5_isUnlike 19 = .ok (.if_icmp .eq 7, 3) := dk_159 0 7 (dk_at dksX5_isUnlike_0 19 rfl rfl)
theorem dX5_isUnlike_22 : decode cX5_isUnlike 22 = .ok (.iconst 1, 1) := dk_4 (dk_at dksX5_isUnlike_0 22 rfl rfl)
theorem dX5_isUnlike_23 : decode cX5_isUnlike 23 = .ok (.goto 4, 3) := dk_167 0 4 (dk_at dksX5_isUnlike_1 0 rfl rfl)
theorem dX5_isUnlike_26 : decode cX5_isUnlike 26 = .ok (.iconst 0, 1) := dk_3 (dk_at dksX5_isUnlike_1 3 rfl rfl)
theorem dX5_isUnlike_27 : decode cX5_isUnlike 27 = .ok (.istore_n 3, 1) := dk_62 (dk_at dksX5_isUnlike_1 4 rfl rfl)
theorem dX5_isUnlike_28 : decode cX5_isUnlike 28 = .ok (.iconst 0, 1) := dk_3 (dk_at dksX5_isUnlike_1 5 rfl rfl)
theorem dX5_isUnlike_29 : decode cX5_isUnlike 29 = .ok (.istore 4, 2) := dk_54 4 (dk_at dksX5_isUnlike_1 6 rfl rfl)
theorem dX5_isUnlike_31 : decode cX5_isUnlike 31 = .ok (.iload 4, 2) := dk_21 4 (dk_at dksX5_isUnlike_1 8 rfl rfl)
theorem dX5_isUnlike_33 : decode cX5_isUnlike 33 = .ok (.bipush 8, 2) := dk_16 8 (dk_at dksX5_isUnlike_1 10 rfl rfl)
theorem dX5_isUnlike_35 : decode cX5_isUnlike 35 = .ok (.if_icmp .ge 39, 3) := dk_162 0 39 (dk_at dksX5_isUnlike_1 12 rfl rfl)
theorem dX5_isUnlike_38 : decode cX5_isUnlike 38 = .ok (.iload_n 3, 1) := dk_29 (dk_at dksX5_isUnlike_1 15 rfl rfl)
theorem dX5_isUnlike_39 : decode cX5_isUnlike 39 = .ok (.aload_n 0, 1) := dk_42 (dk_at dksX5_isUnlike_1 16 rfl rfl)
theorem dX5_isUnlike_40 : decode cX5_isUnlike 40 = .ok (.getfield 9, 3) := dk_180 0 9 (dk_at dksX5_isUnlike_1 17 rfl rfl)
theorem dX5_isUnlike_43 : decode cX5_isUnlike 43 = .ok (.iload 4, 2) := dk_21 4 (dk_at dksX5_isUnlike_1 20 rfl rfl)
theorem dX5_isUnlike_45 : decode cX5_isUnlike 45 = .ok (.iload_n 2, 1) := dk_28 (dk_at dksX5_isUnlike_1 22 rfl rfl)
theorem dX5_isUnlike_46 : decode cX5_isUnlike 46 = .ok (.iadd, 1) := dk_96 (dk_at dksX5_isUnlike_1 23 rfl rfl)
theorem dX5_isUnlike_47 : decode cX5_isUnlike 47 = .ok (.bipush 8, 2) := dk_16 8 (dk_at dksX5_isUnlike_2 0 rfl rfl)
theorem dX5_isUnlike_49 : decode cX5_isUnlike 49 = .ok (.irem, 1) := dk_112 (dk_at dksX5_isUnlike_2 2 rfl rfl)
theorem dX5_isUnlike_50 : decode cX5_isUnlike 50 = .ok (.iaload, 1) := dk_46 (dk_at dksX5_isUnlike_2 3 rfl rfl)
theorem dX5_isUnlike_51 : decode cX5_isUnlike 51 = .ok (.aload_n 1, 1) := dk_43 (dk_at dksX5_isUnlike_2 4 rfl rfl)
theorem dX5_isUnlike_52 : decode cX5_isUnlike 52 = .ok (.getfield 9, 3) := dk_180 0 9 (dk_at dksX5_isUnlike_2 5 rfl rfl)
theorem dX5_isUnlike_55 : decode cX5_isUnlike 55 = .ok (.iload 4, 2) := dk_21 4 (dk_at dksX5_isUnlike_2 8 rfl rfl)
theorem dX5_isUnlike_57 : decode cX5_isUnlike 57 = .ok (.iaload, 1) := dk_46 (dk_at dksX5_isUnlike_2 10 rfl rfl)
theorem dX5_isUnlike_58 : decode cX5_isUnlike 58 = .ok (.if_icmp .eq 7, 3) := dk_159 0 7 (dk_at dksX5_isUnlike_2 11 rfl rfl)
theorem dX5_isUnlike_61 : decode cX5_isUnlike 61 = .ok (.iconst 1, 1) := dk_4 (dk_at dksX5_isUnlike_2 14 rfl rfl)
theorem dX5_isUnlike_62 : decode cX5_isUnlike 62 = .ok (.goto 4, 3) := dk_167 0 4 (dk_at dksX5_isUnlike_2 15 rfl rfl)
theorem dX5_isUnlike_65 : decode cX5_isUnlike 65 = .ok (.iconst 0, 1) := dk_3 (dk_at dksX5_isUnlike_2 18 rfl rfl)
theorem dX5_isUnlike_66 : decode cX5_isUnlike 66 = .ok (.ior, 1) := dk_128 (dk_at dksX5_isUnlike_2 19 rfl rfl)
theorem dX5_isUnlike_67 : decode cX5_isUnlike 67 = .ok (.istore_n 3, 1) := dk_62 (dk_at dksX5_isUnlike_2 20 rfl rfl)
theorem dX5_isUnlike_68 : decode cX5_isUnlike 68 = .ok (.iinc 4 1, 3) := dk_132 4 1 (dk_at dksX5_isUnlike_2 21 rfl rfl)
theorem dX5_isUnlike_71 : decode cX5_isUnlike 71 = .ok (.goto (-40), 3) := dk_167 255 216 (dk_at dksX5_isUnlike_3 0 rfl rfl)
theorem dX5_isUnlike_74 : decode cX5_isUnlike 74 = .ok (.iload_n 3, 1) := dk_29 (dk_at dksX5_isUnlike_3 3 rfl rfl)
theorem dX5_isUnlike_75 : decode cX5_isUnlike 75 = .ok (.ireturn, 1) := dk_172 (dk_at dksX5_isUnlike_3 4 rfl rfl)
abbrev cX5_isTurned : ByteArray := prog_9_method_4_code
def yX5_isTurned : MethodName := ⟨RX5, "isTurned", "(LGuestView$Machine;)V"⟩
def dkwX5_isTurned_2 : List UInt8 := [181, 0, 15, 42, 3, 181, 0, 28, 42, 43, 180, 0, 31, 181, 0, 31, 42, 3, 181, 0, 37, 177]
abbrev dktX5_isTurned_2 : List UInt8 := dkwX5_isTurned_2 ++ []
def dkwX5_isTurned_1 : List UInt8 := [16, 8, 112, 46, 79, 132, 2, 1, 167, 255, 227, 42, 43, 180, 0, 25, 181, 0, 25, 42, 43, 180, 0, 15]
abbrev dktX5_isTurned_1 : List UInt8 := dkwX5_isTurned_1 ++ dktX5_isTurned_2
def dkwX5_isTurned_0 : List UInt8 := [3, 61, 28, 16, 8, 162, 0, 29, 42, 180, 0, 9, 28, 43, 180, 0, 9, 28, 43, 180, 0, 28, 96]
abbrev dktX5_isTurned_0 : List UInt8 := dkwX5_isTurned_0 ++ dktX5_isTurned_1
theorem dksX5_isTurned_0 : cX5_isTurned.data.toList.drop 0 = dktX5_isTurned_0 := by decide +kernel
theorem dksX5_isTurned_1 : cX5_isTurned.data.toList.drop 23 = dktX5_isTurned_1 := dk_seg dksX5_isTurned_0 23 rfl rfl
theorem dksX5_isTurned_2 : cX5_isTurned.data.toList.drop 47 = dktX5_isTurned_2 := dk_seg dksX5_isTurned_1 24 rfl rfl
theorem dX5_isTurned_0 : decode cX5_isTurned 0 = .ok (.iconst 0, 1) := dk_3 (dk_at dksX5_isTurned_0 0 rfl rfl)
theorem dX5_isTurned_1 : decode cX5_isTurned 1 = .ok (.istore_n 2, 1) := dk_61 (dk_at dksX5_isTurned_0 1 rfl rfl)
theorem dX5_isTurned_2 : decode cX5_isTurned 2 = .ok (.iload_n 2, 1) := dk_28 (dk_at dksX5_isTurned_0 2 rfl rfl)
theorem dX5_isTurned_3 : decode cX5_isTurned 3 = .ok (.bipush 8, 2) := dk_16 8 (dk_at dksX5_isTurned_0 3 rfl rfl)
theorem dX5_isTurned_5 : decode cX5_isTurned 5 = .ok (.if_icmp .ge 29, 3) := dk_162 0 29 (dk_at dksX5_isTurned_0 5 rfl rfl)
theorem dX5_isTurned_8 : decode cX5_isTurned 8 = .ok (.aload_n 0, 1) := dk_42 (dk_at dksX5_isTurned_0 8 rfl rfl)
theorem dX5_isTurned_9 : decode cX5_isTurned 9 = .ok (.getfield 9, 3) := dk_180 0 9 (dk_at dksX5_isTurned_0 9 rfl rfl)
theorem dX5_isTurned_12 : decode cX5_isTurned 12 = .ok (.iload_n 2, 1) := dk_28 (dk_at dksX5_isTurned_0 12 rfl rfl)
theorem dX5_isTurned_13 : decode cX5_isTurned 13 = .ok (.aload_n 1, 1) := dk_43 (dk_at dksX5_isTurned_0 13 rfl rfl)
theorem dX5_isTurned_14 : decode cX5_isTurned 14 = .ok (.getfield 9, 3) := dk_180 0 9 (dk_at dksX5_isTurned_0 14 rfl rfl)
theorem dX5_isTurned_17 : decode cX5_isTurned 17 = .ok (.iload_n 2, 1) := dk_28 (dk_at dksX5_isTurned_0 17 rfl rfl)
theorem dX5_isTurned_18 : decode cX5_isTurned 18 = .ok (.aload_n 1, 1) := dk_43 (dk_at dksX5_isTurned_0 18 rfl rfl)
theorem dX5_isTurned_19 : decode cX5_isTurned 19 = .ok (.getfield 28, 3) := dk_180 0 28 (dk_at dksX5_isTurned_0 19 rfl rfl)
theorem dX5_isTurned_22 : decode cX5_isTurned 22 = .ok (.iadd, 1) := dk_96 (dk_at dksX5_isTurned_0 22 rfl rfl)
theorem dX5_isTurned_23 : decode cX5_isTurned 23 = .ok (.bipush 8, 2) := dk_16 8 (dk_at dksX5_isTurned_1 0 rfl rfl)
theorem dX5_isTurned_25 : decode cX5_isTurned 25 = .ok (.irem, 1) := dk_112 (dk_at dksX5_isTurned_1 2 rfl rfl)
theorem dX5_isTurned_26 : decode cX5_isTurned 26 = .ok (.iaload, 1) := dk_46 (dk_at dksX5_isTurned_1 3 rfl rfl)
theorem dX5_isTurned_27 : decode cX5_isTurned 27 = .ok (.iastore, 1) := dk_79 (dk_at dksX5_isTurned_1 4 rfl rfl)
theorem dX5_isTurned_28 : decode cX5_isTurned 28 = .ok (.iinc 2 1, 3) := dk_132 2 1 (dk_at dksX5_isTurned_1 5 rfl rfl)
theorem dX5_isTurned_31 : decode cX5_isTurned 31 = .ok (.goto (-29), 3) := dk_167 255 227 (dk_at dksX5_isTurned_1 8 rfl rfl)
theorem dX5_isTurned_34 : decode cX5_isTurned 34 = .ok (.aload_n 0, 1) := dk_42 (dk_at dksX5_isTurned_1 11 rfl rfl)
theorem dX5_isTurned_35 : decode cX5_isTurned 35 = .ok (.aload_n 1, 1) := dk_43 (dk_at dksX5_isTurned_1 12 rfl rfl)
theorem dX5_isTurned_36 : decode cX5_isTurned 36 = .ok (.getfield 25, 3) := dk_180 0 25 (dk_at dksX5_isTurned_1 13 rfl rfl)
theorem dX5_isTurned_39 : decode cX5_isTurned 39 = .ok (.putfield 25, 3) := dk_181 0 25 (dk_at dksX5_isTurned_1 16 rfl rfl)
theorem dX5_isTurned_42 : decode cX5_isTurned 42 = .ok (.aload_n 0, 1) := dk_42 (dk_at dksX5_isTurned_1 19 rfl rfl)
theorem dX5_isTurned_43 : decode cX5_isTurned 43 = .ok (.aload_n 1, 1) := dk_43 (dk_at dksX5_isTurned_1 20 rfl rfl)
theorem dX5_isTurned_44 : decode cX5_isTurned 44 = .ok (.getfield 15, 3) := dk_180 0 15 (dk_at dksX5_isTurned_1 21 rfl rfl)
theorem dX5_isTurned_47 : decode cX5_isTurned 47 = .ok (.putfield 15, 3) := dk_181 0 15 (dk_at dksX5_isTurned_2 0 rfl rfl)
theorem dX5_isTurned_50 : decode cX5_isTurned 50 = .ok (.aload_n 0, 1) := dk_42 (dk_at dksX5_isTurned_2 3 rfl rfl)
theorem dX5_isTurned_51 : decode cX5_isTurned 51 = .ok (.iconst 0, 1) := dk_3 (dk_at dksX5_isTurned_2 4 rfl rfl)
theorem dX5_isTurned_52 : decode cX5_isTurned 52 = .ok (.putfield 28, 3) := dk_181 0 28 (dk_at dksX5_isTurned_2 5 rfl rfl)
theorem dX5_isTurned_55 : decode cX5_isTurned 55 = .ok (.aload_n 0, 1) := dk_42 (dk_at dksX5_isTurned_2 8 rfl rfl)
theorem dX5_isTurned_56 : decode cX5_isTurned 56 = .ok (.aload_n 1, 1) := dk_43 (dk_at dksX5_isTurned_2 9 rfl rfl)
theorem dX5_isTurned_57 : decode cX5_isTurned 57 = .ok (.getfield 31, 3) := dk_180 0 31 (dk_at dksX5_isTurned_2 10 rfl rfl)
theorem dX5_isTurned_60 : decode cX5_isTurned 60 = .ok (.putfield 31, 3) := dk_181 0 31 (dk_at dksX5_isTurned_2 13 rfl rfl)
theorem dX5_isTurned_63 : decode cX5_isTurned 63 = .ok (.aload_n 0, 1) := dk_42 (dk_at dksX5_isTurned_2 16 rfl rfl)
theorem dX5_isTurned_64 : decode cX5_isTurned 64 = .ok (.iconst 0, 1) := dk_3 (dk_at dksX5_isTurned_2 17 rfl rfl)
theorem dX5_isTurned_65 : decode cX5_isTurned 65 = .ok (.putfield 37, 3) := dk_181 0 37 (dk_at dksX5_isTurned_2 18 rfl rfl)
theorem dX5_isTurned_68 : decode cX5_isTurned 68 = .ok (.return_, 1) := dk_177 (dk_at dksX5_isTurned_2 21 rfl rfl)
theorem q156 : (Jvm.Cond.initialized "GuestView$Machine") ∈ lw_all := lw_g (lw_at lw_m1 5 rfl) rfl
theorem q242 : (Jvm.Cond.instantiable "GuestView$Machine" (7 : Nat)) ∈ lw_all := lw_g (lw_at lw_m1 91 rfl) rfl
theorem q244 : (Jvm.Cond.instanceMethod ({ cls := "GuestView$Machine", name := "<init>", desc := "()V" } : Jvm.MethodName)) ∈ lw_all := lw_g (lw_at lw_m1 93 rfl) rfl
theorem q245 : (Jvm.Cond.code ({ cls := "GuestView$Machine", name := "<init>", desc := "()V" } : Jvm.MethodName) prog_9_method_1_code (1 : Nat) (Option.none : Option Jvm.ClassFile.FieldType)) ∈ lw_all := lw_g (lw_at lw_m1 94 rfl) rfl
theorem q246 : (Jvm.Cond.methodLink "GuestView$Machine" (3 : Nat) ({ cls := "java/lang/Object", name := "<init>", desc := "()V" } : Jvm.MethodName)) ∈ lw_all := lw_g (lw_at lw_m1 95 rfl) rfl
theorem q247 : (Jvm.Cond.fieldLink "GuestView$Machine" (9 : Nat) "GuestView$Machine" "cells" "[I") ∈ lw_all := lw_g (lw_at lw_m1 96 rfl) rfl
theorem q250 : (Jvm.Cond.fieldLink "GuestView$Machine" (25 : Nat) "GuestView$Machine" "\x72" "I") ∈ lw_all := lw_g (lw_at lw_m1 99 rfl) rfl
theorem q253 : (Jvm.Cond.fieldLink "GuestView$Machine" (15 : Nat) "GuestView$Machine" "mode" "I") ∈ lw_all := lw_g (lw_at lw_m1 102 rfl) rfl
theorem q257 : (Jvm.Cond.fieldLink "GuestView$Machine" (28 : Nat) "GuestView$Machine" "base" "I") ∈ lw_all := lw_g (lw_at lw_m1 106 rfl) rfl
theorem q261 : (Jvm.Cond.fieldLink "GuestView$Machine" (31 : Nat) "GuestView$Machine" "clock" "I") ∈ lw_all := lw_g (lw_at lw_m1 110 rfl) rfl
theorem q264 : (Jvm.Cond.fieldLink "GuestView$Machine" (37 : Nat) "GuestView$Machine" "offset" "I") ∈ lw_all := lw_g (lw_at lw_m1 113 rfl) rfl
theorem q267 : (Jvm.Cond.fieldLink "GuestView$Machine" (44 : Nat) "GuestView$Machine" "skips" "Z") ∈ lw_all := lw_g (lw_at lw_m1 116 rfl) rfl
theorem q269 : (Jvm.Cond.laysFinal "GuestView$Machine" "GuestView$Machine" "cells" "[I") ∈ lw_all := lw_g (lw_at lw_m1 118 rfl) rfl
theorem q270 : (Jvm.Cond.soleField "GuestView$Machine" "cells") ∈ lw_all := lw_g (lw_at lw_m1 119 rfl) rfl
theorem q271 : (Jvm.Cond.lays "GuestView$Machine" "GuestView$Machine" "\x72" "I") ∈ lw_all := lw_g (lw_at lw_m1 120 rfl) rfl
theorem q272 : (Jvm.Cond.soleField "GuestView$Machine" "\x72") ∈ lw_all := lw_g (lw_at lw_m1 121 rfl) rfl
theorem q273 : (Jvm.Cond.lays "GuestView$Machine" "GuestView$Machine" "mode" "I") ∈ lw_all := lw_g (lw_at lw_m1 122 rfl) rfl
theorem q274 : (Jvm.Cond.soleField "GuestView$Machine" "mode") ∈ lw_all := lw_g (lw_at lw_m1 123 rfl) rfl
theorem q275 : (Jvm.Cond.lays "GuestView$Machine" "GuestView$Machine" "base" "I") ∈ lw_all := lw_g (lw_at lw_m1 124 rfl) rfl
theorem q276 : (Jvm.Cond.soleField "GuestView$Machine" "base") ∈ lw_all := lw_g (lw_at lw_m1 125 rfl) rfl
theorem q277 : (Jvm.Cond.lays "GuestView$Machine" "GuestView$Machine" "clock" "I") ∈ lw_all := lw_g (lw_at lw_m1 126 rfl) rfl
theorem q278 : (Jvm.Cond.soleField "GuestView$Machine" "clock") ∈ lw_all := lw_g (lw_at lw_m1 127 rfl) rfl
theorem q279 : (Jvm.Cond.lays "GuestView$Machine" "GuestView$Machine" "offset" "I") ∈ lw_all := lw_g (lw_at lw_m1 128 rfl) rfl
theorem q280 : (Jvm.Cond.soleField "GuestView$Machine" "offset") ∈ lw_all := lw_g (lw_at lw_m1 129 rfl) rfl
theorem q281 : (Jvm.Cond.lays "GuestView$Machine" "GuestView$Machine" "skips" "Z") ∈ lw_all := lw_g (lw_at lw_m1 130 rfl) rfl
theorem q282 : (Jvm.Cond.soleField "GuestView$Machine" "skips") ∈ lw_all := lw_g (lw_at lw_m1 131 rfl) rfl
theorem q283 : (Jvm.Cond.superclass "GuestView$Machine" "java/lang/Object") ∈ lw_all := lw_g (lw_at lw_m1 132 rfl) rfl
theorem q307 : (Jvm.Cond.fieldLinkNest "GuestView$Machine" (53 : Nat) "GuestView$Op" "kinds" "[I" "GuestView") ∈ lw_tbl := lw_at lw_m1 156 rfl
theorem q310 : (Jvm.Cond.fieldLinkNest "GuestView$Machine" (56 : Nat) "GuestView$Op" "numbers" "[I" "GuestView") ∈ lw_tbl := lw_at lw_m1 159 rfl
theorem q316 : (Jvm.Cond.fieldLinkNest "GuestView$Machine" (48 : Nat) "GuestView$Op" "many" "I" "GuestView") ∈ lw_tbl := lw_at lw_m1 165 rfl
theorem q321 : (Jvm.Cond.fieldLinkNest "GuestView$Machine" (63 : Nat) "GuestView$Op" "guarded" "Z" "GuestView") ∈ lw_tbl := lw_at lw_m1 170 rfl
theorem q652 : (Jvm.Cond.instanceMethod ({ cls := "GuestView$Machine", name := "be", desc := "(LGuestView$Machine;)V" } : Jvm.MethodName)) ∈ lw_all := lw_g (lw_at lw_m3 21 rfl) rfl
theorem q653 : (Jvm.Cond.selects "GuestView$Machine" ({ cls := "GuestView$Machine", name := "be", desc := "(LGuestView$Machine;)V" } : Jvm.MethodName) ({ cls := "GuestView$Machine", name := "be", desc := "(LGuestView$Machine;)V" } : Jvm.MethodName)) ∈ lw_all := lw_g (lw_at lw_m3 22 rfl) rfl
theorem q654 : (Jvm.Cond.code ({ cls := "GuestView$Machine", name := "be", desc := "(LGuestView$Machine;)V" } : Jvm.MethodName) prog_9_method_2_code (2 : Nat) (Option.none : Option Jvm.ClassFile.FieldType)) ∈ lw_all := lw_g (lw_at lw_m3 23 rfl) rfl
theorem q655 : (Jvm.Cond.methodLink "GuestView$Machine" (19 : Nat) ({ cls := "java/lang/System", name := "arraycopy", desc := "(Ljava/lang/Object;ILjava/lang/Object;II)V" } : Jvm.MethodName)) ∈ lw_all := lw_g (lw_at lw_m3 24 rfl) rfl
theorem q708 : (Jvm.Cond.instanceMethod ({ cls := "GuestView$Machine", name := "isTrapped", desc := "(LGuestView$Op;)Z" } : Jvm.MethodName)) ∈ lw_all := lw_g (lw_at lw_m3 77 rfl) rfl
theorem q709 : (Jvm.Cond.selects "GuestView$Machine" ({ cls := "GuestView$Machine", name := "isTrapped", desc := "(LGuestView$Op;)Z" } : Jvm.MethodName) ({ cls := "GuestView$Machine", name := "isTrapped", desc := "(LGuestView$Op;)Z" } : Jvm.MethodName)) ∈ lw_all := lw_g (lw_at lw_m3 78 rfl) rfl
theorem q710 : (Jvm.Cond.code ({ cls := "GuestView$Machine", name := "isTrapped", desc := "(LGuestView$Op;)Z" } : Jvm.MethodName) prog_9_method_8_code (2 : Nat) (Option.some Jvm.ClassFile.FieldType.boolean)) ∈ lw_all := lw_g (lw_at lw_m3 79 rfl) rfl
theorem q716 : (Jvm.Cond.instanceMethod ({ cls := "GuestView$Machine", name := "does", desc := "(LGuestView$Op;)V" } : Jvm.MethodName)) ∈ lw_all := lw_g (lw_at lw_m3 85 rfl) rfl
theorem q717 : (Jvm.Cond.selects "GuestView$Machine" ({ cls := "GuestView$Machine", name := "does", desc := "(LGuestView$Op;)V" } : Jvm.MethodName) ({ cls := "GuestView$Machine", name := "does", desc := "(LGuestView$Op;)V" } : Jvm.MethodName)) ∈ lw_all := lw_g (lw_at lw_m3 86 rfl) rfl
theorem q718 : (Jvm.Cond.code ({ cls := "GuestView$Machine", name := "does", desc := "(LGuestView$Op;)V" } : Jvm.MethodName) prog_9_method_7_code (4 : Nat) (Option.none : Option Jvm.ClassFile.FieldType)) ∈ lw_all := lw_g (lw_at lw_m3 87 rfl) rfl
theorem q719 : (Jvm.Cond.methodLink "GuestView$Machine" (59 : Nat) ({ cls := "GuestView$Machine", name := "goes", desc := "(II)Z" } : Jvm.MethodName)) ∈ lw_all := lw_g (lw_at lw_m3 88 rfl) rfl
theorem q720 : (Jvm.Cond.privateMethod ({ cls := "GuestView$Machine", name := "goes", desc := "(II)Z" } : Jvm.MethodName)) ∈ lw_tbl := lw_at lw_m3 89 rfl
theorem q721 : (Jvm.Cond.instanceMethod ({ cls := "GuestView$Machine", name := "goes", desc := "(II)Z" } : Jvm.MethodName)) ∈ lw_all := lw_g (lw_at lw_m3 90 rfl) rfl
theorem q722 : (Jvm.Cond.code ({ cls := "GuestView$Machine", name := "goes", desc := "(II)Z" } : Jvm.MethodName) prog_9_method_6_code (3 : Nat) (Option.some Jvm.ClassFile.FieldType.boolean)) ∈ lw_all := lw_g (lw_at lw_m3 91 rfl) rfl
theorem q723 : (Jvm.Cond.methodLink "GuestView$Machine" (40 : Nat) ({ cls := "GuestView$Machine", name := "place", desc := "(I)I" } : Jvm.MethodName)) ∈ lw_all := lw_g (lw_at lw_m3 92 rfl) rfl
theorem q724 : (Jvm.Cond.privateMethod ({ cls := "GuestView$Machine", name := "place", desc := "(I)I" } : Jvm.MethodName)) ∈ lw_tbl := lw_at lw_m3 93 rfl
theorem q725 : (Jvm.Cond.instanceMethod ({ cls := "GuestView$Machine", name := "place", desc := "(I)I" } : Jvm.MethodName)) ∈ lw_all := lw_g (lw_at lw_m3 94 rfl) rfl
theorem q726 : (Jvm.Cond.code ({ cls := "GuestView$Machine", name := "place", desc := "(I)I" } : Jvm.MethodName) prog_9_method_5_code (2 : Nat) (Option.some Jvm.ClassFile.FieldType.int)) ∈ lw_all := lw_g (lw_at lw_m3 95 rfl) rfl
theorem q1103 : (Jvm.Cond.instanceMethod ({ cls := "GuestView$Machine", name := "isIn", desc := "(I)V" } : Jvm.MethodName)) ∈ lw_all := lw_g (lw_at lw_m4 232 rfl) rfl
theorem q1104 : (Jvm.Cond.selects "GuestView$Machine" ({ cls := "GuestView$Machine", name := "isIn", desc := "(I)V" } : Jvm.MethodName) ({ cls := "GuestView$Machine", name := "isIn", desc := "(I)V" } : Jvm.MethodName)) ∈ lw_all := lw_g (lw_at lw_m4 233 rfl) rfl
theorem q1105 : (Jvm.Cond.code ({ cls := "GuestView$Machine", name := "isIn", desc := "(I)V" } : Jvm.MethodName) prog_9_method_3_code (2 : Nat) (Option.none : Option Jvm.ClassFile.FieldType)) ∈ lw_all := lw_g (lw_at lw_m4 234 rfl) rfl
theorem q1106 : (Jvm.Cond.fieldLinkNest "GuestView$Machine" (34 : Nat) "GuestView" "TABLE" "[I" "GuestView") ∈ lw_tbl := lw_at lw_m4 235 rfl
theorem q1115 : (Jvm.Cond.instanceMethod ({ cls := "GuestView$Machine", name := "isUnlike", desc := "(LGuestView$Machine;I)Z" } : Jvm.MethodName)) ∈ lw_all := lw_g (lw_at lw_m5 4 rfl) rfl
theorem q1116 : (Jvm.Cond.selects "GuestView$Machine" ({ cls := "GuestView$Machine", name := "isUnlike", desc := "(LGuestView$Machine;I)Z" } : Jvm.MethodName) ({ cls := "GuestView$Machine", name := "isUnlike", desc := "(LGuestView$Machine;I)Z" } : Jvm.MethodName)) ∈ lw_all := lw_g (lw_at lw_m5 5 rfl) rfl
theorem q1117 : (Jvm.Cond.code ({ cls := "GuestView$Machine", name := "isUnlike", desc := "(LGuestView$Machine;I)Z" } : Jvm.MethodName) prog_9_method_9_code (5 : Nat) (Option.some Jvm.ClassFile.FieldType.boolean)) ∈ lw_all := lw_g (lw_at lw_m5 6 rfl) rfl
theorem q1123 : (Jvm.Cond.instanceMethod ({ cls := "GuestView$Machine", name := "isTurned", desc := "(LGuestView$Machine;)V" } : Jvm.MethodName)) ∈ lw_all := lw_g (lw_at lw_m5 12 rfl) rfl
theorem q1124 : (Jvm.Cond.selects "GuestView$Machine" ({ cls := "GuestView$Machine", name := "isTurned", desc := "(LGuestView$Machine;)V" } : Jvm.MethodName) ({ cls := "GuestView$Machine", name := "isTurned", desc := "(LGuestView$Machine;)V" } : Jvm.MethodName)) ∈ lw_all := lw_g (lw_at lw_m5 13 rfl) rfl
theorem q1125 : (Jvm.Cond.code ({ cls := "GuestView$Machine", name := "isTurned", desc := "(LGuestView$Machine;)V" } : Jvm.MethodName) prog_9_method_4_code (3 : Nat) (Option.none : Option Jvm.ClassFile.FieldType)) ∈ lw_all := lw_g (lw_at lw_m5 14 rfl) rfl
theorem q2443 : (Jvm.Cond.castable "GuestView$Machine" "java/lang/Object") ∈ lw_tbl := lw_at lw_m10 132 rfl
theorem in_X5 : ∀ w ∈ wsX50, w ∈ lw_all := lw_in wsX50 [269, 271, 273, 275, 277, 279, 281] (by decide +kernel) (by decide +kernel)
/-! GuestView$Op -/
set_option maxRecDepth 100000
def RX6 : String := "GuestView$Op"
def TX6 : u_T := fun k => match k with
  | 0 => ("GuestView$Op", "kinds", "[I", true)
  | 1 => ("GuestView$Op", "numbers", "[I", true)
  | 2 => ("GuestView$Op", "witness", "[I", true)
  | 3 => ("GuestView$Op", "many", "I", false)
  | 4 => ("GuestView$Op", "guarded", "Z", false)
  | _ => ("GuestView$Op", "patched", "Z", false)
def tyX6 : Nat → FieldType := fun k => match k with
  | 0 => .array .int
  | 1 => .array .int
  | 2 => .array .int
  | 3 => .int
  | 4 => .boolean
  | _ => .boolean
abbrev wsX60 : List Cond := u_ws RX6 TX6 6
theorem nmX6 : ∀ a, a < 6 → ∀ b, b < 6 → a ≠ b → (TX6 a).2.1 ≠ (TX6 b).2.1 := by decide +kernel
theorem tyX6_ok : ∀ k, k < 6 → parseFieldDescriptor (TX6 k).2.2.1 = some (tyX6 k) := by decide +kernel
abbrev cX6_init : ByteArray := prog_11_method_1_code
def yX6_init : MethodName := ⟨RX6, "<init>", "()V"⟩
def dkwX6_init_1 : List UInt8 := [2, 79, 89, 4, 2, 79, 89, 5, 2, 79, 89, 6, 2, 79, 181, 0, 18, 177]
abbrev dktX6_init_1 : List UInt8 := dkwX6_init_1 ++ []
def dkwX6_init_0 : List UInt8 := [42, 183, 0, 3, 42, 6, 188, 10, 181, 0, 9, 42, 6, 188, 10, 181, 0, 15, 42, 7, 188, 10, 89, 3]
abbrev dktX6_init_0 : List UInt8 := dkwX6_init_0 ++ dktX6_init_1
theorem dksX6_init_0 : cX6_init.data.toList.drop 0 = dktX6_init_0 := by decide +kernel
theorem dksX6_init_1 : cX6_init.data.toList.drop 24 = dktX6_init_1 := dk_seg dksX6_init_0 24 rfl rfl
theorem dX6_init_0 : decode cX6_init 0 = .ok (.aload_n 0, 1) := dk_42 (dk_at dksX6_init_0 0 rfl rfl)
theorem dX6_init_1 : decode cX6_init 1 = .ok (.invokespecial 3, 3) := dk_183 0 3 (dk_at dksX6_init_0 1 rfl rfl)
theorem dX6_init_4 : decode cX6_init 4 = .ok (.aload_n 0, 1) := dk_42 (dk_at dksX6_init_0 4 rfl rfl)
theorem dX6_init_5 : decode cX6_init 5 = .ok (.iconst 3, 1) := dk_6 (dk_at dksX6_init_0 5 rfl rfl)
theorem dX6_init_6 : decode cX6_init 6 = .ok (.newarray .int, 2) := dk_188_10 (dk_at dksX6_init_0 6 rfl rfl)
theorem dX6_init_8 : decode cX6_init 8 = .ok (.putfield 9, 3) := dk_181 0 9 (dk_at dksX6_init_0 8 rfl rfl)
theorem dX6_init_11 : decode cX6_init 11 = .ok (.aload_n 0, 1) := dk_42 (dk_at dksX6_init_0 11 rfl rfl)
theorem dX6_init_12 : decode cX6_init 12 = .ok (.iconst 3, 1) := dk_6 (dk_at dksX6_init_0 12 rfl rfl)
theorem dX6_init_13 : decode cX6_init 13 = .ok (.newarray .int, 2) := dk_188_10 (dk_at dksX6_init_0 13 rfl rfl)
theorem dX6_init_15 : decode cX6_init 15 = .ok (.putfield 15, 3) := dk_181 0 15 (dk_at dksX6_init_0 15 rfl rfl)
theorem dX6_init_18 : decode cX6_init 18 = .ok (.aload_n 0, 1) := dk_42 (dk_at dksX6_init_0 18 rfl rfl)
theorem dX6_init_19 : decode cX6_init 19 = .ok (.iconst 4, 1) := dk_7 (dk_at dksX6_init_0 19 rfl rfl)
theorem dX6_init_20 : decode cX6_init 20 = .ok (.newarray .int, 2) := dk_188_10 (dk_at dksX6_init_0 20 rfl rfl)
theorem dX6_init_22 : decode cX6_init 22 = .ok (.dup, 1) := dk_89 (dk_at dksX6_init_0 22 rfl rfl)
theorem dX6_init_23 : decode cX6_init 23 = .ok (.iconst 0, 1) := dk_3 (dk_at dksX6_init_0 23 rfl rfl)
theorem dX6_init_24 : decode cX6_init 24 = .ok (.iconst (-1), 1) := dk_2 (dk_at dksX6_init_1 0 rfl rfl)
theorem dX6_init_25 : decode cX6_init 25 = .ok (.iastore, 1) := dk_79 (dk_at dksX6_init_1 1 rfl rfl)
theorem dX6_init_26 : decode cX6_init 26 = .ok (.dup, 1) := dk_89 (dk_at dksX6_init_1 2 rfl rfl)
theorem dX6_init_27 : decode cX6_init 27 = .ok (.iconst 1, 1) := dk_4 (dk_at dksX6_init_1 3 rfl rfl)
theorem dX6_init_28 : decode cX6_init 28 = .ok (.iconst (-1), 1) := dk_2 (dk_at dksX6_init_1 4 rfl rfl)
theorem dX6_init_29 : decode cX6_init 29 = .ok (.iastore, 1) := dk_79 (dk_at dksX6_init_1 5 rfl rfl)
theorem dX6_init_30 : decode cX6_init 30 = .ok (.dup, 1) := dk_89 (dk_at dksX6_init_1 6 rfl rfl)
theorem dX6_init_31 : decode cX6_init 31 = .ok (.iconst 2, 1) := dk_5 (dk_at dksX6_init_1 7 rfl rfl)
theorem dX6_init_32 : decode cX6_init 32 = .ok (.iconst (-1), 1) := dk_2 (dk_at dksX6_init_1 8 rfl rfl)
theorem dX6_init_33 : decode cX6_init 33 = .ok (.iastore, 1) := dk_79 (dk_at dksX6_init_1 9 rfl rfl)
theorem dX6_init_34 : decode cX6_init 34 = .ok (.dup, 1) := dk_89 (dk_at dksX6_init_1 10 rfl rfl)
theorem dX6_init_35 : decode cX6_init 35 = .ok (.iconst 3, 1) := dk_6 (dk_at dksX6_init_1 11 rfl rfl)
theorem dX6_init_36 : decode cX6_init 36 = .ok (.iconst (-1), 1) := dk_2 (dk_at dksX6_init_1 12 rfl rfl)
theorem dX6_init_37 : decode cX6_init 37 = .ok (.iastore, 1) := dk_79 (dk_at dksX6_init_1 13 rfl rfl)
theorem dX6_init_38 : decode cX6_init 38 = .ok (.putfield 18, 3) := dk_181 0 18 (dk_at dksX6_init_1 14 rfl rfl)
theorem dX6_init_41 : decode cX6_init 41 = .ok (.return_, 1) := dk_177 (dk_at dksX6_init_1 17 rfl rfl)
abbrev cX6_be : ByteArray := prog_11_method_2_code
def yX6_be : MethodName := ⟨RX6, "be", "(LGuestView$Op;)V"⟩
def dkwX6_be_2 : List UInt8 := [181, 0, 27, 42, 43, 180, 0, 31, 181, 0, 31, 42, 43, 180, 0, 35, 181, 0, 35, 177]
abbrev dktX6_be_2 : List UInt8 := dkwX6_be_2 ++ []
def dkwX6_be_1 : List UInt8 := [6, 184, 0, 21, 43, 180, 0, 18, 3, 42, 180, 0, 18, 3, 7, 184, 0, 21, 42, 43, 180, 0, 27]
abbrev dktX6_be_1 : List UInt8 := dkwX6_be_1 ++ dktX6_be_2
def dkwX6_be_0 : List UInt8 := [43, 180, 0, 9, 3, 42, 180, 0, 9, 3, 6, 184, 0, 21, 43, 180, 0, 15, 3, 42, 180, 0, 15, 3]
abbrev dktX6_be_0 : List UInt8 := dkwX6_be_0 ++ dktX6_be_1
theorem dksX6_be_0 : cX6_be.data.toList.drop 0 = dktX6_be_0 := by decide +kernel
theorem dksX6_be_1 : cX6_be.data.toList.drop 24 = dktX6_be_1 := dk_seg dksX6_be_0 24 rfl rfl
theorem dksX6_be_2 : cX6_be.data.toList.drop 47 = dktX6_be_2 := dk_seg dksX6_be_1 23 rfl rfl
theorem dX6_be_0 : decode cX6_be 0 = .ok (.aload_n 1, 1) := dk_43 (dk_at dksX6_be_0 0 rfl rfl)
theorem dX6_be_1 : decode cX6_be 1 = .ok (.getfield 9, 3) := dk_180 0 9 (dk_at dksX6_be_0 1 rfl rfl)
theorem dX6_be_4 : decode cX6_be 4 = .ok (.iconst 0, 1) := dk_3 (dk_at dksX6_be_0 4 rfl rfl)
theorem dX6_be_5 : decode cX6_be 5 = .ok (.aload_n 0, 1) := dk_42 (dk_at dksX6_be_0 5 rfl rfl)
theorem dX6_be_6 : decode cX6_be 6 = .ok (.getfield 9, 3) := dk_180 0 9 (dk_at dksX6_be_0 6 rfl rfl)
theorem dX6_be_9 : decode cX6_be 9 = .ok (.iconst 0, 1) := dk_3 (dk_at dksX6_be_0 9 rfl rfl)
theorem dX6_be_10 : decode cX6_be 10 = .ok (.iconst 3, 1) := dk_6 (dk_at dksX6_be_0 10 rfl rfl)
theorem dX6_be_11 : decode cX6_be 11 = .ok (.invokestatic 21, 3) := dk_184 0 21 (dk_at dksX6_be_0 11 rfl rfl)
theorem dX6_be_14 : decode cX6_be 14 = .ok (.aload_n 1, 1) := dk_43 (dk_at dksX6_be_0 14 rfl rfl)
theorem dX6_be_15 : decode cX6_be 15 = .ok (.getfield 15, 3) := dk_180 0 15 (dk_at dksX6_be_0 15 rfl rfl)
theorem dX6_be_18 : decode cX6_be 18 = .ok (.iconst 0, 1) := dk_3 (dk_at dksX6_be_0 18 rfl rfl)
theorem dX6_be_19 : decode cX6_be 19 = .ok (.aload_n 0, 1) := dk_42 (dk_at dksX6_be_0 19 rfl rfl)
theorem dX6_be_20 : decode cX6_be 20 = .ok (.getfield 15, 3) := dk_180 0 15 (dk_at dksX6_be_0 20 rfl rfl)
theorem dX6_be_23 : decode cX6_be 23 = .ok (.iconst 0, 1) := dk_3 (dk_at dksX6_be_0 23 rfl rfl)
theorem dX6_be_24 : decode cX6_be 24 = .ok (.iconst 3, 1) := dk_6 (dk_at dksX6_be_1 0 rfl rfl)
theorem dX6_be_25 : decode cX6_be 25 = .ok (.invokestatic 21, 3) := dk_184 0 21 (dk_at dksX6_be_1 1 rfl rfl)
theorem dX6_be_28 : decode cX6_be 28 = .ok (.aload_n 1, 1) := dk_43 (dk_at dksX6_be_1 4 rfl rfl)
theorem dX6_be_29 : decode cX6_be 29 = .ok (.getfield 18, 3) := dk_180 0 18 (dk_at dksX6_be_1 5 rfl rfl)
theorem dX6_be_32 : decode cX6_be 32 = .ok (.iconst 0, 1) := dk_3 (dk_at dksX6_be_1 8 rfl rfl)
theorem dX6_be_33 : decode cX6_be 33 = .ok (.aload_n 0, 1) := dk_42 (dk_at dksX6_be_1 9 rfl rfl)
theorem dX6_be_34 : decode cX6_be 34 = .ok (.getfield 18, 3) := dk_180 0 18 (dk_at dksX6_be_1 10 rfl rfl)
theorem dX6_be_37 : decode cX6_be 37 = .ok (.iconst 0, 1) := dk_3 (dk_at dksX6_be_1 13 rfl rfl)
theorem dX6_be_38 : decode cX6_be 38 = .ok (.iconst 4, 1) := dk_7 (dk_at dksX6_be_1 14 rfl rfl)
theorem dX6_be_39 : decode cX6_be 39 = .ok (.invokestatic 21, 3) := dk_184 0 21 (dk_at dksX6_be_1 15 rfl rfl)
theorem dX6_be_42 : decode cX6_be 42 = .ok (.aload_n 0, 1) := dk_42 (dk_at dksX6_be_1 18 rfl rfl)
theorem dX6_be_43 : decode cX6_be 43 = .ok (.aload_n 1, 1) := dk_43 (dk_at dksX6_be_1 19 rfl rfl)
theorem dX6_be_44 : decode cX6_be 44 = .ok (.getfield 27, 3) := dk_180 0 27 (dk_at dksX6_be_1 20 rfl rfl)
theorem dX6_be_47 : decode cX6_be 47 = .ok (.putfield 27, 3) := dk_181 0 27 (dk_at dksX6_be_2 0 rfl rfl)
theorem dX6_be_50 : decode cX6_be 50 = .ok (.aload_n 0, 1) := dk_42 (dk_at dksX6_be_2 3 rfl rfl)
theorem dX6_be_51 : decode cX6_be 51 = .ok (.aload_n 1, 1) := dk_43 (dk_at dksX6_be_2 4 rfl rfl)
theorem dX6_be_52 : decode cX6_be 52 = .ok (.getfield 31, 3) := dk_180 0 31 (dk_at dksX6_be_2 5 rfl rfl)
theorem dX6_be_55 : decode cX6_be 55 = .ok (.putfield 31, 3) := dk_181 0 31 (dk_at dksX6_be_2 8 rfl rfl)
theorem dX6_be_58 : decode cX6_be 58 = .ok (.aload_n 0, 1) := dk_42 (dk_at dksX6_be_2 11 rfl rfl)
theorem dX6_be_59 : decode cX6_be 59 = .ok (.aload_n 1, 1) := dk_43 (dk_at dksX6_be_2 12 rfl rfl)
theorem dX6_be_60 : decode cX6_be 60 = .ok (.getfield 35, 3) := dk_180 0 35 (dk_at dksX6_be_2 13 rfl rfl)
theorem dX6_be_63 : decode cX6_be 63 = .ok (.putfield 35, 3) := dk_181 0 35 (dk_at dksX6_be_2 16 rfl rfl)
theorem dX6_be_66 : decode cX6_be 66 = .ok (.return_, 1) := dk_177 (dk_at dksX6_be_2 19 rfl rfl)
abbrev cX6_isSensitive : ByteArray := prog_11_method_6_code
def yX6_isSensitive : MethodName := ⟨RX6, "isSensitive", "()Z"⟩
def dkwX6_isSensitive_1 : List UInt8 := [4, 167, 0, 4, 3, 172]
abbrev dktX6_isSensitive_1 : List UInt8 := dkwX6_isSensitive_1 ++ []
def dkwX6_isSensitive_0 : List UInt8 := [42, 3, 182, 0, 38, 154, 0, 19, 42, 4, 182, 0, 38, 154, 0, 11, 42, 5, 182, 0, 38, 153, 0, 7]
abbrev dktX6_isSensitive_0 : List UInt8 := dkwX6_isSensitive_0 ++ dktX6_isSensitive_1
theorem dksX6_isSensitive_0 : cX6_isSensitive.data.toList.drop 0 = dktX6_isSensitive_0 := by decide +kernel
theorem dksX6_isSensitive_1 : cX6_isSensitive.data.toList.drop 24 = dktX6_isSensitive_1 := dk_seg dksX6_isSensitive_0 24 rfl rfl
theorem dX6_isSensitive_0 : decode cX6_isSensitive 0 = .ok (.aload_n 0, 1) := dk_42 (dk_at dksX6_isSensitive_0 0 rfl rfl)
theorem dX6_isSensitive_1 : decode cX6_isSensitive 1 = .ok (.iconst 0, 1) := dk_3 (dk_at dksX6_isSensitive_0 1 rfl rfl)
theorem dX6_isSensitive_2 : decode cX6_isSensitive 2 = .ok (.invokevirtual 38, 3) := dk_182 0 38 (dk_at dksX6_isSensitive_0 2 rfl rfl)
theorem dX6_isSensitive_5 : decode cX6_isSensitive 5 = .ok (.ifCond .ne 19, 3) := dk_154 0 19 (dk_at dksX6_isSensitive_0 5 rfl rfl)
theorem dX6_isSensitive_8 : decode cX6_isSensitive 8 = .ok (.aload_n 0, 1) := dk_42 (dk_at dksX6_isSensitive_0 8 rfl rfl)
theorem dX6_isSensitive_9 : decode cX6_isSensitive 9 = .ok (.iconst 1, 1) := dk_4 (dk_at dksX6_isSensitive_0 9 rfl rfl)
theorem dX6_isSensitive_10 : decode cX6_isSensitive 10 = .ok (.invokevirtual 38, 3) := dk_182 0 38 (dk_at dksX6_isSensitive_0 10 rfl rfl)
theorem dX6_isSensitive_13 : decode cX6_isSensitive 13 = .ok (.ifCond .ne 11, 3) := dk_154 0 11 (dk_at dksX6_isSensitive_0 13 rfl rfl)
theorem dX6_isSensitive_16 : decode cX6_isSensitive 16 = .ok (.aload_n 0, 1) := dk_42 (dk_at dksX6_isSensitive_0 16 rfl rfl)
theorem dX6_isSensitive_17 : decode cX6_isSensitive 17 = .ok (.iconst 2, 1) := dk_5 (dk_at dksX6_isSensitive_0 17 rfl rfl)
theorem dX6_isSensitive_18 : decode cX6_isSensitive 18 = .ok (.invokevirtual 38, 3) := dk_182 0 38 (dk_at dksX6_isSensitive_0 18 rfl rfl)
theorem dX6_isSensitive_21 : decode cX6_isSensitive 21 = .ok (.ifCond .eq 7, 3) := dk_153 0 7 (dk_at dksX6_isSensitive_0 21 rfl rfl)
theorem dX6_isSensitive_24 : decode cX6_isSensitive 24 = .ok (.iconst 1, 1) := dk_4 (dk_at dksX6_isSensitive_1 0 rfl rfl)
theorem dX6_isSensitive_25 : decode cX6_isSensitive 25 = .ok (.goto 4, 3) := dk_167 0 4 (dk_at dksX6_isSensitive_1 1 rfl rfl)
theorem dX6_isSensitive_28 : decode cX6_isSensitive 28 = .ok (.iconst 0, 1) := dk_3 (dk_at dksX6_isSensitive_1 4 rfl rfl)
theorem dX6_isSensitive_29 : decode cX6_isSensitive 29 = .ok (.ireturn, 1) := dk_172 (dk_at dksX6_isSensitive_1 5 rfl rfl)
abbrev cX6_is : ByteArray := prog_11_method_5_code
def yX6_is : MethodName := ⟨RX6, "is", "(I)Z"⟩
def dkwX6_is_0 : List UInt8 := [42, 180, 0, 18, 27, 46, 2, 159, 0, 7, 4, 167, 0, 4, 3, 172]
abbrev dktX6_is_0 : List UInt8 := dkwX6_is_0 ++ []
theorem dksX6_is_0 : cX6_is.data.toList.drop 0 = dktX6_is_0 := by decide +kernel
theorem dX6_is_0 : decode cX6_is 0 = .ok (.aload_n 0, 1) := dk_42 (dk_at dksX6_is_0 0 rfl rfl)
theorem dX6_is_1 : decode cX6_is 1 = .ok (.getfield 18, 3) := dk_180 0 18 (dk_at dksX6_is_0 1 rfl rfl)
theorem dX6_is_4 : decode cX6_is 4 = .ok (.iload_n 1, 1) := dk_27 (dk_at dksX6_is_0 4 rfl rfl)
theorem dX6_is_5 : decode cX6_is 5 = .ok (.iaload, 1) := dk_46 (dk_at dksX6_is_0 5 rfl rfl)
theorem dX6_is_6 : decode cX6_is 6 = .ok (.iconst (-1), 1) := dk_2 (dk_at dksX6_is_0 6 rfl rfl)
theorem dX6_is_7 : decode cX6_is 7 = .ok (.if_icmp .eq 7, 3) := dk_159 0 7 (dk_at dksX6_is_0 7 rfl rfl)
theorem dX6_is_10 : decode cX6_is 10 = .ok (.iconst 1, 1) := dk_4 (dk_at dksX6_is_0 10 rfl rfl)
theorem dX6_is_11 : decode cX6_is 11 = .ok (.goto 4, 3) := dk_167 0 4 (dk_at dksX6_is_0 11 rfl rfl)
theorem dX6_is_14 : decode cX6_is 14 = .ok (.iconst 0, 1) := dk_3 (dk_at dksX6_is_0 14 rfl rfl)
theorem dX6_is_15 : decode cX6_is 15 = .ok (.ireturn, 1) := dk_172 (dk_at dksX6_is_0 15 rfl rfl)
abbrev cX6_touches : ByteArray := prog_11_method_7_code
def yX6_touches : MethodName := ⟨RX6, "touches", "(II)Z"⟩
def dkwX6_touches_2 : List UInt8 := [167, 255, 214, 29, 172]
abbrev dktX6_touches_2 : List UInt8 := dkwX6_touches_2 ++ []
def dkwX6_touches_1 : List UInt8 := [160, 0, 18, 42, 180, 0, 15, 21, 4, 46, 28, 160, 0, 7, 4, 167, 0, 4, 3, 128, 62, 132, 4, 1]
abbrev dktX6_touches_1 : List UInt8 := dkwX6_touches_1 ++ dktX6_touches_2
def dkwX6_touches_0 : List UInt8 := [3, 62, 3, 54, 4, 21, 4, 42, 180, 0, 27, 162, 0, 39, 29, 42, 180, 0, 9, 21, 4, 46, 27]
abbrev dktX6_touches_0 : List UInt8 := dkwX6_touches_0 ++ dktX6_touches_1
theorem dksX6_touches_0 : cX6_touches.data.toList.drop 0 = dktX6_touches_0 := by decide +kernel
theorem dksX6_touches_1 : cX6_touches.data.toList.drop 23 = dktX6_touches_1 := dk_seg dksX6_touches_0 23 rfl rfl
theorem dksX6_touches_2 : cX6_touches.data.toList.drop 47 = dktX6_touches_2 := dk_seg dksX6_touches_1 24 rfl rfl
theorem dX6_touches_0 : decode cX6_touches 0 = .ok (.iconst 0, 1) := dk_3 (dk_at dksX6_touches_0 0 rfl rfl)
theorem dX6_touches_1 : decode cX6_touches 1 = .ok (.istore_n 3, 1) := dk_62 (dk_at dksX6_touches_0 1 rfl rfl)
theorem dX6_touches_2 : decode cX6_touches 2 = .ok (.iconst 0, 1) := dk_3 (dk_at dksX6_touches_0 2 rfl rfl)
theorem dX6_touches_3 : decode cX6_touches 3 = .ok (.istore 4, 2) := dk_54 4 (dk_at dksX6_touches_0 3 rfl rfl)
theorem dX6_touches_5 : decode cX6_touches 5 = .ok (.iload 4, 2) := dk_21 4 (dk_at dksX6_touches_0 5 rfl rfl)
theorem dX6_touches_7 : decode cX6_touches 7 = .ok (.aload_n 0, 1) := dk_42 (dk_at dksX6_touches_0 7 rfl rfl)
theorem dX6_touches_8 : decode cX6_touches 8 = .ok (.getfield 27, 3) := dk_180 0 27 (dk_at dksX6_touches_0 8 rfl rfl)
theorem dX6_touches_11 : decode cX6_touches 11 = .ok (.if_icmp .ge 39, 3) := dk_162 0 39 (dk_at dksX6_touches_0 11 rfl rfl)
theorem dX6_touches_14 : decode cX6_touches 14 = .ok (.iload_n 3, 1) := dk_29 (dk_at dksX6_touches_0 14 rfl rfl)
theorem dX6_touches_15 : decode cX6_touches 15 = .ok (.aload_n 0, 1) := dk_42 (dk_at dksX6_touches_0 15 rfl rfl)
theorem dX6_touches_16 : decode cX6_touches 16 = .ok (.getfield 9, 3) := dk_180 0 9 (dk_at dksX6_touches_0 16 rfl rfl)
theorem dX6_touches_19 : decode cX6_touches 19 = .ok (.iload 4, 2) := dk_21 4 (dk_at dksX6_touches_0 19 rfl rfl)
theorem dX6_touches_21 : decode cX6_touches 21 = .ok (.iaload, 1) := dk_46 (dk_at dksX6_touches_0 21 rfl rfl)
theorem dX6_touches_22 : decode cX6_touches 22 = .ok (.iload_n 1, 1) := dk_27 (dk_at dksX6_touches_0 22 rfl rfl)
theorem dX6_touches_23 : decode cX6_touches 23 = .ok (.if_icmp .ne 18, 3) := dk_160 0 18 (dk_at dksX6_touches_1 0 rfl rfl)
theorem dX6_touches_26 : decode cX6_touches 26 = .ok (.aload_n 0, 1) := dk_42 (dk_at dksX6_touches_1 3 rfl rfl)
theorem dX6_touches_27 : decode cX6_touches 27 = .ok (.getfield 15, 3) := dk_180 0 15 (dk_at dksX6_touches_1 4 rfl rfl)
theorem dX6_touches_30 : decode cX6_touches 30 = .ok (.iload 4, 2) := dk_21 4 (dk_at dksX6_touches_1 7 rfl rfl)
theorem dX6_touches_32 : decode cX6_touches 32 = .ok (.iaload, 1) := dk_46 (dk_at dksX6_touches_1 9 rfl rfl)
theorem dX6_touches_33 : decode cX6_touches 33 = .ok (.iload_n 2, 1) := dk_28 (dk_at dksX6_touches_1 10 rfl rfl)
theorem dX6_touches_34 : decode cX6_touches 34 = .ok (.if_icmp .ne 7, 3) := dk_160 0 7 (dk_at dksX6_touches_1 11 rfl rfl)
theorem dX6_touches_37 : decode cX6_touches 37 = .ok (.iconst 1, 1) := dk_4 (dk_at dksX6_touches_1 14 rfl rfl)
theorem dX6_touches_38 : decode cX6_touches 38 = .ok (.goto 4, 3) := dk_167 0 4 (dk_at dksX6_touches_1 15 rfl rfl)
theorem dX6_touches_41 : decode cX6_touches 41 = .ok (.iconst 0, 1) := dk_3 (dk_at dksX6_touches_1 18 rfl rfl)
theorem dX6_touches_42 : decode cX6_touches 42 = .ok (.ior, 1) := dk_128 (dk_at dksX6_touches_1 19 rfl rfl)
theorem dX6_touches_43 : decode cX6_touches 43 = .ok (.istore_n 3, 1) := dk_62 (dk_at dksX6_touches_1 20 rfl rfl)
theorem dX6_touches_44 : decode cX6_touches 44 = .ok (.iinc 4 1, 3) := dk_132 4 1 (dk_at dksX6_touches_1 21 rfl rfl)
theorem dX6_touches_47 : decode cX6_touches 47 = .ok (.goto (-42), 3) := dk_167 255 214 (dk_at dksX6_touches_2 0 rfl rfl)
theorem dX6_touches_50 : decode cX6_touches 50 = .ok (.iload_n 3, 1) := dk_29 (dk_at dksX6_touches_2 3 rfl rfl)
theorem dX6_touches_51 : decode cX6_touches 51 = .ok (.ireturn, 1) := dk_172 (dk_at dksX6_touches_2 4 rfl rfl)
abbrev cX6_isLike : ByteArray := prog_11_method_8_code
def yX6_isLike : MethodName := ⟨RX6, "isLike", "(LGuestView$Op;)Z"⟩
def dkwX6_isLike_3 : List UInt8 := [160, 0, 7, 4, 167, 0, 4, 3, 61, 132, 3, 1, 167, 255, 205, 28, 172]
abbrev dktX6_isLike_3 : List UInt8 := dkwX6_isLike_3 ++ []
def dkwX6_isLike_2 : List UInt8 := [46, 43, 180, 0, 9, 29, 46, 160, 0, 22, 42, 180, 0, 15, 29, 46, 43, 180, 0, 15, 29, 46]
abbrev dktX6_isLike_2 : List UInt8 := dkwX6_isLike_2 ++ dktX6_isLike_3
def dkwX6_isLike_1 : List UInt8 := [167, 0, 4, 3, 61, 3, 62, 29, 42, 180, 0, 27, 162, 0, 49, 28, 153, 0, 45, 42, 180, 0, 9, 29]
abbrev dktX6_isLike_1 : List UInt8 := dkwX6_isLike_1 ++ dktX6_isLike_2
def dkwX6_isLike_0 : List UInt8 := [42, 180, 0, 27, 43, 180, 0, 27, 160, 0, 18, 42, 180, 0, 31, 43, 180, 0, 31, 160, 0, 7, 4]
abbrev dktX6_isLike_0 : List UInt8 := dkwX6_isLike_0 ++ dktX6_isLike_1
theorem dksX6_isLike_0 : cX6_isLike.data.toList.drop 0 = dktX6_isLike_0 := by decide +kernel
theorem dksX6_isLike_1 : cX6_isLike.data.toList.drop 23 = dktX6_isLike_1 := dk_seg dksX6_isLike_0 23 rfl rfl
theorem dksX6_isLike_2 : cX6_isLike.data.toList.drop 47 = dktX6_isLike_2 := dk_seg dksX6_isLike_1 24 rfl rfl
theorem dksX6_isLike_3 : cX6_isLike.data.toList.drop 69 = dktX6_isLike_3 := dk_seg dksX6_isLike_2 22 rfl rfl
theorem dX6_isLike_0 : decode cX6_isLike 0 = .ok (.aload_n 0, 1) := dk_42 (dk_at dksX6_isLike_0 0 rfl rfl)
theorem dX6_isLike_1 : decode cX6_isLike 1 = .ok (.getfield 27, 3) := dk_180 0 27 (dk_at dksX6_isLike_0 1 rfl rfl)
theorem dX6_isLike_4 : decode cX6_isLike 4 = .ok (.aload_n 1, 1) := dk_43 (dk_at dksX6_isLike_0 4 rfl rfl)
theorem dX6_isLike_5 : decode cX6_isLike 5 = .ok (.getfield 27, 3) := dk_180 0 27 (dk_at dksX6_isLike_0 5 rfl rfl)
theorem dX6_isLike_8 : decode cX6_isLike 8 = .ok (.if_icmp .ne 18, 3) := dk_160 0 18 (dk_at dksX6_isLike_0 8 rfl rfl)
theorem dX6_isLike_11 : decode cX6_isLike 11 = .ok (.aload_n 0, 1) := dk_42 (dk_at dksX6_isLike_0 11 rfl rfl)
theorem dX6_isLike_12 : decode cX6_isLike 12 = .ok (.getfield 31, 3) := dk_180 0 31 (dk_at dksX6_isLike_0 12 rfl rfl)
theorem dX6_isLike_15 : decode cX6_isLike 15 = .ok (.aload_n 1, 1) := dk_43 (dk_at dksX6_isLike_0 15 rfl rfl)
theorem dX6_isLike_16 : decode cX6_isLike 16 = .ok (.getfield 31, 3) := dk_180 0 31 (dk_at dksX6_isLike_0 16 rfl rfl)
theorem dX6_isLike_19 : decode cX6_isLike 19 = .ok (.if_icmp .ne 7, 3) := dk_160 0 7 (dk_at dksX6_isLike_0 19 rfl rfl)
theorem dX6_isLike_22 : decode cX6_isLike 22 = .ok (.iconst 1, 1) := dk_4 (dk_at dksX6_isLike_0 22 rfl rfl)
theorem dX6_isLike_23 : decode cX6_isLike 23 = .ok (.goto 4, 3) := dk_167 0 4 (dk_at dksX6_isLike_1 0 rfl rfl)
theorem dX6_isLike_26 : decode cX6_isLike 26 = .ok (.iconst 0, 1) := dk_3 (dk_at dksX6_isLike_1 3 rfl rfl)
theorem dX6_isLike_27 : decode cX6_isLike 27 = .ok (.istore_n 2, 1) := dk_61 (dk_at dksX6_isLike_1 4 rfl rfl)
theorem dX6_isLike_28 : decode cX6_isLike 28 = .ok (.iconst 0, 1) := dk_3 (dk_at dksX6_isLike_1 5 rfl rfl)
theorem dX6_isLike_29 : decode cX6_isLike 29 = .ok (.istore_n 3, 1) := dk_62 (dk_at dksX6_isLike_1 6 rfl rfl)
theorem dX6_isLike_30 : decode cX6_isLike 30 = .ok (.iload_n 3, 1) := dk_29 (dk_at dksX6_isLike_1 7 rfl rfl)
theorem dX6_isLike_31 : decode cX6_isLike 31 = .ok (.aload_n 0, 1) := dk_42 (dk_at dksX6_isLike_1 8 rfl rfl)
theorem dX6_isLike_32 : decode cX6_isLike 32 = .ok (.getfield 27, 3) := dk_180 0 27 (dk_at dksX6_isLike_1 9 rfl rfl)
theorem dX6_isLike_35 : decode cX6_isLike 35 = .ok (.if_icmp .ge 49, 3) := dk_162 0 49 (dk_at dksX6_isLike_1 12 rfl rfl)
theorem dX6_isLike_38 : decode cX6_isLike 38 = .ok (.iload_n 2, 1) := dk_28 (dk_at dksX6_isLike_1 15 rfl rfl)
theorem dX6_isLike_39 : decode cX6_isLike 39 = .ok (.ifCond .eq 45, 3) := dk_153 0 45 (dk_at dksX6_isLike_1 16 rfl rfl)
theorem dX6_isLike_42 : decode cX6_isLike 42 = .ok (.aload_n 0, 1) := dk_42 (dk_at dksX6_isLike_1 19 rfl rfl)
theorem dX6_isLike_43 : decode cX6_isLike 43 = .ok (.getfield 9, 3) := dk_180 0 9 (dk_at dksX6_isLike_1 20 rfl rfl)
theorem dX6_isLike_46 : decode cX6_isLike 46 = .ok (.iload_n 3, 1) := dk_29 (dk_at dksX6_isLike_1 23 rfl rfl)
theorem dX6_isLike_47 : decode cX6_isLike 47 = .ok (.iaload, 1) := dk_46 (dk_at dksX6_isLike_2 0 rfl rfl)
theorem dX6_isLike_48 : decode cX6_isLike 48 = .ok (.aload_n 1, 1) := dk_43 (dk_at dksX6_isLike_2 1 rfl rfl)
theorem dX6_isLike_49 : decode cX6_isLike 49 = .ok (.getfield 9, 3) := dk_180 0 9 (dk_at dksX6_isLike_2 2 rfl rfl)
theorem dX6_isLike_52 : decode cX6_isLike 52 = .ok (.iload_n 3, 1) := dk_29 (dk_at dksX6_isLike_2 5 rfl rfl)
theorem dX6_isLike_53 : decode cX6_isLike 53 = .ok (.iaload, 1) := dk_46 (dk_at dksX6_isLike_2 6 rfl rfl)
theorem dX6_isLike_54 : decode cX6_isLike 54 = .ok (.if_icmp .ne 22, 3) := dk_160 0 22 (dk_at dksX6_isLike_2 7 rfl rfl)
theorem dX6_isLike_57 : decode cX6_isLike 57 = .ok (.aload_n 0, 1) := dk_42 (dk_at dksX6_isLike_2 10 rfl rfl)
theorem dX6_isLike_58 : decode cX6_isLike 58 = .ok (.getfield 15, 3) := dk_180 0 15 (dk_at dksX6_isLike_2 11 rfl rfl)
theorem dX6_isLike_61 : decode cX6_isLike 61 = .ok (.iload_n 3, 1) := dk_29 (dk_at dksX6_isLike_2 14 rfl rfl)
theorem dX6_isLike_62 : decode cX6_isLike 62 = .ok (.iaload, 1) := dk_46 (dk_at dksX6_isLike_2 15 rfl rfl)
theorem dX6_isLike_63 : decode cX6_isLike 63 = .ok (.aload_n 1, 1) := dk_43 (dk_at dksX6_isLike_2 16 rfl rfl)
theorem dX6_isLike_64 : decode cX6_isLike 64 = .ok (.getfield 15, 3) := dk_180 0 15 (dk_at dksX6_isLike_2 17 rfl rfl)
theorem dX6_isLike_67 : decode cX6_isLike 67 = .ok (.iload_n 3, 1) := dk_29 (dk_at dksX6_isLike_2 20 rfl rfl)
theorem dX6_isLike_68 : decode cX6_isLike 68 = .ok (.iaload, 1) := dk_46 (dk_at dksX6_isLike_2 21 rfl rfl)
theorem dX6_isLike_69 : decode cX6_isLike 69 = .ok (.if_icmp .ne 7, 3) := dk_160 0 7 (dk_at dksX6_isLike_3 0 rfl rfl)
theorem dX6_isLike_72 : decode cX6_isLike 72 = .ok (.iconst 1, 1) := dk_4 (dk_at dksX6_isLike_3 3 rfl rfl)
theorem dX6_isLike_73 : decode cX6_isLike 73 = .ok (.goto 4, 3) := dk_167 0 4 (dk_at dksX6_isLike_3 4 rfl rfl)
theorem dX6_isLike_76 : decode cX6_isLike 76 = .ok (.iconst 0, 1) := dk_3 (dk_at dksX6_isLike_3 7 rfl rfl)
theorem dX6_isLike_77 : decode cX6_isLike 77 = .ok (.istore_n 2, 1) := dk_61 (dk_at dksX6_isLike_3 8 rfl rfl)
theorem dX6_isLike_78 : decode cX6_isLike 78 = .ok (.iinc 3 1, 3) := dk_132 3 1 (dk_at dksX6_isLike_3 9 rfl rfl)
theorem dX6_isLike_81 : decode cX6_isLike 81 = .ok (.goto (-51), 3) := dk_167 255 205 (dk_at dksX6_isLike_3 12 rfl rfl)
theorem dX6_isLike_84 : decode cX6_isLike 84 = .ok (.iload_n 2, 1) := dk_28 (dk_at dksX6_isLike_3 15 rfl rfl)
theorem dX6_isLike_85 : decode cX6_isLike 85 = .ok (.ireturn, 1) := dk_172 (dk_at dksX6_isLike_3 16 rfl rfl)
abbrev cX6_begins : ByteArray := prog_11_method_3_code
def yX6_begins : MethodName := ⟨RX6, "begins", "(Z)V"⟩
def dkwX6_begins_0 : List UInt8 := [42, 3, 181, 0, 27, 42, 27, 181, 0, 31, 42, 3, 181, 0, 35, 177]
abbrev dktX6_begins_0 : List UInt8 := dkwX6_begins_0 ++ []
theorem dksX6_begins_0 : cX6_begins.data.toList.drop 0 = dktX6_begins_0 := by decide +kernel
theorem dX6_begins_0 : decode cX6_begins 0 = .ok (.aload_n 0, 1) := dk_42 (dk_at dksX6_begins_0 0 rfl rfl)
theorem dX6_begins_1 : decode cX6_begins 1 = .ok (.iconst 0, 1) := dk_3 (dk_at dksX6_begins_0 1 rfl rfl)
theorem dX6_begins_2 : decode cX6_begins 2 = .ok (.putfield 27, 3) := dk_181 0 27 (dk_at dksX6_begins_0 2 rfl rfl)
theorem dX6_begins_5 : decode cX6_begins 5 = .ok (.aload_n 0, 1) := dk_42 (dk_at dksX6_begins_0 5 rfl rfl)
theorem dX6_begins_6 : decode cX6_begins 6 = .ok (.iload_n 1, 1) := dk_27 (dk_at dksX6_begins_0 6 rfl rfl)
theorem dX6_begins_7 : decode cX6_begins 7 = .ok (.putfield 31, 3) := dk_181 0 31 (dk_at dksX6_begins_0 7 rfl rfl)
theorem dX6_begins_10 : decode cX6_begins 10 = .ok (.aload_n 0, 1) := dk_42 (dk_at dksX6_begins_0 10 rfl rfl)
theorem dX6_begins_11 : decode cX6_begins 11 = .ok (.iconst 0, 1) := dk_3 (dk_at dksX6_begins_0 11 rfl rfl)
theorem dX6_begins_12 : decode cX6_begins 12 = .ok (.putfield 35, 3) := dk_181 0 35 (dk_at dksX6_begins_0 12 rfl rfl)
theorem dX6_begins_15 : decode cX6_begins 15 = .ok (.return_, 1) := dk_177 (dk_at dksX6_begins_0 15 rfl rfl)
abbrev cX6_adds : ByteArray := prog_11_method_4_code
def yX6_adds : MethodName := ⟨RX6, "adds", "(II)V"⟩
def dkwX6_adds_1 : List UInt8 := [180, 0, 27, 4, 96, 181, 0, 27, 177]
abbrev dktX6_adds_1 : List UInt8 := dkwX6_adds_1 ++ []
def dkwX6_adds_0 : List UInt8 := [42, 180, 0, 9, 42, 180, 0, 27, 27, 79, 42, 180, 0, 15, 42, 180, 0, 27, 28, 79, 42, 89]
abbrev dktX6_adds_0 : List UInt8 := dkwX6_adds_0 ++ dktX6_adds_1
theorem dksX6_adds_0 : cX6_adds.data.toList.drop 0 = dktX6_adds_0 := by decide +kernel
theorem dksX6_adds_1 : cX6_adds.data.toList.drop 22 = dktX6_adds_1 := dk_seg dksX6_adds_0 22 rfl rfl
theorem dX6_adds_0 : decode cX6_adds 0 = .ok (.aload_n 0, 1) := dk_42 (dk_at dksX6_adds_0 0 rfl rfl)
theorem dX6_adds_1 : decode cX6_adds 1 = .ok (.getfield 9, 3) := dk_180 0 9 (dk_at dksX6_adds_0 1 rfl rfl)
theorem dX6_adds_4 : decode cX6_adds 4 = .ok (.aload_n 0, 1) := dk_42 (dk_at dksX6_adds_0 4 rfl rfl)
theorem dX6_adds_5 : decode cX6_adds 5 = .ok (.getfield 27, 3) := dk_180 0 27 (dk_at dksX6_adds_0 5 rfl rfl)
theorem dX6_adds_8 : decode cX6_adds 8 = .ok (.iload_n 1, 1) := dk_27 (dk_at dksX6_adds_0 8 rfl rfl)
theorem dX6_adds_9 : decode cX6_adds 9 = .ok (.iastore, 1) := dk_79 (dk_at dksX6_adds_0 9 rfl rfl)
theorem dX6_adds_10 : decode cX6_adds 10 = .ok (.aload_n 0, 1) := dk_42 (dk_at dksX6_adds_0 10 rfl rfl)
theorem dX6_adds_11 : decode cX6_adds 11 = .ok (.getfield 15, 3) := dk_180 0 15 (dk_at dksX6_adds_0 11 rfl rfl)
theorem dX6_adds_14 : decode cX6_adds 14 = .ok (.aload_n 0, 1) := dk_42 (dk_at dksX6_adds_0 14 rfl rfl)
theorem dX6_adds_15 : decode cX6_adds 15 = .ok (.getfield 27, 3) := dk_180 0 27 (dk_at dksX6_adds_0 15 rfl rfl)
theorem dX6_adds_18 : decode cX6_adds 18 = .ok (.iload_n 2, 1) := dk_28 (dk_at dksX6_adds_0 18 rfl rfl)
theorem dX6_adds_19 : decode cX6_adds 19 = .ok (.iastore, 1) := dk_79 (dk_at dksX6_adds_0 19 rfl rfl)
theorem dX6_adds_20 : decode cX6_adds 20 = .ok (.aload_n 0, 1) := dk_42 (dk_at dksX6_adds_0 20 rfl rfl)
theorem dX6_adds_21 : decode cX6_adds 21 = .ok (.dup, 1) := dk_89 (dk_at dksX6_adds_0 21 rfl rfl)
theorem dX6_adds_22 : decode cX6_adds 22 = .ok (.getfield 27, 3) := dk_180 0 27 (dk_at dksX6_adds_1 0 rfl rfl)
theorem dX6_adds_25 : decode cX6_adds 25 = .ok (.iconst 1, 1) := dk_4 (dk_at dksX6_adds_1 3 rfl rfl)
theorem dX6_adds_26 : decode cX6_adds 26 = .ok (.iadd, 1) := dk_96 (dk_at dksX6_adds_1 4 rfl rfl)
theorem dX6_adds_27 : decode cX6_adds 27 = .ok (.putfield 27, 3) := dk_181 0 27 (dk_at dksX6_adds_1 5 rfl rfl)
theorem dX6_adds_30 : decode cX6_adds 30 = .ok (.return_, 1) := dk_177 (dk_at dksX6_adds_1 8 rfl rfl)
theorem q157 : (Jvm.Cond.initialized "GuestView$Op") ∈ lw_all := lw_g (lw_at lw_m1 6 rfl) rfl
theorem q301 : (Jvm.Cond.instantiable "GuestView$Op" (6 : Nat)) ∈ lw_all := lw_g (lw_at lw_m1 150 rfl) rfl
theorem q303 : (Jvm.Cond.instanceMethod ({ cls := "GuestView$Op", name := "<init>", desc := "()V" } : Jvm.MethodName)) ∈ lw_all := lw_g (lw_at lw_m1 152 rfl) rfl
theorem q304 : (Jvm.Cond.code ({ cls := "GuestView$Op", name := "<init>", desc := "()V" } : Jvm.MethodName) prog_11_method_1_code (1 : Nat) (Option.none : Option Jvm.ClassFile.FieldType)) ∈ lw_all := lw_g (lw_at lw_m1 153 rfl) rfl
theorem q305 : (Jvm.Cond.methodLink "GuestView$Op" (3 : Nat) ({ cls := "java/lang/Object", name := "<init>", desc := "()V" } : Jvm.MethodName)) ∈ lw_all := lw_g (lw_at lw_m1 154 rfl) rfl
theorem q306 : (Jvm.Cond.fieldLink "GuestView$Op" (9 : Nat) "GuestView$Op" "kinds" "[I") ∈ lw_all := lw_g (lw_at lw_m1 155 rfl) rfl
theorem q309 : (Jvm.Cond.fieldLink "GuestView$Op" (15 : Nat) "GuestView$Op" "numbers" "[I") ∈ lw_all := lw_g (lw_at lw_m1 158 rfl) rfl
theorem q312 : (Jvm.Cond.fieldLink "GuestView$Op" (18 : Nat) "GuestView$Op" "witness" "[I") ∈ lw_all := lw_g (lw_at lw_m1 161 rfl) rfl
theorem q314 : (Jvm.Cond.fieldLink "GuestView$Op" (27 : Nat) "GuestView$Op" "many" "I") ∈ lw_all := lw_g (lw_at lw_m1 163 rfl) rfl
theorem q319 : (Jvm.Cond.fieldLink "GuestView$Op" (31 : Nat) "GuestView$Op" "guarded" "Z") ∈ lw_all := lw_g (lw_at lw_m1 168 rfl) rfl
theorem q323 : (Jvm.Cond.fieldLink "GuestView$Op" (35 : Nat) "GuestView$Op" "patched" "Z") ∈ lw_all := lw_g (lw_at lw_m1 172 rfl) rfl
theorem q326 : (Jvm.Cond.laysFinal "GuestView$Op" "GuestView$Op" "kinds" "[I") ∈ lw_all := lw_g (lw_at lw_m1 175 rfl) rfl
theorem q327 : (Jvm.Cond.soleField "GuestView$Op" "kinds") ∈ lw_all := lw_g (lw_at lw_m1 176 rfl) rfl
theorem q328 : (Jvm.Cond.laysFinal "GuestView$Op" "GuestView$Op" "numbers" "[I") ∈ lw_all := lw_g (lw_at lw_m1 177 rfl) rfl
theorem q329 : (Jvm.Cond.soleField "GuestView$Op" "numbers") ∈ lw_all := lw_g (lw_at lw_m1 178 rfl) rfl
theorem q330 : (Jvm.Cond.laysFinal "GuestView$Op" "GuestView$Op" "witness" "[I") ∈ lw_all := lw_g (lw_at lw_m1 179 rfl) rfl
theorem q331 : (Jvm.Cond.soleField "GuestView$Op" "witness") ∈ lw_all := lw_g (lw_at lw_m1 180 rfl) rfl
theorem q332 : (Jvm.Cond.lays "GuestView$Op" "GuestView$Op" "many" "I") ∈ lw_all := lw_g (lw_at lw_m1 181 rfl) rfl
theorem q333 : (Jvm.Cond.soleField "GuestView$Op" "many") ∈ lw_all := lw_g (lw_at lw_m1 182 rfl) rfl
theorem q334 : (Jvm.Cond.lays "GuestView$Op" "GuestView$Op" "guarded" "Z") ∈ lw_all := lw_g (lw_at lw_m1 183 rfl) rfl
theorem q335 : (Jvm.Cond.soleField "GuestView$Op" "guarded") ∈ lw_all := lw_g (lw_at lw_m1 184 rfl) rfl
theorem q336 : (Jvm.Cond.lays "GuestView$Op" "GuestView$Op" "patched" "Z") ∈ lw_all := lw_g (lw_at lw_m1 185 rfl) rfl
theorem q337 : (Jvm.Cond.soleField "GuestView$Op" "patched") ∈ lw_all := lw_g (lw_at lw_m1 186 rfl) rfl
theorem q338 : (Jvm.Cond.superclass "GuestView$Op" "java/lang/Object") ∈ lw_all := lw_g (lw_at lw_m1 187 rfl) rfl
theorem q640 : (Jvm.Cond.instanceMethod ({ cls := "GuestView$Op", name := "be", desc := "(LGuestView$Op;)V" } : Jvm.MethodName)) ∈ lw_all := lw_g (lw_at lw_m3 9 rfl) rfl
theorem q641 : (Jvm.Cond.selects "GuestView$Op" ({ cls := "GuestView$Op", name := "be", desc := "(LGuestView$Op;)V" } : Jvm.MethodName) ({ cls := "GuestView$Op", name := "be", desc := "(LGuestView$Op;)V" } : Jvm.MethodName)) ∈ lw_all := lw_g (lw_at lw_m3 10 rfl) rfl
theorem q642 : (Jvm.Cond.code ({ cls := "GuestView$Op", name := "be", desc := "(LGuestView$Op;)V" } : Jvm.MethodName) prog_11_method_2_code (2 : Nat) (Option.none : Option Jvm.ClassFile.FieldType)) ∈ lw_all := lw_g (lw_at lw_m3 11 rfl) rfl
theorem q643 : (Jvm.Cond.methodLink "GuestView$Op" (21 : Nat) ({ cls := "java/lang/System", name := "arraycopy", desc := "(Ljava/lang/Object;ILjava/lang/Object;II)V" } : Jvm.MethodName)) ∈ lw_all := lw_g (lw_at lw_m3 12 rfl) rfl
theorem q672 : (Jvm.Cond.instanceMethod ({ cls := "GuestView$Op", name := "isSensitive", desc := "()Z" } : Jvm.MethodName)) ∈ lw_all := lw_g (lw_at lw_m3 41 rfl) rfl
theorem q673 : (Jvm.Cond.selects "GuestView$Op" ({ cls := "GuestView$Op", name := "isSensitive", desc := "()Z" } : Jvm.MethodName) ({ cls := "GuestView$Op", name := "isSensitive", desc := "()Z" } : Jvm.MethodName)) ∈ lw_all := lw_g (lw_at lw_m3 42 rfl) rfl
theorem q674 : (Jvm.Cond.code ({ cls := "GuestView$Op", name := "isSensitive", desc := "()Z" } : Jvm.MethodName) prog_11_method_6_code (1 : Nat) (Option.some Jvm.ClassFile.FieldType.boolean)) ∈ lw_all := lw_g (lw_at lw_m3 43 rfl) rfl
theorem q675 : (Jvm.Cond.methodLink "GuestView$Op" (38 : Nat) ({ cls := "GuestView$Op", name := "is", desc := "(I)Z" } : Jvm.MethodName)) ∈ lw_all := lw_g (lw_at lw_m3 44 rfl) rfl
theorem q676 : (Jvm.Cond.instanceMethod ({ cls := "GuestView$Op", name := "is", desc := "(I)Z" } : Jvm.MethodName)) ∈ lw_all := lw_g (lw_at lw_m3 45 rfl) rfl
theorem q677 : (Jvm.Cond.selects "GuestView$Op" ({ cls := "GuestView$Op", name := "is", desc := "(I)Z" } : Jvm.MethodName) ({ cls := "GuestView$Op", name := "is", desc := "(I)Z" } : Jvm.MethodName)) ∈ lw_all := lw_g (lw_at lw_m3 46 rfl) rfl
theorem q678 : (Jvm.Cond.code ({ cls := "GuestView$Op", name := "is", desc := "(I)Z" } : Jvm.MethodName) prog_11_method_5_code (2 : Nat) (Option.some Jvm.ClassFile.FieldType.boolean)) ∈ lw_all := lw_g (lw_at lw_m3 47 rfl) rfl
theorem q846 : (Jvm.Cond.instanceMethod ({ cls := "GuestView$Op", name := "touches", desc := "(II)Z" } : Jvm.MethodName)) ∈ lw_all := lw_g (lw_at lw_m3 215 rfl) rfl
theorem q847 : (Jvm.Cond.selects "GuestView$Op" ({ cls := "GuestView$Op", name := "touches", desc := "(II)Z" } : Jvm.MethodName) ({ cls := "GuestView$Op", name := "touches", desc := "(II)Z" } : Jvm.MethodName)) ∈ lw_all := lw_g (lw_at lw_m3 216 rfl) rfl
theorem q848 : (Jvm.Cond.code ({ cls := "GuestView$Op", name := "touches", desc := "(II)Z" } : Jvm.MethodName) prog_11_method_7_code (5 : Nat) (Option.some Jvm.ClassFile.FieldType.boolean)) ∈ lw_all := lw_g (lw_at lw_m3 217 rfl) rfl
theorem q876 : (Jvm.Cond.instanceMethod ({ cls := "GuestView$Op", name := "isLike", desc := "(LGuestView$Op;)Z" } : Jvm.MethodName)) ∈ lw_all := lw_g (lw_at lw_m4 5 rfl) rfl
theorem q877 : (Jvm.Cond.selects "GuestView$Op" ({ cls := "GuestView$Op", name := "isLike", desc := "(LGuestView$Op;)Z" } : Jvm.MethodName) ({ cls := "GuestView$Op", name := "isLike", desc := "(LGuestView$Op;)Z" } : Jvm.MethodName)) ∈ lw_all := lw_g (lw_at lw_m4 6 rfl) rfl
theorem q878 : (Jvm.Cond.code ({ cls := "GuestView$Op", name := "isLike", desc := "(LGuestView$Op;)Z" } : Jvm.MethodName) prog_11_method_8_code (4 : Nat) (Option.some Jvm.ClassFile.FieldType.boolean)) ∈ lw_all := lw_g (lw_at lw_m4 7 rfl) rfl
theorem q998 : (Jvm.Cond.instanceMethod ({ cls := "GuestView$Op", name := "begins", desc := "(Z)V" } : Jvm.MethodName)) ∈ lw_all := lw_g (lw_at lw_m4 127 rfl) rfl
theorem q999 : (Jvm.Cond.selects "GuestView$Op" ({ cls := "GuestView$Op", name := "begins", desc := "(Z)V" } : Jvm.MethodName) ({ cls := "GuestView$Op", name := "begins", desc := "(Z)V" } : Jvm.MethodName)) ∈ lw_all := lw_g (lw_at lw_m4 128 rfl) rfl
theorem q1000 : (Jvm.Cond.code ({ cls := "GuestView$Op", name := "begins", desc := "(Z)V" } : Jvm.MethodName) prog_11_method_3_code (2 : Nat) (Option.none : Option Jvm.ClassFile.FieldType)) ∈ lw_all := lw_g (lw_at lw_m4 129 rfl) rfl
theorem q1017 : (Jvm.Cond.instanceMethod ({ cls := "GuestView$Op", name := "adds", desc := "(II)V" } : Jvm.MethodName)) ∈ lw_all := lw_g (lw_at lw_m4 146 rfl) rfl
theorem q1018 : (Jvm.Cond.selects "GuestView$Op" ({ cls := "GuestView$Op", name := "adds", desc := "(II)V" } : Jvm.MethodName) ({ cls := "GuestView$Op", name := "adds", desc := "(II)V" } : Jvm.MethodName)) ∈ lw_all := lw_g (lw_at lw_m4 147 rfl) rfl
theorem q1019 : (Jvm.Cond.code ({ cls := "GuestView$Op", name := "adds", desc := "(II)V" } : Jvm.MethodName) prog_11_method_4_code (3 : Nat) (Option.none : Option Jvm.ClassFile.FieldType)) ∈ lw_all := lw_g (lw_at lw_m4 148 rfl) rfl
theorem q2444 : (Jvm.Cond.castable "GuestView$Op" "java/lang/Object") ∈ lw_tbl := lw_at lw_m10 133 rfl
theorem in_X6 : ∀ w ∈ wsX60, w ∈ lw_all := lw_in wsX60 [326, 328, 330, 332, 334, 336] (by decide +kernel) (by decide +kernel)
/-! GuestView$Wrong -/
set_option maxRecDepth 100000
def RX7 : String := "GuestView$Wrong"
def TX7 : u_T := fun k => match k with
  | 0 => ("java/lang/Throwable", "cause", "Ljava/lang/Throwable;", false)
  | 1 => ("java/lang/Throwable", "stackTrace", "[Ljava/lang/StackTraceElement;", false)
  | 2 => ("java/lang/Throwable", "suppressedExceptions", "Ljava/util/List;", false)
  | 3 => ("java/lang/Throwable", "detailMessage", "Ljava/lang/String;", false)
  | 4 => ("java/lang/Throwable", "backtrace", "Ljava/lang/Object;", false)
  | 5 => ("java/lang/Throwable", "depth", "I", false)
  | _ => ("GuestView$Wrong", "place", "I", false)
def tyX7 : Nat → FieldType := fun k => match k with
  | 0 => .object "java/lang/Throwable"
  | 1 => .array (.object "java/lang/StackTraceElement")
  | 2 => .object "java/util/List"
  | 3 => .object "java/lang/String"
  | 4 => .object "java/lang/Object"
  | 5 => .int
  | _ => .int
abbrev wsX70 : List Cond := u_ws RX7 TX7 7
theorem nmX7 : ∀ a, a < 7 → ∀ b, b < 7 → a ≠ b → (TX7 a).2.1 ≠ (TX7 b).2.1 := by decide +kernel
theorem tyX7_ok : ∀ k, k < 7 → parseFieldDescriptor (TX7 k).2.2.1 = some (tyX7 k) := by decide +kernel
abbrev cX7_init : ByteArray := prog_17_method_1_code
def yX7_init : MethodName := ⟨RX7, "<init>", "()V"⟩
def dkwX7_init_0 : List UInt8 := [42, 1, 1, 3, 3, 183, 0, 1, 177]
abbrev dktX7_init_0 : List UInt8 := dkwX7_init_0 ++ []
theorem dksX7_init_0 : cX7_init.data.toList.drop 0 = dktX7_init_0 := by decide +kernel
theorem dX7_init_0 : decode cX7_init 0 = .ok (.aload_n 0, 1) := dk_42 (dk_at dksX7_init_0 0 rfl rfl)
theorem dX7_init_1 : decode cX7_init 1 = .ok (.aconst_null, 1) := dk_1 (dk_at dksX7_init_0 1 rfl rfl)
theorem dX7_init_2 : decode cX7_init 2 = .ok (.aconst_null, 1) := dk_1 (dk_at dksX7_init_0 2 rfl rfl)
theorem dX7_init_3 : decode cX7_init 3 = .ok (.iconst 0, 1) := dk_3 (dk_at dksX7_init_0 3 rfl rfl)
theorem dX7_init_4 : decode cX7_init 4 = .ok (.iconst 0, 1) := dk_3 (dk_at dksX7_init_0 4 rfl rfl)
theorem dX7_init_5 : decode cX7_init 5 = .ok (.invokespecial 1, 3) := dk_183 0 1 (dk_at dksX7_init_0 5 rfl rfl)
theorem dX7_init_8 : decode cX7_init 8 = .ok (.return_, 1) := dk_177 (dk_at dksX7_init_0 8 rfl rfl)
theorem q161 : (Jvm.Cond.initialized "GuestView$Wrong") ∈ lw_all := lw_g (lw_at lw_m1 10 rfl) rfl
theorem q429 : (Jvm.Cond.instantiable "GuestView$Wrong" (7 : Nat)) ∈ lw_all := lw_g (lw_at lw_m2 38 rfl) rfl
theorem q430 : (Jvm.Cond.castable "GuestView$Wrong" "GuestView$Wrong") ∈ lw_tbl := lw_at lw_m2 39 rfl
theorem q437 : (Jvm.Cond.selects "GuestView$Wrong" ({ cls := "java/lang/Throwable", name := "fillInStackTrace", desc := "(I)Ljava/lang/Throwable;" } : Jvm.MethodName) ({ cls := "java/lang/Throwable", name := "fillInStackTrace", desc := "(I)Ljava/lang/Throwable;" } : Jvm.MethodName)) ∈ lw_all := lw_g (lw_at lw_m2 46 rfl) rfl
theorem q438 : (Jvm.Cond.selects "GuestView$Wrong" ({ cls := "java/lang/Throwable", name := "fillInStackTrace", desc := "()Ljava/lang/Throwable;" } : Jvm.MethodName) ({ cls := "java/lang/Throwable", name := "fillInStackTrace", desc := "()Ljava/lang/Throwable;" } : Jvm.MethodName)) ∈ lw_all := lw_g (lw_at lw_m2 47 rfl) rfl
theorem q439 : (Jvm.Cond.lays "GuestView$Wrong" "java/lang/Throwable" "cause" "Ljava/lang/Throwable;") ∈ lw_all := lw_g (lw_at lw_m2 48 rfl) rfl
theorem q441 : (Jvm.Cond.lays "GuestView$Wrong" "java/lang/Throwable" "stackTrace" "[Ljava/lang/StackTraceElement;") ∈ lw_all := lw_g (lw_at lw_m2 50 rfl) rfl
theorem q443 : (Jvm.Cond.lays "GuestView$Wrong" "java/lang/Throwable" "suppressedExceptions" "Ljava/util/List;") ∈ lw_all := lw_g (lw_at lw_m2 52 rfl) rfl
theorem q445 : (Jvm.Cond.lays "GuestView$Wrong" "java/lang/Throwable" "detailMessage" "Ljava/lang/String;") ∈ lw_all := lw_g (lw_at lw_m2 54 rfl) rfl
theorem q447 : (Jvm.Cond.lays "GuestView$Wrong" "java/lang/Throwable" "backtrace" "Ljava/lang/Object;") ∈ lw_all := lw_g (lw_at lw_m2 56 rfl) rfl
theorem q473 : (Jvm.Cond.instanceMethod ({ cls := "GuestView$Wrong", name := "<init>", desc := "()V" } : Jvm.MethodName)) ∈ lw_all := lw_g (lw_at lw_m2 82 rfl) rfl
theorem q474 : (Jvm.Cond.code ({ cls := "GuestView$Wrong", name := "<init>", desc := "()V" } : Jvm.MethodName) prog_17_method_1_code (1 : Nat) (Option.none : Option Jvm.ClassFile.FieldType)) ∈ lw_all := lw_g (lw_at lw_m2 83 rfl) rfl
theorem q475 : (Jvm.Cond.methodLink "GuestView$Wrong" (1 : Nat) ({ cls := "java/lang/RuntimeException", name := "<init>", desc := "(Ljava/lang/String;Ljava/lang/Throwable;ZZ)V" } : Jvm.MethodName)) ∈ lw_all := lw_g (lw_at lw_m2 84 rfl) rfl
theorem q491 : (Jvm.Cond.lays "GuestView$Wrong" "GuestView$Wrong" "place" "I") ∈ lw_all := lw_g (lw_at lw_m2 100 rfl) rfl
theorem q492 : (Jvm.Cond.soleField "GuestView$Wrong" "place") ∈ lw_all := lw_g (lw_at lw_m2 101 rfl) rfl
theorem q497 : (Jvm.Cond.lays "GuestView$Wrong" "java/lang/Throwable" "depth" "I") ∈ lw_all := lw_g (lw_at lw_m2 106 rfl) rfl
theorem q500 : (Jvm.Cond.superclass "GuestView$Wrong" "java/lang/RuntimeException") ∈ lw_all := lw_g (lw_at lw_m2 109 rfl) rfl
theorem q2445 : (Jvm.Cond.castable "GuestView$Wrong" "java/lang/Object") ∈ lw_tbl := lw_at lw_m10 134 rfl
theorem in_X7 : ∀ w ∈ wsX70, w ∈ lw_all := lw_in wsX70 [439, 441, 443, 445, 447, 497, 491] (by decide +kernel) (by decide +kernel)
/-! GuestView$Chain -/
set_option maxRecDepth 100000
def RX9 : String := "GuestView$Chain"
def TX9 : u_T := fun k => match k with
  | 0 => ("GuestView$Chain", "one", "LGuestView$Cond;", true)
  | 1 => ("GuestView$Chain", "all", "Z", true)
  | _ => ("GuestView$Chain", "next", "LGuestView$Chain;", false)
def tyX9 : Nat → FieldType := fun k => match k with
  | 0 => .object "GuestView$Cond"
  | 1 => .boolean
  | _ => .object "GuestView$Chain"
abbrev wsX90 : List Cond := u_ws RX9 TX9 3
theorem nmX9 : ∀ a, a < 3 → ∀ b, b < 3 → a ≠ b → (TX9 a).2.1 ≠ (TX9 b).2.1 := by decide +kernel
theorem tyX9_ok : ∀ k, k < 3 → parseFieldDescriptor (TX9 k).2.2.1 = some (tyX9 k) := by decide +kernel
abbrev cX9_holds : ByteArray := prog_3_method_2_code
def yX9_holds : MethodName := ⟨RX9, "holds", "([I)Z"⟩
def dkwX9_holds_2 : List UInt8 := [172]
abbrev dktX9_holds_2 : List UInt8 := dkwX9_holds_2 ++ []
def dkwX9_holds_1 : List UInt8 := [180, 0, 13, 154, 0, 7, 4, 167, 0, 4, 3, 172, 44, 180, 0, 23, 77, 167, 255, 217, 42, 180, 0, 13]
abbrev dktX9_holds_1 : List UInt8 := dkwX9_holds_1 ++ dktX9_holds_2
def dkwX9_holds_0 : List UInt8 := [42, 77, 44, 198, 0, 41, 44, 180, 0, 7, 43, 185, 0, 17, 2, 0, 42, 180, 0, 13, 159, 0, 16, 42]
abbrev dktX9_holds_0 : List UInt8 := dkwX9_holds_0 ++ dktX9_holds_1
theorem dksX9_holds_0 : cX9_holds.data.toList.drop 0 = dktX9_holds_0 := by decide +kernel
theorem dksX9_holds_1 : cX9_holds.data.toList.drop 24 = dktX9_holds_1 := dk_seg dksX9_holds_0 24 rfl rfl
theorem dksX9_holds_2 : cX9_holds.data.toList.drop 48 = dktX9_holds_2 := dk_seg dksX9_holds_1 24 rfl rfl
theorem dX9_holds_0 : decode cX9_holds 0 = .ok (.aload_n 0, 1) := dk_42 (dk_at dksX9_holds_0 0 rfl rfl)
theorem dX9_holds_1 : decode cX9_holds 1 = .ok (.astore_n 2, 1) := dk_77 (dk_at dksX9_holds_0 1 rfl rfl)
theorem dX9_holds_2 : decode cX9_holds 2 = .ok (.aload_n 2, 1) := dk_44 (dk_at dksX9_holds_0 2 rfl rfl)
theorem dX9_holds_3 : decode cX9_holds 3 = .ok (.ifnull 41, 3) := dk_198 0 41 (dk_at dksX9_holds_0 3 rfl rfl)
theorem dX9_holds_6 : decode cX9_holds 6 = .ok (.aload_n 2, 1) := dk_44 (dk_at dksX9_holds_0 6 rfl rfl)
theorem dX9_holds_7 : decode cX9_holds 7 = .ok (.getfield 7, 3) := dk_180 0 7 (dk_at dksX9_holds_0 7 rfl rfl)
theorem dX9_holds_10 : decode cX9_holds 10 = .ok (.aload_n 1, 1) := dk_43 (dk_at dksX9_holds_0 10 rfl rfl)
theorem dX9_holds_11 : decode cX9_holds 11 = .ok (.invokeinterface 17 2, 5) := by decide +kernel
theorem dX9_holds_16 : decode cX9_holds 16 = .ok (.aload_n 0, 1) := dk_42 (dk_at dksX9_holds_0 16 rfl rfl)
theorem dX9_holds_17 : decode cX9_holds 17 = .ok (.getfield 13, 3) := dk_180 0 13 (dk_at dksX9_holds_0 17 rfl rfl)
theorem dX9_holds_20 : decode cX9_holds 20 = .ok (.if_icmp .eq 16, 3) := dk_159 0 16 (dk_at dksX9_holds_0 20 rfl rfl)
theorem dX9_holds_23 : decode cX9_holds 23 = .ok (.aload_n 0, 1) := dk_42 (dk_at dksX9_holds_0 23 rfl rfl)
theorem dX9_holds_24 : decode cX9_holds 24 = .ok (.getfield 13, 3) := dk_180 0 13 (dk_at dksX9_holds_1 0 rfl rfl)
theorem dX9_holds_27 : decode cX9_holds 27 = .ok (.ifCond .ne 7, 3) := dk_154 0 7 (dk_at dksX9_holds_1 3 rfl rfl)
theorem dX9_holds_30 : decode cX9_holds 30 = .ok (.iconst 1, 1) := dk_4 (dk_at dksX9_holds_1 6 rfl rfl)
theorem dX9_holds_31 : decode cX9_holds 31 = .ok (.goto 4, 3) := dk_167 0 4 (dk_at dksX9_holds_1 7 rfl rfl)
theorem dX9_holds_34 : decode cX9_holds 34 = .ok (.iconst 0, 1) := dk_3 (dk_at dksX9_holds_1 10 rfl rfl)
theorem dX9_holds_35 : decode cX9_holds 35 = .ok (.ireturn, 1) := dk_172 (dk_at dksX9_holds_1 11 rfl rfl)
theorem dX9_holds_36 : decode cX9_holds 36 = .ok (.aload_n 2, 1) := dk_44 (dk_at dksX9_holds_1 12 rfl rfl)
theorem dX9_holds_37 : decode cX9_holds 37 = .ok (.getfield 23, 3) := dk_180 0 23 (dk_at dksX9_holds_1 13 rfl rfl)
theorem dX9_holds_40 : decode cX9_holds 40 = .ok (.astore_n 2, 1) := dk_77 (dk_at dksX9_holds_1 16 rfl rfl)
theorem dX9_holds_41 : decode cX9_holds 41 = .ok (.goto (-39), 3) := dk_167 255 217 (dk_at dksX9_holds_1 17 rfl rfl)
theorem dX9_holds_44 : decode cX9_holds 44 = .ok (.aload_n 0, 1) := dk_42 (dk_at dksX9_holds_1 20 rfl rfl)
theorem dX9_holds_45 : decode cX9_holds 45 = .ok (.getfield 13, 3) := dk_180 0 13 (dk_at dksX9_holds_1 21 rfl rfl)
theorem dX9_holds_48 : decode cX9_holds 48 = .ok (.ireturn, 1) := dk_172 (dk_at dksX9_holds_2 0 rfl rfl)
abbrev cX9_init : ByteArray := prog_3_method_1_code
def yX9_init : MethodName := ⟨RX9, "<init>", "(LGuestView$Cond;Z)V"⟩
def dkwX9_init_0 : List UInt8 := [42, 183, 0, 1, 42, 43, 181, 0, 7, 42, 28, 181, 0, 13, 177]
abbrev dktX9_init_0 : List UInt8 := dkwX9_init_0 ++ []
theorem dksX9_init_0 : cX9_init.data.toList.drop 0 = dktX9_init_0 := by decide +kernel
theorem dX9_init_0 : decode cX9_init 0 = .ok (.aload_n 0, 1) := dk_42 (dk_at dksX9_init_0 0 rfl rfl)
theorem dX9_init_1 : decode cX9_init 1 = .ok (.invokespecial 1, 3) := dk_183 0 1 (dk_at dksX9_init_0 1 rfl rfl)
theorem dX9_init_4 : decode cX9_init 4 = .ok (.aload_n 0, 1) := dk_42 (dk_at dksX9_init_0 4 rfl rfl)
theorem dX9_init_5 : decode cX9_init 5 = .ok (.aload_n 1, 1) := dk_43 (dk_at dksX9_init_0 5 rfl rfl)
theorem dX9_init_6 : decode cX9_init 6 = .ok (.putfield 7, 3) := dk_181 0 7 (dk_at dksX9_init_0 6 rfl rfl)
theorem dX9_init_9 : decode cX9_init 9 = .ok (.aload_n 0, 1) := dk_42 (dk_at dksX9_init_0 9 rfl rfl)
theorem dX9_init_10 : decode cX9_init 10 = .ok (.iload_n 2, 1) := dk_28 (dk_at dksX9_init_0 10 rfl rfl)
theorem dX9_init_11 : decode cX9_init 11 = .ok (.putfield 13, 3) := dk_181 0 13 (dk_at dksX9_init_0 11 rfl rfl)
theorem dX9_init_14 : decode cX9_init 14 = .ok (.return_, 1) := dk_177 (dk_at dksX9_init_0 14 rfl rfl)
theorem q170 : (Jvm.Cond.initialized "GuestView$Chain") ∈ lw_all := lw_g (lw_at lw_m1 19 rfl) rfl
theorem q770 : (Jvm.Cond.castable "GuestView$Chain" "GuestView$Cond") ∈ lw_tbl := lw_at lw_m3 139 rfl
theorem q771 : (Jvm.Cond.selects "GuestView$Chain" ({ cls := "GuestView$Cond", name := "holds", desc := "([I)Z" } : Jvm.MethodName) ({ cls := "GuestView$Chain", name := "holds", desc := "([I)Z" } : Jvm.MethodName)) ∈ lw_all := lw_g (lw_at lw_m3 140 rfl) rfl
theorem q772 : (Jvm.Cond.unhidden "GuestView$Chain" "holds" "([I)Z") ∈ lw_tbl := lw_at lw_m3 141 rfl
theorem q773 : (Jvm.Cond.instanceMethod ({ cls := "GuestView$Chain", name := "holds", desc := "([I)Z" } : Jvm.MethodName)) ∈ lw_all := lw_g (lw_at lw_m3 142 rfl) rfl
theorem q774 : (Jvm.Cond.publicMethod ({ cls := "GuestView$Chain", name := "holds", desc := "([I)Z" } : Jvm.MethodName)) ∈ lw_tbl := lw_at lw_m3 143 rfl
theorem q775 : (Jvm.Cond.code ({ cls := "GuestView$Chain", name := "holds", desc := "([I)Z" } : Jvm.MethodName) prog_3_method_2_code (3 : Nat) (Option.some Jvm.ClassFile.FieldType.boolean)) ∈ lw_all := lw_g (lw_at lw_m3 144 rfl) rfl
theorem q776 : (Jvm.Cond.interfaceEntry "GuestView$Chain" (17 : Nat)) ∈ lw_tbl := lw_at lw_m3 145 rfl
theorem q777 : (Jvm.Cond.methodLink "GuestView$Chain" (17 : Nat) ({ cls := "GuestView$Cond", name := "holds", desc := "([I)Z" } : Jvm.MethodName)) ∈ lw_all := lw_g (lw_at lw_m3 146 rfl) rfl
theorem q1149 : (Jvm.Cond.instantiable "GuestView$Chain" (3 : Nat)) ∈ lw_all := lw_g (lw_at lw_m5 38 rfl) rfl
theorem q1216 : (Jvm.Cond.instanceMethod ({ cls := "GuestView$Chain", name := "<init>", desc := "(LGuestView$Cond;Z)V" } : Jvm.MethodName)) ∈ lw_all := lw_g (lw_at lw_m5 105 rfl) rfl
theorem q1217 : (Jvm.Cond.code ({ cls := "GuestView$Chain", name := "<init>", desc := "(LGuestView$Cond;Z)V" } : Jvm.MethodName) prog_3_method_1_code (3 : Nat) (Option.none : Option Jvm.ClassFile.FieldType)) ∈ lw_all := lw_g (lw_at lw_m5 106 rfl) rfl
theorem q1218 : (Jvm.Cond.methodLink "GuestView$Chain" (1 : Nat) ({ cls := "java/lang/Object", name := "<init>", desc := "()V" } : Jvm.MethodName)) ∈ lw_all := lw_g (lw_at lw_m5 107 rfl) rfl
theorem q1219 : (Jvm.Cond.fieldLink "GuestView$Chain" (7 : Nat) "GuestView$Chain" "one" "LGuestView$Cond;") ∈ lw_all := lw_g (lw_at lw_m5 108 rfl) rfl
theorem q1220 : (Jvm.Cond.fieldLink "GuestView$Chain" (13 : Nat) "GuestView$Chain" "all" "Z") ∈ lw_all := lw_g (lw_at lw_m5 109 rfl) rfl
theorem q1221 : (Jvm.Cond.fieldLink "GuestView$Chain" (23 : Nat) "GuestView$Chain" "next" "LGuestView$Chain;") ∈ lw_all := lw_g (lw_at lw_m5 110 rfl) rfl
theorem q1223 : (Jvm.Cond.laysFinal "GuestView$Chain" "GuestView$Chain" "one" "LGuestView$Cond;") ∈ lw_all := lw_g (lw_at lw_m5 112 rfl) rfl
theorem q1224 : (Jvm.Cond.soleField "GuestView$Chain" "one") ∈ lw_all := lw_g (lw_at lw_m5 113 rfl) rfl
theorem q1225 : (Jvm.Cond.laysFinal "GuestView$Chain" "GuestView$Chain" "all" "Z") ∈ lw_all := lw_g (lw_at lw_m5 114 rfl) rfl
theorem q1226 : (Jvm.Cond.soleField "GuestView$Chain" "all") ∈ lw_all := lw_g (lw_at lw_m5 115 rfl) rfl
theorem q1227 : (Jvm.Cond.lays "GuestView$Chain" "GuestView$Chain" "next" "LGuestView$Chain;") ∈ lw_all := lw_g (lw_at lw_m5 116 rfl) rfl
theorem q1228 : (Jvm.Cond.soleField "GuestView$Chain" "next") ∈ lw_all := lw_g (lw_at lw_m5 117 rfl) rfl
theorem q1229 : (Jvm.Cond.superclass "GuestView$Chain" "java/lang/Object") ∈ lw_all := lw_g (lw_at lw_m5 118 rfl) rfl
theorem q2449 : (Jvm.Cond.castable "GuestView$Chain" "java/lang/Object") ∈ lw_tbl := lw_at lw_m10 138 rfl
theorem in_X9 : ∀ w ∈ wsX90, w ∈ lw_all := lw_in wsX90 [1223, 1225, 1227] (by decide +kernel) (by decide +kernel)
/-! GuestView$Tag -/
set_option maxRecDepth 100000
def RX10 : String := "GuestView$Tag"
def TX10 : u_T := fun k => match k with
  | _ => ("GuestView$Tag", "fact", "I", true)
def tyX10 : Nat → FieldType := fun k => match k with
  | _ => .int
abbrev wsX100 : List Cond := u_ws RX10 TX10 1
theorem nmX10 : ∀ a, a < 1 → ∀ b, b < 1 → a ≠ b → (TX10 a).2.1 ≠ (TX10 b).2.1 := by decide +kernel
theorem tyX10_ok : ∀ k, k < 1 → parseFieldDescriptor (TX10 k).2.2.1 = some (tyX10 k) := by decide +kernel
abbrev cX10_holds : ByteArray := prog_15_method_2_code
def yX10_holds : MethodName := ⟨RX10, "holds", "([I)Z"⟩
def dkwX10_holds_0 : List UInt8 := [43, 42, 180, 0, 7, 46, 153, 0, 7, 4, 167, 0, 4, 3, 172]
abbrev dktX10_holds_0 : List UInt8 := dkwX10_holds_0 ++ []
theorem dksX10_holds_0 : cX10_holds.data.toList.drop 0 = dktX10_holds_0 := by decide +kernel
theorem dX10_holds_0 : decode cX10_holds 0 = .ok (.aload_n 1, 1) := dk_43 (dk_at dksX10_holds_0 0 rfl rfl)
theorem dX10_holds_1 : decode cX10_holds 1 = .ok (.aload_n 0, 1) := dk_42 (dk_at dksX10_holds_0 1 rfl rfl)
theorem dX10_holds_2 : decode cX10_holds 2 = .ok (.getfield 7, 3) := dk_180 0 7 (dk_at dksX10_holds_0 2 rfl rfl)
theorem dX10_holds_5 : decode cX10_holds 5 = .ok (.iaload, 1) := dk_46 (dk_at dksX10_holds_0 5 rfl rfl)
theorem dX10_holds_6 : decode cX10_holds 6 = .ok (.ifCond .eq 7, 3) := dk_153 0 7 (dk_at dksX10_holds_0 6 rfl rfl)
theorem dX10_holds_9 : decode cX10_holds 9 = .ok (.iconst 1, 1) := dk_4 (dk_at dksX10_holds_0 9 rfl rfl)
theorem dX10_holds_10 : decode cX10_holds 10 = .ok (.goto 4, 3) := dk_167 0 4 (dk_at dksX10_holds_0 10 rfl rfl)
theorem dX10_holds_13 : decode cX10_holds 13 = .ok (.iconst 0, 1) := dk_3 (dk_at dksX10_holds_0 13 rfl rfl)
theorem dX10_holds_14 : decode cX10_holds 14 = .ok (.ireturn, 1) := dk_172 (dk_at dksX10_holds_0 14 rfl rfl)
abbrev cX10_init : ByteArray := prog_15_method_1_code
def yX10_init : MethodName := ⟨RX10, "<init>", "(I)V"⟩
def dkwX10_init_0 : List UInt8 := [42, 183, 0, 1, 42, 27, 181, 0, 7, 177]
abbrev dktX10_init_0 : List UInt8 := dkwX10_init_0 ++ []
theorem dksX10_init_0 : cX10_init.data.toList.drop 0 = dktX10_init_0 := by decide +kernel
theorem dX10_init_0 : decode cX10_init 0 = .ok (.aload_n 0, 1) := dk_42 (dk_at dksX10_init_0 0 rfl rfl)
theorem dX10_init_1 : decode cX10_init 1 = .ok (.invokespecial 1, 3) := dk_183 0 1 (dk_at dksX10_init_0 1 rfl rfl)
theorem dX10_init_4 : decode cX10_init 4 = .ok (.aload_n 0, 1) := dk_42 (dk_at dksX10_init_0 4 rfl rfl)
theorem dX10_init_5 : decode cX10_init 5 = .ok (.iload_n 1, 1) := dk_27 (dk_at dksX10_init_0 5 rfl rfl)
theorem dX10_init_6 : decode cX10_init 6 = .ok (.putfield 7, 3) := dk_181 0 7 (dk_at dksX10_init_0 6 rfl rfl)
theorem dX10_init_9 : decode cX10_init 9 = .ok (.return_, 1) := dk_177 (dk_at dksX10_init_0 9 rfl rfl)
theorem q171 : (Jvm.Cond.initialized "GuestView$Tag") ∈ lw_all := lw_g (lw_at lw_m1 20 rfl) rfl
theorem q796 : (Jvm.Cond.castable "GuestView$Tag" "GuestView$Cond") ∈ lw_tbl := lw_at lw_m3 165 rfl
theorem q797 : (Jvm.Cond.selects "GuestView$Tag" ({ cls := "GuestView$Cond", name := "holds", desc := "([I)Z" } : Jvm.MethodName) ({ cls := "GuestView$Tag", name := "holds", desc := "([I)Z" } : Jvm.MethodName)) ∈ lw_all := lw_g (lw_at lw_m3 166 rfl) rfl
theorem q798 : (Jvm.Cond.unhidden "GuestView$Tag" "holds" "([I)Z") ∈ lw_tbl := lw_at lw_m3 167 rfl
theorem q799 : (Jvm.Cond.instanceMethod ({ cls := "GuestView$Tag", name := "holds", desc := "([I)Z" } : Jvm.MethodName)) ∈ lw_all := lw_g (lw_at lw_m3 168 rfl) rfl
theorem q800 : (Jvm.Cond.publicMethod ({ cls := "GuestView$Tag", name := "holds", desc := "([I)Z" } : Jvm.MethodName)) ∈ lw_tbl := lw_at lw_m3 169 rfl
theorem q801 : (Jvm.Cond.code ({ cls := "GuestView$Tag", name := "holds", desc := "([I)Z" } : Jvm.MethodName) prog_15_method_2_code (2 : Nat) (Option.some Jvm.ClassFile.FieldType.boolean)) ∈ lw_all := lw_g (lw_at lw_m3 170 rfl) rfl
theorem q1160 : (Jvm.Cond.instantiable "GuestView$Tag" (1 : Nat)) ∈ lw_all := lw_g (lw_at lw_m5 49 rfl) rfl
theorem q1162 : (Jvm.Cond.instanceMethod ({ cls := "GuestView$Tag", name := "<init>", desc := "(I)V" } : Jvm.MethodName)) ∈ lw_all := lw_g (lw_at lw_m5 51 rfl) rfl
theorem q1163 : (Jvm.Cond.code ({ cls := "GuestView$Tag", name := "<init>", desc := "(I)V" } : Jvm.MethodName) prog_15_method_1_code (2 : Nat) (Option.none : Option Jvm.ClassFile.FieldType)) ∈ lw_all := lw_g (lw_at lw_m5 52 rfl) rfl
theorem q1164 : (Jvm.Cond.methodLink "GuestView$Tag" (1 : Nat) ({ cls := "java/lang/Object", name := "<init>", desc := "()V" } : Jvm.MethodName)) ∈ lw_all := lw_g (lw_at lw_m5 53 rfl) rfl
theorem q1165 : (Jvm.Cond.fieldLink "GuestView$Tag" (7 : Nat) "GuestView$Tag" "fact" "I") ∈ lw_all := lw_g (lw_at lw_m5 54 rfl) rfl
theorem q1166 : (Jvm.Cond.laysFinal "GuestView$Tag" "GuestView$Tag" "fact" "I") ∈ lw_all := lw_g (lw_at lw_m5 55 rfl) rfl
theorem q1167 : (Jvm.Cond.soleField "GuestView$Tag" "fact") ∈ lw_all := lw_g (lw_at lw_m5 56 rfl) rfl
theorem q1168 : (Jvm.Cond.superclass "GuestView$Tag" "java/lang/Object") ∈ lw_all := lw_g (lw_at lw_m5 57 rfl) rfl
theorem q2450 : (Jvm.Cond.castable "GuestView$Tag" "java/lang/Object") ∈ lw_tbl := lw_at lw_m10 139 rfl
theorem in_X10 : ∀ w ∈ wsX100, w ∈ lw_all := lw_in wsX100 [1166] (by decide +kernel) (by decide +kernel)
/-! GuestView$Sum -/
set_option maxRecDepth 100000
def RX11 : String := "GuestView$Sum"
def TX11 : u_T := fun k => match k with
  | 0 => ("GuestView$Sum", "times", "[I", true)
  | _ => ("GuestView$Sum", "number", "I", false)
def tyX11 : Nat → FieldType := fun k => match k with
  | 0 => .array .int
  | _ => .int
abbrev wsX110 : List Cond := u_ws RX11 TX11 2
theorem nmX11 : ∀ a, a < 2 → ∀ b, b < 2 → a ≠ b → (TX11 a).2.1 ≠ (TX11 b).2.1 := by decide +kernel
theorem tyX11_ok : ∀ k, k < 2 → parseFieldDescriptor (TX11 k).2.2.1 = some (tyX11 k) := by decide +kernel
abbrev cX11_of : ByteArray := prog_14_method_2_code
def yX11_of : MethodName := ⟨RX11, "of", "([I)I"⟩
def dkwX11_of_1 : List UInt8 := [96, 61, 132, 3, 1, 167, 255, 234, 28, 172]
abbrev dktX11_of_1 : List UInt8 := dkwX11_of_1 ++ []
def dkwX11_of_0 : List UInt8 := [42, 180, 0, 15, 61, 3, 62, 29, 16, 7, 162, 0, 22, 28, 42, 180, 0, 9, 29, 46, 43, 29, 46, 104]
abbrev dktX11_of_0 : List UInt8 := dkwX11_of_0 ++ dktX11_of_1
theorem dksX11_of_0 : cX11_of.data.toList.drop 0 = dktX11_of_0 := by decide +kernel
theorem dksX11_of_1 : cX11_of.data.toList.drop 24 = dktX11_of_1 := dk_seg dksX11_of_0 24 rfl rfl
theorem dX11_of_0 : decode cX11_of 0 = .ok (.aload_n 0, 1) := dk_42 (dk_at dksX11_of_0 0 rfl rfl)
theorem dX11_of_1 : decode cX11_of 1 = .ok (.getfield 15, 3) := dk_180 0 15 (dk_at dksX11_of_0 1 rfl rfl)
theorem dX11_of_4 : decode cX11_of 4 = .ok (.istore_n 2, 1) := dk_61 (dk_at dksX11_of_0 4 rfl rfl)
theorem dX11_of_5 : decode cX11_of 5 = .ok (.iconst 0, 1) := dk_3 (dk_at dksX11_of_0 5 rfl rfl)
theorem dX11_of_6 : decode cX11_of 6 = .ok (.istore_n 3, 1) := dk_62 (dk_at dksX11_of_0 6 rfl rfl)
theorem dX11_of_7 : decode cX11_of 7 = .ok (.iload_n 3, 1) := dk_29 (dk_at dksX11_of_0 7 rfl rfl)
theorem dX11_of_8 : decode cX11_of 8 = .ok (.bipush 7, 2) := dk_16 7 (dk_at dksX11_of_0 8 rfl rfl)
theorem dX11_of_10 : decode cX11_of 10 = .ok (.if_icmp .ge 22, 3) := dk_162 0 22 (dk_at dksX11_of_0 10 rfl rfl)
theorem dX11_of_13 : decode cX11_of 13 = .ok (.iload_n 2, 1) := dk_28 (dk_at dksX11_of_0 13 rfl rfl)
theorem dX11_of_14 : decode cX11_of 14 = .ok (.aload_n 0, 1) := dk_42 (dk_at dksX11_of_0 14 rfl rfl)
theorem dX11_of_15 : decode cX11_of 15 = .ok (.getfield 9, 3) := dk_180 0 9 (dk_at dksX11_of_0 15 rfl rfl)
theorem dX11_of_18 : decode cX11_of 18 = .ok (.iload_n 3, 1) := dk_29 (dk_at dksX11_of_0 18 rfl rfl)
theorem dX11_of_19 : decode cX11_of 19 = .ok (.iaload, 1) := dk_46 (dk_at dksX11_of_0 19 rfl rfl)
theorem dX11_of_20 : decode cX11_of 20 = .ok (.aload_n 1, 1) := dk_43 (dk_at dksX11_of_0 20 rfl rfl)
theorem dX11_of_21 : decode cX11_of 21 = .ok (.iload_n 3, 1) := dk_29 (dk_at dksX11_of_0 21 rfl rfl)
theorem dX11_of_22 : decode cX11_of 22 = .ok (.iaload, 1) := dk_46 (dk_at dksX11_of_0 22 rfl rfl)
theorem dX11_of_23 : decode cX11_of 23 = .ok (.imul, 1) := dk_104 (dk_at dksX11_of_0 23 rfl rfl)
theorem dX11_of_24 : decode cX11_of 24 = .ok (.iadd, 1) := dk_96 (dk_at dksX11_of_1 0 rfl rfl)
theorem dX11_of_25 : decode cX11_of 25 = .ok (.istore_n 2, 1) := dk_61 (dk_at dksX11_of_1 1 rfl rfl)
theorem dX11_of_26 : decode cX11_of 26 = .ok (.iinc 3 1, 3) := dk_132 3 1 (dk_at dksX11_of_1 2 rfl rfl)
theorem dX11_of_29 : decode cX11_of 29 = .ok (.goto (-22), 3) := dk_167 255 234 (dk_at dksX11_of_1 5 rfl rfl)
theorem dX11_of_32 : decode cX11_of 32 = .ok (.iload_n 2, 1) := dk_28 (dk_at dksX11_of_1 8 rfl rfl)
theorem dX11_of_33 : decode cX11_of 33 = .ok (.ireturn, 1) := dk_172 (dk_at dksX11_of_1 9 rfl rfl)
abbrev cX11_init : ByteArray := prog_14_method_1_code
def yX11_init : MethodName := ⟨RX11, "<init>", "()V"⟩
def dkwX11_init_0 : List UInt8 := [42, 183, 0, 3, 42, 16, 7, 188, 10, 181, 0, 9, 177]
abbrev dktX11_init_0 : List UInt8 := dkwX11_init_0 ++ []
theorem dksX11_init_0 : cX11_init.data.toList.drop 0 = dktX11_init_0 := by decide +kernel
theorem dX11_init_0 : decode cX11_init 0 = .ok (.aload_n 0, 1) := dk_42 (dk_at dksX11_init_0 0 rfl rfl)
theorem dX11_init_1 : decode cX11_init 1 = .ok (.invokespecial 3, 3) := dk_183 0 3 (dk_at dksX11_init_0 1 rfl rfl)
theorem dX11_init_4 : decode cX11_init 4 = .ok (.aload_n 0, 1) := dk_42 (dk_at dksX11_init_0 4 rfl rfl)
theorem dX11_init_5 : decode cX11_init 5 = .ok (.bipush 7, 2) := dk_16 7 (dk_at dksX11_init_0 5 rfl rfl)
theorem dX11_init_7 : decode cX11_init 7 = .ok (.newarray .int, 2) := dk_188_10 (dk_at dksX11_init_0 7 rfl rfl)
theorem dX11_init_9 : decode cX11_init 9 = .ok (.putfield 9, 3) := dk_181 0 9 (dk_at dksX11_init_0 9 rfl rfl)
theorem dX11_init_12 : decode cX11_init 12 = .ok (.return_, 1) := dk_177 (dk_at dksX11_init_0 12 rfl rfl)
theorem q172 : (Jvm.Cond.initialized "GuestView$Sum") ∈ lw_all := lw_g (lw_at lw_m1 21 rfl) rfl
theorem q785 : (Jvm.Cond.instanceMethod ({ cls := "GuestView$Sum", name := "of", desc := "([I)I" } : Jvm.MethodName)) ∈ lw_all := lw_g (lw_at lw_m3 154 rfl) rfl
theorem q786 : (Jvm.Cond.selects "GuestView$Sum" ({ cls := "GuestView$Sum", name := "of", desc := "([I)I" } : Jvm.MethodName) ({ cls := "GuestView$Sum", name := "of", desc := "([I)I" } : Jvm.MethodName)) ∈ lw_all := lw_g (lw_at lw_m3 155 rfl) rfl
theorem q787 : (Jvm.Cond.code ({ cls := "GuestView$Sum", name := "of", desc := "([I)I" } : Jvm.MethodName) prog_14_method_2_code (4 : Nat) (Option.some Jvm.ClassFile.FieldType.int)) ∈ lw_all := lw_g (lw_at lw_m3 156 rfl) rfl
theorem q1174 : (Jvm.Cond.instantiable "GuestView$Sum" (2 : Nat)) ∈ lw_all := lw_g (lw_at lw_m5 63 rfl) rfl
theorem q1176 : (Jvm.Cond.instanceMethod ({ cls := "GuestView$Sum", name := "<init>", desc := "()V" } : Jvm.MethodName)) ∈ lw_all := lw_g (lw_at lw_m5 65 rfl) rfl
theorem q1177 : (Jvm.Cond.code ({ cls := "GuestView$Sum", name := "<init>", desc := "()V" } : Jvm.MethodName) prog_14_method_1_code (1 : Nat) (Option.none : Option Jvm.ClassFile.FieldType)) ∈ lw_all := lw_g (lw_at lw_m5 66 rfl) rfl
theorem q1178 : (Jvm.Cond.methodLink "GuestView$Sum" (3 : Nat) ({ cls := "java/lang/Object", name := "<init>", desc := "()V" } : Jvm.MethodName)) ∈ lw_all := lw_g (lw_at lw_m5 67 rfl) rfl
theorem q1179 : (Jvm.Cond.fieldLink "GuestView$Sum" (9 : Nat) "GuestView$Sum" "times" "[I") ∈ lw_all := lw_g (lw_at lw_m5 68 rfl) rfl
theorem q1181 : (Jvm.Cond.fieldLink "GuestView$Sum" (15 : Nat) "GuestView$Sum" "number" "I") ∈ lw_all := lw_g (lw_at lw_m5 70 rfl) rfl
theorem q1183 : (Jvm.Cond.laysFinal "GuestView$Sum" "GuestView$Sum" "times" "[I") ∈ lw_all := lw_g (lw_at lw_m5 72 rfl) rfl
theorem q1184 : (Jvm.Cond.soleField "GuestView$Sum" "times") ∈ lw_all := lw_g (lw_at lw_m5 73 rfl) rfl
theorem q1185 : (Jvm.Cond.lays "GuestView$Sum" "GuestView$Sum" "number" "I") ∈ lw_all := lw_g (lw_at lw_m5 74 rfl) rfl
theorem q1186 : (Jvm.Cond.soleField "GuestView$Sum" "number") ∈ lw_all := lw_g (lw_at lw_m5 75 rfl) rfl
theorem q1187 : (Jvm.Cond.superclass "GuestView$Sum" "java/lang/Object") ∈ lw_all := lw_g (lw_at lw_m5 76 rfl) rfl
theorem q2451 : (Jvm.Cond.castable "GuestView$Sum" "java/lang/Object") ∈ lw_tbl := lw_at lw_m10 140 rfl
theorem in_X11 : ∀ w ∈ wsX110, w ∈ lw_all := lw_in wsX110 [1183, 1185] (by decide +kernel) (by decide +kernel)
/-! GuestView$Less -/
set_option maxRecDepth 100000
def RX12 : String := "GuestView$Less"
def TX12 : u_T := fun k => match k with
  | 0 => ("GuestView$Less", "low", "LGuestView$Sum;", true)
  | _ => ("GuestView$Less", "high", "LGuestView$Sum;", true)
def tyX12 : Nat → FieldType := fun k => match k with
  | 0 => .object "GuestView$Sum"
  | _ => .object "GuestView$Sum"
abbrev wsX120 : List Cond := u_ws RX12 TX12 2
theorem nmX12 : ∀ a, a < 2 → ∀ b, b < 2 → a ≠ b → (TX12 a).2.1 ≠ (TX12 b).2.1 := by decide +kernel
theorem tyX12_ok : ∀ k, k < 2 → parseFieldDescriptor (TX12 k).2.2.1 = some (tyX12 k) := by decide +kernel
abbrev cX12_holds : ByteArray := prog_7_method_2_code
def yX12_holds : MethodName := ⟨RX12, "holds", "([I)Z"⟩
def dkwX12_holds_1 : List UInt8 := [172]
abbrev dktX12_holds_1 : List UInt8 := dkwX12_holds_1 ++ []
def dkwX12_holds_0 : List UInt8 := [42, 180, 0, 7, 43, 182, 0, 16, 42, 180, 0, 13, 43, 182, 0, 16, 162, 0, 7, 4, 167, 0, 4, 3]
abbrev dktX12_holds_0 : List UInt8 := dkwX12_holds_0 ++ dktX12_holds_1
theorem dksX12_holds_0 : cX12_holds.data.toList.drop 0 = dktX12_holds_0 := by decide +kernel
theorem dksX12_holds_1 : cX12_holds.data.toList.drop 24 = dktX12_holds_1 := dk_seg dksX12_holds_0 24 rfl rfl
theorem dX12_holds_0 : decode cX12_holds 0 = .ok (.aload_n 0, 1) := dk_42 (dk_at dksX12_holds_0 0 rfl rfl)
theorem dX12_holds_1 : decode cX12_holds 1 = .ok (.getfield 7, 3) := dk_180 0 7 (dk_at dksX12_holds_0 1 rfl rfl)
theorem dX12_holds_4 : decode cX12_holds 4 = .ok (.aload_n 1, 1) := dk_43 (dk_at dksX12_holds_0 4 rfl rfl)
theorem dX12_holds_5 : decode cX12_holds 5 = .ok (.invokevirtual 16, 3) := dk_182 0 16 (dk_at dksX12_holds_0 5 rfl rfl)
theorem dX12_holds_8 : decode cX12_holds 8 = .ok (.aload_n 0, 1) := dk_42 (dk_at dksX12_holds_0 8 rfl rfl)
theorem dX12_holds_9 : decode cX12_holds 9 = .ok (.getfield 13, 3) := dk_180 0 13 (dk_at dksX12_holds_0 9 rfl rfl)
theorem dX12_holds_12 : decode cX12_holds 12 = .ok (.aload_n 1, 1) := dk_43 (dk_at dksX12_holds_0 12 rfl rfl)
theorem dX12_holds_13 : decode cX12_holds 13 = .ok (.invokevirtual 16, 3) := dk_182 0 16 (dk_at dksX12_holds_0 13 rfl rfl)
theorem dX12_holds_16 : decode cX12_holds 16 = .ok (.if_icmp .ge 7, 3) := dk_162 0 7 (dk_at dksX12_holds_0 16 rfl rfl)
theorem dX12_holds_19 : decode cX12_holds 19 = .ok (.iconst 1, 1) := dk_4 (dk_at dksX12_holds_0 19 rfl rfl)
theorem dX12_holds_20 : decode cX12_holds 20 = .ok (.goto 4, 3) := dk_167 0 4 (dk_at dksX12_holds_0 20 rfl rfl)
theorem dX12_holds_23 : decode cX12_holds 23 = .ok (.iconst 0, 1) := dk_3 (dk_at dksX12_holds_0 23 rfl rfl)
theorem dX12_holds_24 : decode cX12_holds 24 = .ok (.ireturn, 1) := dk_172 (dk_at dksX12_holds_1 0 rfl rfl)
abbrev cX12_init : ByteArray := prog_7_method_1_code
def yX12_init : MethodName := ⟨RX12, "<init>", "(LGuestView$Sum;LGuestView$Sum;)V"⟩
def dkwX12_init_0 : List UInt8 := [42, 183, 0, 1, 42, 43, 181, 0, 7, 42, 44, 181, 0, 13, 177]
abbrev dktX12_init_0 : List UInt8 := dkwX12_init_0 ++ []
theorem dksX12_init_0 : cX12_init.data.toList.drop 0 = dktX12_init_0 := by decide +kernel
theorem dX12_init_0 : decode cX12_init 0 = .ok (.aload_n 0, 1) := dk_42 (dk_at dksX12_init_0 0 rfl rfl)
theorem dX12_init_1 : decode cX12_init 1 = .ok (.invokespecial 1, 3) := dk_183 0 1 (dk_at dksX12_init_0 1 rfl rfl)
theorem dX12_init_4 : decode cX12_init 4 = .ok (.aload_n 0, 1) := dk_42 (dk_at dksX12_init_0 4 rfl rfl)
theorem dX12_init_5 : decode cX12_init 5 = .ok (.aload_n 1, 1) := dk_43 (dk_at dksX12_init_0 5 rfl rfl)
theorem dX12_init_6 : decode cX12_init 6 = .ok (.putfield 7, 3) := dk_181 0 7 (dk_at dksX12_init_0 6 rfl rfl)
theorem dX12_init_9 : decode cX12_init 9 = .ok (.aload_n 0, 1) := dk_42 (dk_at dksX12_init_0 9 rfl rfl)
theorem dX12_init_10 : decode cX12_init 10 = .ok (.aload_n 2, 1) := dk_44 (dk_at dksX12_init_0 10 rfl rfl)
theorem dX12_init_11 : decode cX12_init 11 = .ok (.putfield 13, 3) := dk_181 0 13 (dk_at dksX12_init_0 11 rfl rfl)
theorem dX12_init_14 : decode cX12_init 14 = .ok (.return_, 1) := dk_177 (dk_at dksX12_init_0 14 rfl rfl)
theorem q173 : (Jvm.Cond.initialized "GuestView$Less") ∈ lw_all := lw_g (lw_at lw_m1 22 rfl) rfl
theorem q778 : (Jvm.Cond.castable "GuestView$Less" "GuestView$Cond") ∈ lw_tbl := lw_at lw_m3 147 rfl
theorem q779 : (Jvm.Cond.selects "GuestView$Less" ({ cls := "GuestView$Cond", name := "holds", desc := "([I)Z" } : Jvm.MethodName) ({ cls := "GuestView$Less", name := "holds", desc := "([I)Z" } : Jvm.MethodName)) ∈ lw_all := lw_g (lw_at lw_m3 148 rfl) rfl
theorem q780 : (Jvm.Cond.unhidden "GuestView$Less" "holds" "([I)Z") ∈ lw_tbl := lw_at lw_m3 149 rfl
theorem q781 : (Jvm.Cond.instanceMethod ({ cls := "GuestView$Less", name := "holds", desc := "([I)Z" } : Jvm.MethodName)) ∈ lw_all := lw_g (lw_at lw_m3 150 rfl) rfl
theorem q782 : (Jvm.Cond.publicMethod ({ cls := "GuestView$Less", name := "holds", desc := "([I)Z" } : Jvm.MethodName)) ∈ lw_tbl := lw_at lw_m3 151 rfl
theorem q783 : (Jvm.Cond.code ({ cls := "GuestView$Less", name := "holds", desc := "([I)Z" } : Jvm.MethodName) prog_7_method_2_code (2 : Nat) (Option.some Jvm.ClassFile.FieldType.boolean)) ∈ lw_all := lw_g (lw_at lw_m3 152 rfl) rfl
theorem q784 : (Jvm.Cond.methodLink "GuestView$Less" (16 : Nat) ({ cls := "GuestView$Sum", name := "of", desc := "([I)I" } : Jvm.MethodName)) ∈ lw_all := lw_g (lw_at lw_m3 153 rfl) rfl
theorem q1193 : (Jvm.Cond.instantiable "GuestView$Less" (2 : Nat)) ∈ lw_all := lw_g (lw_at lw_m5 82 rfl) rfl
theorem q1195 : (Jvm.Cond.instanceMethod ({ cls := "GuestView$Less", name := "<init>", desc := "(LGuestView$Sum;LGuestView$Sum;)V" } : Jvm.MethodName)) ∈ lw_all := lw_g (lw_at lw_m5 84 rfl) rfl
theorem q1196 : (Jvm.Cond.code ({ cls := "GuestView$Less", name := "<init>", desc := "(LGuestView$Sum;LGuestView$Sum;)V" } : Jvm.MethodName) prog_7_method_1_code (3 : Nat) (Option.none : Option Jvm.ClassFile.FieldType)) ∈ lw_all := lw_g (lw_at lw_m5 85 rfl) rfl
theorem q1197 : (Jvm.Cond.methodLink "GuestView$Less" (1 : Nat) ({ cls := "java/lang/Object", name := "<init>", desc := "()V" } : Jvm.MethodName)) ∈ lw_all := lw_g (lw_at lw_m5 86 rfl) rfl
theorem q1198 : (Jvm.Cond.fieldLink "GuestView$Less" (7 : Nat) "GuestView$Less" "low" "LGuestView$Sum;") ∈ lw_all := lw_g (lw_at lw_m5 87 rfl) rfl
theorem q1199 : (Jvm.Cond.fieldLink "GuestView$Less" (13 : Nat) "GuestView$Less" "high" "LGuestView$Sum;") ∈ lw_all := lw_g (lw_at lw_m5 88 rfl) rfl
theorem q1200 : (Jvm.Cond.laysFinal "GuestView$Less" "GuestView$Less" "low" "LGuestView$Sum;") ∈ lw_all := lw_g (lw_at lw_m5 89 rfl) rfl
theorem q1201 : (Jvm.Cond.soleField "GuestView$Less" "low") ∈ lw_all := lw_g (lw_at lw_m5 90 rfl) rfl
theorem q1202 : (Jvm.Cond.laysFinal "GuestView$Less" "GuestView$Less" "high" "LGuestView$Sum;") ∈ lw_all := lw_g (lw_at lw_m5 91 rfl) rfl
theorem q1203 : (Jvm.Cond.soleField "GuestView$Less" "high") ∈ lw_all := lw_g (lw_at lw_m5 92 rfl) rfl
theorem q1204 : (Jvm.Cond.superclass "GuestView$Less" "java/lang/Object") ∈ lw_all := lw_g (lw_at lw_m5 93 rfl) rfl
theorem q2452 : (Jvm.Cond.castable "GuestView$Less" "java/lang/Object") ∈ lw_tbl := lw_at lw_m10 141 rfl
theorem in_X12 : ∀ w ∈ wsX120, w ∈ lw_all := lw_in wsX120 [1200, 1202] (by decide +kernel) (by decide +kernel)
/-! GuestView$Not -/
set_option maxRecDepth 100000
def RX13 : String := "GuestView$Not"
def TX13 : u_T := fun k => match k with
  | _ => ("GuestView$Not", "of", "LGuestView$Cond;", true)
def tyX13 : Nat → FieldType := fun k => match k with
  | _ => .object "GuestView$Cond"
abbrev wsX130 : List Cond := u_ws RX13 TX13 1
theorem nmX13 : ∀ a, a < 1 → ∀ b, b < 1 → a ≠ b → (TX13 a).2.1 ≠ (TX13 b).2.1 := by decide +kernel
theorem tyX13_ok : ∀ k, k < 1 → parseFieldDescriptor (TX13 k).2.2.1 = some (tyX13 k) := by decide +kernel
abbrev cX13_holds : ByteArray := prog_10_method_2_code
def yX13_holds : MethodName := ⟨RX13, "holds", "([I)Z"⟩
def dkwX13_holds_0 : List UInt8 := [42, 180, 0, 7, 43, 185, 0, 13, 2, 0, 154, 0, 7, 4, 167, 0, 4, 3, 172]
abbrev dktX13_holds_0 : List UInt8 := dkwX13_holds_0 ++ []
theorem dksX13_holds_0 : cX13_holds.data.toList.drop 0 = dktX13_holds_0 := by decide +kernel
theorem dX13_holds_0 : decode cX13_holds 0 = .ok (.aload_n 0, 1) := dk_42 (dk_at dksX13_holds_0 0 rfl rfl)
theorem dX13_holds_1 : decode cX13_holds 1 = .ok (.getfield 7, 3) := dk_180 0 7 (dk_at dksX13_holds_0 1 rfl rfl)
theorem dX13_holds_4 : decode cX13_holds 4 = .ok (.aload_n 1, 1) := dk_43 (dk_at dksX13_holds_0 4 rfl rfl)
theorem dX13_holds_5 : decode cX13_holds 5 = .ok (.invokeinterface 13 2, 5) := by decide +kernel
theorem dX13_holds_10 : decode cX13_holds 10 = .ok (.ifCond .ne 7, 3) := dk_154 0 7 (dk_at dksX13_holds_0 10 rfl rfl)
theorem dX13_holds_13 : decode cX13_holds 13 = .ok (.iconst 1, 1) := dk_4 (dk_at dksX13_holds_0 13 rfl rfl)
theorem dX13_holds_14 : decode cX13_holds 14 = .ok (.goto 4, 3) := dk_167 0 4 (dk_at dksX13_holds_0 14 rfl rfl)
theorem dX13_holds_17 : decode cX13_holds 17 = .ok (.iconst 0, 1) := dk_3 (dk_at dksX13_holds_0 17 rfl rfl)
theorem dX13_holds_18 : decode cX13_holds 18 = .ok (.ireturn, 1) := dk_172 (dk_at dksX13_holds_0 18 rfl rfl)
abbrev cX13_init : ByteArray := prog_10_method_1_code
def yX13_init : MethodName := ⟨RX13, "<init>", "(LGuestView$Cond;)V"⟩
def dkwX13_init_0 : List UInt8 := [42, 183, 0, 1, 42, 43, 181, 0, 7, 177]
abbrev dktX13_init_0 : List UInt8 := dkwX13_init_0 ++ []
theorem dksX13_init_0 : cX13_init.data.toList.drop 0 = dktX13_init_0 := by decide +kernel
theorem dX13_init_0 : decode cX13_init 0 = .ok (.aload_n 0, 1) := dk_42 (dk_at dksX13_init_0 0 rfl rfl)
theorem dX13_init_1 : decode cX13_init 1 = .ok (.invokespecial 1, 3) := dk_183 0 1 (dk_at dksX13_init_0 1 rfl rfl)
theorem dX13_init_4 : decode cX13_init 4 = .ok (.aload_n 0, 1) := dk_42 (dk_at dksX13_init_0 4 rfl rfl)
theorem dX13_init_5 : decode cX13_init 5 = .ok (.aload_n 1, 1) := dk_43 (dk_at dksX13_init_0 5 rfl rfl)
theorem dX13_init_6 : decode cX13_init 6 = .ok (.putfield 7, 3) := dk_181 0 7 (dk_at dksX13_init_0 6 rfl rfl)
theorem dX13_init_9 : decode cX13_init 9 = .ok (.return_, 1) := dk_177 (dk_at dksX13_init_0 9 rfl rfl)
theorem q174 : (Jvm.Cond.initialized "GuestView$Not") ∈ lw_all := lw_g (lw_at lw_m1 23 rfl) rfl
theorem q788 : (Jvm.Cond.castable "GuestView$Not" "GuestView$Cond") ∈ lw_tbl := lw_at lw_m3 157 rfl
theorem q789 : (Jvm.Cond.selects "GuestView$Not" ({ cls := "GuestView$Cond", name := "holds", desc := "([I)Z" } : Jvm.MethodName) ({ cls := "GuestView$Not", name := "holds", desc := "([I)Z" } : Jvm.MethodName)) ∈ lw_all := lw_g (lw_at lw_m3 158 rfl) rfl
theorem q790 : (Jvm.Cond.unhidden "GuestView$Not" "holds" "([I)Z") ∈ lw_tbl := lw_at lw_m3 159 rfl
theorem q791 : (Jvm.Cond.instanceMethod ({ cls := "GuestView$Not", name := "holds", desc := "([I)Z" } : Jvm.MethodName)) ∈ lw_all := lw_g (lw_at lw_m3 160 rfl) rfl
theorem q792 : (Jvm.Cond.publicMethod ({ cls := "GuestView$Not", name := "holds", desc := "([I)Z" } : Jvm.MethodName)) ∈ lw_tbl := lw_at lw_m3 161 rfl
theorem q793 : (Jvm.Cond.code ({ cls := "GuestView$Not", name := "holds", desc := "([I)Z" } : Jvm.MethodName) prog_10_method_2_code (2 : Nat) (Option.some Jvm.ClassFile.FieldType.boolean)) ∈ lw_all := lw_g (lw_at lw_m3 162 rfl) rfl
theorem q794 : (Jvm.Cond.interfaceEntry "GuestView$Not" (13 : Nat)) ∈ lw_tbl := lw_at lw_m3 163 rfl
theorem q795 : (Jvm.Cond.methodLink "GuestView$Not" (13 : Nat) ({ cls := "GuestView$Cond", name := "holds", desc := "([I)Z" } : Jvm.MethodName)) ∈ lw_all := lw_g (lw_at lw_m3 164 rfl) rfl
theorem q1206 : (Jvm.Cond.instantiable "GuestView$Not" (1 : Nat)) ∈ lw_all := lw_g (lw_at lw_m5 95 rfl) rfl
theorem q1208 : (Jvm.Cond.instanceMethod ({ cls := "GuestView$Not", name := "<init>", desc := "(LGuestView$Cond;)V" } : Jvm.MethodName)) ∈ lw_all := lw_g (lw_at lw_m5 97 rfl) rfl
theorem q1209 : (Jvm.Cond.code ({ cls := "GuestView$Not", name := "<init>", desc := "(LGuestView$Cond;)V" } : Jvm.MethodName) prog_10_method_1_code (2 : Nat) (Option.none : Option Jvm.ClassFile.FieldType)) ∈ lw_all := lw_g (lw_at lw_m5 98 rfl) rfl
theorem q1210 : (Jvm.Cond.methodLink "GuestView$Not" (1 : Nat) ({ cls := "java/lang/Object", name := "<init>", desc := "()V" } : Jvm.MethodName)) ∈ lw_all := lw_g (lw_at lw_m5 99 rfl) rfl
theorem q1211 : (Jvm.Cond.fieldLink "GuestView$Not" (7 : Nat) "GuestView$Not" "of" "LGuestView$Cond;") ∈ lw_all := lw_g (lw_at lw_m5 100 rfl) rfl
theorem q1212 : (Jvm.Cond.laysFinal "GuestView$Not" "GuestView$Not" "of" "LGuestView$Cond;") ∈ lw_all := lw_g (lw_at lw_m5 101 rfl) rfl
theorem q1213 : (Jvm.Cond.soleField "GuestView$Not" "of") ∈ lw_all := lw_g (lw_at lw_m5 102 rfl) rfl
theorem q1214 : (Jvm.Cond.superclass "GuestView$Not" "java/lang/Object") ∈ lw_all := lw_g (lw_at lw_m5 103 rfl) rfl
theorem q2453 : (Jvm.Cond.castable "GuestView$Not" "java/lang/Object") ∈ lw_tbl := lw_at lw_m10 142 rfl
theorem in_X13 : ∀ w ∈ wsX130, w ∈ lw_all := lw_in wsX130 [1212] (by decide +kernel) (by decide +kernel)
/-! GuestView$Line -/
set_option maxRecDepth 100000
def RX14 : String := "GuestView$Line"
abbrev cX14_adds : ByteArray := prog_8_method_2_code
def yX14_adds : MethodName := ⟨RX14, "adds", "([I)I"⟩
def dkwX14_adds_1 : List UInt8 := [167, 0, 4, 3, 172]
abbrev dktX14_adds_1 : List UInt8 := dkwX14_adds_1 ++ []
def dkwX14_adds_0 : List UInt8 := [42, 180, 0, 13, 198, 0, 16, 42, 180, 0, 13, 43, 185, 0, 17, 2, 0, 153, 0, 10, 42, 180, 0, 7]
abbrev dktX14_adds_0 : List UInt8 := dkwX14_adds_0 ++ dktX14_adds_1
theorem dksX14_adds_0 : cX14_adds.data.toList.drop 0 = dktX14_adds_0 := by decide +kernel
theorem dksX14_adds_1 : cX14_adds.data.toList.drop 24 = dktX14_adds_1 := dk_seg dksX14_adds_0 24 rfl rfl
theorem dX14_adds_0 : decode cX14_adds 0 = .ok (.aload_n 0, 1) := dk_42 (dk_at dksX14_adds_0 0 rfl rfl)
theorem dX14_adds_1 : decode cX14_adds 1 = .ok (.getfield 13, 3) := dk_180 0 13 (dk_at dksX14_adds_0 1 rfl rfl)
theorem dX14_adds_4 : decode cX14_adds 4 = .ok (.ifnull 16, 3) := dk_198 0 16 (dk_at dksX14_adds_0 4 rfl rfl)
theorem dX14_adds_7 : decode cX14_adds 7 = .ok (.aload_n 0, 1) := dk_42 (dk_at dksX14_adds_0 7 rfl rfl)
theorem dX14_adds_8 : decode cX14_adds 8 = .ok (.getfield 13, 3) := dk_180 0 13 (dk_at dksX14_adds_0 8 rfl rfl)
theorem dX14_adds_11 : decode cX14_adds 11 = .ok (.aload_n 1, 1) := dk_43 (dk_at dksX14_adds_0 11 rfl rfl)
theorem dX14_adds_12 : decode cX14_adds 12 = .ok (.invokeinterface 17 2, 5) := by decide +kernel
theorem dX14_adds_17 : decode cX14_adds 17 = .ok (.ifCond .eq 10, 3) := dk_153 0 10 (dk_at dksX14_adds_0 17 rfl rfl)
theorem dX14_adds_20 : decode cX14_adds 20 = .ok (.aload_n 0, 1) := dk_42 (dk_at dksX14_adds_0 20 rfl rfl)
theorem dX14_adds_21 : decode cX14_adds 21 = .ok (.getfield 7, 3) := dk_180 0 7 (dk_at dksX14_adds_0 21 rfl rfl)
theorem dX14_adds_24 : decode cX14_adds 24 = .ok (.goto 4, 3) := dk_167 0 4 (dk_at dksX14_adds_1 0 rfl rfl)
theorem dX14_adds_27 : decode cX14_adds 27 = .ok (.iconst 0, 1) := dk_3 (dk_at dksX14_adds_1 3 rfl rfl)
theorem dX14_adds_28 : decode cX14_adds 28 = .ok (.ireturn, 1) := dk_172 (dk_at dksX14_adds_1 4 rfl rfl)
abbrev cX14_init : ByteArray := prog_8_method_1_code
def yX14_init : MethodName := ⟨RX14, "<init>", "(ILGuestView$Cond;)V"⟩
def dkwX14_init_0 : List UInt8 := [42, 183, 0, 1, 42, 27, 181, 0, 7, 42, 44, 181, 0, 13, 177]
abbrev dktX14_init_0 : List UInt8 := dkwX14_init_0 ++ []
theorem dksX14_init_0 : cX14_init.data.toList.drop 0 = dktX14_init_0 := by decide +kernel
theorem dX14_init_0 : decode cX14_init 0 = .ok (.aload_n 0, 1) := dk_42 (dk_at dksX14_init_0 0 rfl rfl)
theorem dX14_init_1 : decode cX14_init 1 = .ok (.invokespecial 1, 3) := dk_183 0 1 (dk_at dksX14_init_0 1 rfl rfl)
theorem dX14_init_4 : decode cX14_init 4 = .ok (.aload_n 0, 1) := dk_42 (dk_at dksX14_init_0 4 rfl rfl)
theorem dX14_init_5 : decode cX14_init 5 = .ok (.iload_n 1, 1) := dk_27 (dk_at dksX14_init_0 5 rfl rfl)
theorem dX14_init_6 : decode cX14_init 6 = .ok (.putfield 7, 3) := dk_181 0 7 (dk_at dksX14_init_0 6 rfl rfl)
theorem dX14_init_9 : decode cX14_init 9 = .ok (.aload_n 0, 1) := dk_42 (dk_at dksX14_init_0 9 rfl rfl)
theorem dX14_init_10 : decode cX14_init 10 = .ok (.aload_n 2, 1) := dk_44 (dk_at dksX14_init_0 10 rfl rfl)
theorem dX14_init_11 : decode cX14_init 11 = .ok (.putfield 13, 3) := dk_181 0 13 (dk_at dksX14_init_0 11 rfl rfl)
theorem dX14_init_14 : decode cX14_init 14 = .ok (.return_, 1) := dk_177 (dk_at dksX14_init_0 14 rfl rfl)
theorem q175 : (Jvm.Cond.initialized "GuestView$Line") ∈ lw_all := lw_g (lw_at lw_m1 24 rfl) rfl
theorem q755 : (Jvm.Cond.declares ({ cls := "GuestView$Line", name := "to", desc := "(I[I)I" } : Jvm.MethodName)) ∈ lw_tbl := lw_at lw_m3 124 rfl
theorem q756 : (Jvm.Cond.sameMethod "GuestView$Line" "GuestView$Line" "to" "(I[I)I") ∈ lw_all := lw_g (lw_at lw_m3 125 rfl) rfl
theorem q762 : (Jvm.Cond.declares ({ cls := "GuestView$Line", name := "adds", desc := "([I)I" } : Jvm.MethodName)) ∈ lw_tbl := lw_at lw_m3 131 rfl
theorem q764 : (Jvm.Cond.instanceMethod ({ cls := "GuestView$Line", name := "adds", desc := "([I)I" } : Jvm.MethodName)) ∈ lw_all := lw_g (lw_at lw_m3 133 rfl) rfl
theorem q765 : (Jvm.Cond.code ({ cls := "GuestView$Line", name := "adds", desc := "([I)I" } : Jvm.MethodName) prog_8_method_2_code (2 : Nat) (Option.some Jvm.ClassFile.FieldType.int)) ∈ lw_all := lw_g (lw_at lw_m3 134 rfl) rfl
theorem q766 : (Jvm.Cond.interfaceEntry "GuestView$Line" (17 : Nat)) ∈ lw_tbl := lw_at lw_m3 135 rfl
theorem q767 : (Jvm.Cond.methodLink "GuestView$Line" (17 : Nat) ({ cls := "GuestView$Cond", name := "holds", desc := "([I)Z" } : Jvm.MethodName)) ∈ lw_all := lw_g (lw_at lw_m3 136 rfl) rfl
theorem q1238 : (Jvm.Cond.instanceMethod ({ cls := "GuestView$Line", name := "<init>", desc := "(ILGuestView$Cond;)V" } : Jvm.MethodName)) ∈ lw_all := lw_g (lw_at lw_m5 127 rfl) rfl
theorem q1239 : (Jvm.Cond.code ({ cls := "GuestView$Line", name := "<init>", desc := "(ILGuestView$Cond;)V" } : Jvm.MethodName) prog_8_method_1_code (3 : Nat) (Option.none : Option Jvm.ClassFile.FieldType)) ∈ lw_all := lw_g (lw_at lw_m5 128 rfl) rfl
theorem q1240 : (Jvm.Cond.methodLink "GuestView$Line" (1 : Nat) ({ cls := "java/lang/Object", name := "<init>", desc := "()V" } : Jvm.MethodName)) ∈ lw_all := lw_g (lw_at lw_m5 129 rfl) rfl
theorem q1241 : (Jvm.Cond.fieldLink "GuestView$Line" (7 : Nat) "GuestView$Line" "n" "I") ∈ lw_all := lw_g (lw_at lw_m5 130 rfl) rfl
theorem q1242 : (Jvm.Cond.fieldLink "GuestView$Line" (13 : Nat) "GuestView$Line" "cond" "LGuestView$Cond;") ∈ lw_all := lw_g (lw_at lw_m5 131 rfl) rfl
theorem q1244 : (Jvm.Cond.soleField "GuestView$Line" "n") ∈ lw_all := lw_g (lw_at lw_m5 133 rfl) rfl
theorem q1246 : (Jvm.Cond.soleField "GuestView$Line" "cond") ∈ lw_all := lw_g (lw_at lw_m5 135 rfl) rfl
/-! GuestView$Costs -/
set_option maxRecDepth 100000
def RX15 : String := "GuestView$Costs"
def TX15 : u_T := fun k => match k with
  | 0 => ("GuestView$Line", "n", "I", true)
  | _ => ("GuestView$Line", "cond", "LGuestView$Cond;", true)
def tyX15 : Nat → FieldType := fun k => match k with
  | 0 => .int
  | _ => .object "GuestView$Cond"
abbrev wsX150 : List Cond := u_ws RX15 TX15 2
theorem nmX15 : ∀ a, a < 2 → ∀ b, b < 2 → a ≠ b → (TX15 a).2.1 ≠ (TX15 b).2.1 := by decide +kernel
theorem tyX15_ok : ∀ k, k < 2 → parseFieldDescriptor (TX15 k).2.2.1 = some (tyX15 k) := by decide +kernel
abbrev cX15_to : ByteArray := prog_5_method_2_code
def yX15_to : MethodName := ⟨RX15, "to", "(I[I)I"⟩
def dkwX15_to_0 : List UInt8 := [27, 154, 0, 11, 42, 44, 182, 0, 7, 167, 0, 4, 3, 172]
abbrev dktX15_to_0 : List UInt8 := dkwX15_to_0 ++ []
theorem dksX15_to_0 : cX15_to.data.toList.drop 0 = dktX15_to_0 := by decide +kernel
theorem dX15_to_0 : decode cX15_to 0 = .ok (.iload_n 1, 1) := dk_27 (dk_at dksX15_to_0 0 rfl rfl)
theorem dX15_to_1 : decode cX15_to 1 = .ok (.ifCond .ne 11, 3) := dk_154 0 11 (dk_at dksX15_to_0 1 rfl rfl)
theorem dX15_to_4 : decode cX15_to 4 = .ok (.aload_n 0, 1) := dk_42 (dk_at dksX15_to_0 4 rfl rfl)
theorem dX15_to_5 : decode cX15_to 5 = .ok (.aload_n 2, 1) := dk_44 (dk_at dksX15_to_0 5 rfl rfl)
theorem dX15_to_6 : decode cX15_to 6 = .ok (.invokevirtual 7, 3) := dk_182 0 7 (dk_at dksX15_to_0 6 rfl rfl)
theorem dX15_to_9 : decode cX15_to 9 = .ok (.goto 4, 3) := dk_167 0 4 (dk_at dksX15_to_0 9 rfl rfl)
theorem dX15_to_12 : decode cX15_to 12 = .ok (.iconst 0, 1) := dk_3 (dk_at dksX15_to_0 12 rfl rfl)
theorem dX15_to_13 : decode cX15_to 13 = .ok (.ireturn, 1) := dk_172 (dk_at dksX15_to_0 13 rfl rfl)
abbrev cX15_init : ByteArray := prog_5_method_1_code
def yX15_init : MethodName := ⟨RX15, "<init>", "(ILGuestView$Cond;)V"⟩
def dkwX15_init_0 : List UInt8 := [42, 27, 44, 183, 0, 1, 177]
abbrev dktX15_init_0 : List UInt8 := dkwX15_init_0 ++ []
theorem dksX15_init_0 : cX15_init.data.toList.drop 0 = dktX15_init_0 := by decide +kernel
theorem dX15_init_0 : decode cX15_init 0 = .ok (.aload_n 0, 1) := dk_42 (dk_at dksX15_init_0 0 rfl rfl)
theorem dX15_init_1 : decode cX15_init 1 = .ok (.iload_n 1, 1) := dk_27 (dk_at dksX15_init_0 1 rfl rfl)
theorem dX15_init_2 : decode cX15_init 2 = .ok (.aload_n 2, 1) := dk_44 (dk_at dksX15_init_0 2 rfl rfl)
theorem dX15_init_3 : decode cX15_init 3 = .ok (.invokespecial 1, 3) := dk_183 0 1 (dk_at dksX15_init_0 3 rfl rfl)
theorem dX15_init_6 : decode cX15_init 6 = .ok (.return_, 1) := dk_177 (dk_at dksX15_init_0 6 rfl rfl)
theorem q176 : (Jvm.Cond.initialized "GuestView$Costs") ∈ lw_all := lw_g (lw_at lw_m1 25 rfl) rfl
theorem q802 : (Jvm.Cond.selects "GuestView$Costs" ({ cls := "GuestView$Line", name := "to", desc := "(I[I)I" } : Jvm.MethodName) ({ cls := "GuestView$Costs", name := "to", desc := "(I[I)I" } : Jvm.MethodName)) ∈ lw_all := lw_g (lw_at lw_m3 171 rfl) rfl
theorem q803 : (Jvm.Cond.instanceMethod ({ cls := "GuestView$Costs", name := "to", desc := "(I[I)I" } : Jvm.MethodName)) ∈ lw_all := lw_g (lw_at lw_m3 172 rfl) rfl
theorem q804 : (Jvm.Cond.code ({ cls := "GuestView$Costs", name := "to", desc := "(I[I)I" } : Jvm.MethodName) prog_5_method_2_code (3 : Nat) (Option.some Jvm.ClassFile.FieldType.int)) ∈ lw_all := lw_g (lw_at lw_m3 173 rfl) rfl
theorem q805 : (Jvm.Cond.methodLink "GuestView$Costs" (7 : Nat) ({ cls := "GuestView$Costs", name := "adds", desc := "([I)I" } : Jvm.MethodName)) ∈ lw_all := lw_g (lw_at lw_m3 174 rfl) rfl
theorem q806 : (Jvm.Cond.sameMethod "GuestView$Costs" "GuestView$Line" "adds" "([I)I") ∈ lw_all := lw_g (lw_at lw_m3 175 rfl) rfl
theorem q807 : (Jvm.Cond.selects "GuestView$Costs" ({ cls := "GuestView$Costs", name := "adds", desc := "([I)I" } : Jvm.MethodName) ({ cls := "GuestView$Line", name := "adds", desc := "([I)I" } : Jvm.MethodName)) ∈ lw_all := lw_g (lw_at lw_m3 176 rfl) rfl
theorem q1233 : (Jvm.Cond.instantiable "GuestView$Costs" (2 : Nat)) ∈ lw_all := lw_g (lw_at lw_m5 122 rfl) rfl
theorem q1235 : (Jvm.Cond.instanceMethod ({ cls := "GuestView$Costs", name := "<init>", desc := "(ILGuestView$Cond;)V" } : Jvm.MethodName)) ∈ lw_all := lw_g (lw_at lw_m5 124 rfl) rfl
theorem q1236 : (Jvm.Cond.code ({ cls := "GuestView$Costs", name := "<init>", desc := "(ILGuestView$Cond;)V" } : Jvm.MethodName) prog_5_method_1_code (3 : Nat) (Option.none : Option Jvm.ClassFile.FieldType)) ∈ lw_all := lw_g (lw_at lw_m5 125 rfl) rfl
theorem q1237 : (Jvm.Cond.methodLink "GuestView$Costs" (1 : Nat) ({ cls := "GuestView$Line", name := "<init>", desc := "(ILGuestView$Cond;)V" } : Jvm.MethodName)) ∈ lw_all := lw_g (lw_at lw_m5 126 rfl) rfl
theorem q1243 : (Jvm.Cond.laysFinal "GuestView$Costs" "GuestView$Line" "n" "I") ∈ lw_all := lw_g (lw_at lw_m5 132 rfl) rfl
theorem q1245 : (Jvm.Cond.laysFinal "GuestView$Costs" "GuestView$Line" "cond" "LGuestView$Cond;") ∈ lw_all := lw_g (lw_at lw_m5 134 rfl) rfl
theorem q1247 : (Jvm.Cond.superclass "GuestView$Costs" "GuestView$Line") ∈ lw_all := lw_g (lw_at lw_m5 136 rfl) rfl
theorem q2454 : (Jvm.Cond.castable "GuestView$Costs" "java/lang/Object") ∈ lw_tbl := lw_at lw_m10 143 rfl
theorem q2462 : (Jvm.Cond.castable "GuestView$Costs" "GuestView$Line") ∈ lw_tbl := lw_at lw_m10 151 rfl
theorem in_X15 : ∀ w ∈ wsX150, w ∈ lw_all := lw_in wsX150 [1243, 1245] (by decide +kernel) (by decide +kernel)
/-! GuestView$Blames -/
set_option maxRecDepth 100000
def RX16 : String := "GuestView$Blames"
def TX16 : u_T := fun k => match k with
  | 0 => ("GuestView$Line", "n", "I", true)
  | _ => ("GuestView$Line", "cond", "LGuestView$Cond;", true)
def tyX16 : Nat → FieldType := fun k => match k with
  | 0 => .int
  | _ => .object "GuestView$Cond"
abbrev wsX160 : List Cond := u_ws RX16 TX16 2
theorem nmX16 : ∀ a, a < 2 → ∀ b, b < 2 → a ≠ b → (TX16 a).2.1 ≠ (TX16 b).2.1 := by decide +kernel
theorem tyX16_ok : ∀ k, k < 2 → parseFieldDescriptor (TX16 k).2.2.1 = some (tyX16 k) := by decide +kernel
abbrev cX16_to : ByteArray := prog_2_method_2_code
def yX16_to : MethodName := ⟨RX16, "to", "(I[I)I"⟩
def dkwX16_to_0 : List UInt8 := [27, 4, 160, 0, 11, 42, 44, 182, 0, 7, 167, 0, 4, 3, 172]
abbrev dktX16_to_0 : List UInt8 := dkwX16_to_0 ++ []
theorem dksX16_to_0 : cX16_to.data.toList.drop 0 = dktX16_to_0 := by decide +kernel
theorem dX16_to_0 : decode cX16_to 0 = .ok (.iload_n 1, 1) := dk_27 (dk_at dksX16_to_0 0 rfl rfl)
theorem dX16_to_1 : decode cX16_to 1 = .ok (.iconst 1, 1) := dk_4 (dk_at dksX16_to_0 1 rfl rfl)
theorem dX16_to_2 : decode cX16_to 2 = .ok (.if_icmp .ne 11, 3) := dk_160 0 11 (dk_at dksX16_to_0 2 rfl rfl)
theorem dX16_to_5 : decode cX16_to 5 = .ok (.aload_n 0, 1) := dk_42 (dk_at dksX16_to_0 5 rfl rfl)
theorem dX16_to_6 : decode cX16_to 6 = .ok (.aload_n 2, 1) := dk_44 (dk_at dksX16_to_0 6 rfl rfl)
theorem dX16_to_7 : decode cX16_to 7 = .ok (.invokevirtual 7, 3) := dk_182 0 7 (dk_at dksX16_to_0 7 rfl rfl)
theorem dX16_to_10 : decode cX16_to 10 = .ok (.goto 4, 3) := dk_167 0 4 (dk_at dksX16_to_0 10 rfl rfl)
theorem dX16_to_13 : decode cX16_to 13 = .ok (.iconst 0, 1) := dk_3 (dk_at dksX16_to_0 13 rfl rfl)
theorem dX16_to_14 : decode cX16_to 14 = .ok (.ireturn, 1) := dk_172 (dk_at dksX16_to_0 14 rfl rfl)
abbrev cX16_init : ByteArray := prog_2_method_1_code
def yX16_init : MethodName := ⟨RX16, "<init>", "(ILGuestView$Cond;)V"⟩
def dkwX16_init_0 : List UInt8 := [42, 27, 44, 183, 0, 1, 177]
abbrev dktX16_init_0 : List UInt8 := dkwX16_init_0 ++ []
theorem dksX16_init_0 : cX16_init.data.toList.drop 0 = dktX16_init_0 := by decide +kernel
theorem dX16_init_0 : decode cX16_init 0 = .ok (.aload_n 0, 1) := dk_42 (dk_at dksX16_init_0 0 rfl rfl)
theorem dX16_init_1 : decode cX16_init 1 = .ok (.iload_n 1, 1) := dk_27 (dk_at dksX16_init_0 1 rfl rfl)
theorem dX16_init_2 : decode cX16_init 2 = .ok (.aload_n 2, 1) := dk_44 (dk_at dksX16_init_0 2 rfl rfl)
theorem dX16_init_3 : decode cX16_init 3 = .ok (.invokespecial 1, 3) := dk_183 0 1 (dk_at dksX16_init_0 3 rfl rfl)
theorem dX16_init_6 : decode cX16_init 6 = .ok (.return_, 1) := dk_177 (dk_at dksX16_init_0 6 rfl rfl)
theorem q177 : (Jvm.Cond.initialized "GuestView$Blames") ∈ lw_all := lw_g (lw_at lw_m1 26 rfl) rfl
theorem q757 : (Jvm.Cond.selects "GuestView$Blames" ({ cls := "GuestView$Line", name := "to", desc := "(I[I)I" } : Jvm.MethodName) ({ cls := "GuestView$Blames", name := "to", desc := "(I[I)I" } : Jvm.MethodName)) ∈ lw_all := lw_g (lw_at lw_m3 126 rfl) rfl
theorem q758 : (Jvm.Cond.instanceMethod ({ cls := "GuestView$Blames", name := "to", desc := "(I[I)I" } : Jvm.MethodName)) ∈ lw_all := lw_g (lw_at lw_m3 127 rfl) rfl
theorem q759 : (Jvm.Cond.code ({ cls := "GuestView$Blames", name := "to", desc := "(I[I)I" } : Jvm.MethodName) prog_2_method_2_code (3 : Nat) (Option.some Jvm.ClassFile.FieldType.int)) ∈ lw_all := lw_g (lw_at lw_m3 128 rfl) rfl
theorem q760 : (Jvm.Cond.methodLink "GuestView$Blames" (7 : Nat) ({ cls := "GuestView$Blames", name := "adds", desc := "([I)I" } : Jvm.MethodName)) ∈ lw_all := lw_g (lw_at lw_m3 129 rfl) rfl
theorem q761 : (Jvm.Cond.sameMethod "GuestView$Blames" "GuestView$Line" "adds" "([I)I") ∈ lw_all := lw_g (lw_at lw_m3 130 rfl) rfl
theorem q763 : (Jvm.Cond.selects "GuestView$Blames" ({ cls := "GuestView$Blames", name := "adds", desc := "([I)I" } : Jvm.MethodName) ({ cls := "GuestView$Line", name := "adds", desc := "([I)I" } : Jvm.MethodName)) ∈ lw_all := lw_g (lw_at lw_m3 132 rfl) rfl
theorem q1249 : (Jvm.Cond.instantiable "GuestView$Blames" (2 : Nat)) ∈ lw_all := lw_g (lw_at lw_m5 138 rfl) rfl
theorem q1251 : (Jvm.Cond.instanceMethod ({ cls := "GuestView$Blames", name := "<init>", desc := "(ILGuestView$Cond;)V" } : Jvm.MethodName)) ∈ lw_all := lw_g (lw_at lw_m5 140 rfl) rfl
theorem q1252 : (Jvm.Cond.code ({ cls := "GuestView$Blames", name := "<init>", desc := "(ILGuestView$Cond;)V" } : Jvm.MethodName) prog_2_method_1_code (3 : Nat) (Option.none : Option Jvm.ClassFile.FieldType)) ∈ lw_all := lw_g (lw_at lw_m5 141 rfl) rfl
theorem q1253 : (Jvm.Cond.methodLink "GuestView$Blames" (1 : Nat) ({ cls := "GuestView$Line", name := "<init>", desc := "(ILGuestView$Cond;)V" } : Jvm.MethodName)) ∈ lw_all := lw_g (lw_at lw_m5 142 rfl) rfl
theorem q1254 : (Jvm.Cond.laysFinal "GuestView$Blames" "GuestView$Line" "n" "I") ∈ lw_all := lw_g (lw_at lw_m5 143 rfl) rfl
theorem q1255 : (Jvm.Cond.laysFinal "GuestView$Blames" "GuestView$Line" "cond" "LGuestView$Cond;") ∈ lw_all := lw_g (lw_at lw_m5 144 rfl) rfl
theorem q1256 : (Jvm.Cond.superclass "GuestView$Blames" "GuestView$Line") ∈ lw_all := lw_g (lw_at lw_m5 145 rfl) rfl
theorem q2455 : (Jvm.Cond.castable "GuestView$Blames" "java/lang/Object") ∈ lw_tbl := lw_at lw_m10 144 rfl
theorem q2463 : (Jvm.Cond.castable "GuestView$Blames" "GuestView$Line") ∈ lw_tbl := lw_at lw_m10 152 rfl
theorem in_X16 : ∀ w ∈ wsX160, w ∈ lw_all := lw_in wsX160 [1254, 1255] (by decide +kernel) (by decide +kernel)
/-! GuestView$Worths -/
set_option maxRecDepth 100000
def RX17 : String := "GuestView$Worths"
def TX17 : u_T := fun k => match k with
  | 0 => ("GuestView$Line", "n", "I", true)
  | _ => ("GuestView$Line", "cond", "LGuestView$Cond;", true)
def tyX17 : Nat → FieldType := fun k => match k with
  | 0 => .int
  | _ => .object "GuestView$Cond"
abbrev wsX170 : List Cond := u_ws RX17 TX17 2
theorem nmX17 : ∀ a, a < 2 → ∀ b, b < 2 → a ≠ b → (TX17 a).2.1 ≠ (TX17 b).2.1 := by decide +kernel
theorem tyX17_ok : ∀ k, k < 2 → parseFieldDescriptor (TX17 k).2.2.1 = some (tyX17 k) := by decide +kernel
abbrev cX17_to : ByteArray := prog_16_method_2_code
def yX17_to : MethodName := ⟨RX17, "to", "(I[I)I"⟩
def dkwX17_to_0 : List UInt8 := [27, 5, 160, 0, 11, 42, 44, 182, 0, 7, 167, 0, 4, 3, 172]
abbrev dktX17_to_0 : List UInt8 := dkwX17_to_0 ++ []
theorem dksX17_to_0 : cX17_to.data.toList.drop 0 = dktX17_to_0 := by decide +kernel
theorem dX17_to_0 : decode cX17_to 0 = .ok (.iload_n 1, 1) := dk_27 (dk_at dksX17_to_0 0 rfl rfl)
theorem dX17_to_1 : decode cX17_to 1 = .ok (.iconst 2, 1) := dk_5 (dk_at dksX17_to_0 1 rfl rfl)
theorem dX17_to_2 : decode cX17_to 2 = .ok (.if_icmp .ne 11, 3) := dk_160 0 11 (dk_at dksX17_to_0 2 rfl rfl)
theorem dX17_to_5 : decode cX17_to 5 = .ok (.aload_n 0, 1) := dk_42 (dk_at dksX17_to_0 5 rfl rfl)
theorem dX17_to_6 : decode cX17_to 6 = .ok (.aload_n 2, 1) := dk_44 (dk_at dksX17_to_0 6 rfl rfl)
theorem dX17_to_7 : decode cX17_to 7 = .ok (.invokevirtual 7, 3) := dk_182 0 7 (dk_at dksX17_to_0 7 rfl rfl)
theorem dX17_to_10 : decode cX17_to 10 = .ok (.goto 4, 3) := dk_167 0 4 (dk_at dksX17_to_0 10 rfl rfl)
theorem dX17_to_13 : decode cX17_to 13 = .ok (.iconst 0, 1) := dk_3 (dk_at dksX17_to_0 13 rfl rfl)
theorem dX17_to_14 : decode cX17_to 14 = .ok (.ireturn, 1) := dk_172 (dk_at dksX17_to_0 14 rfl rfl)
abbrev cX17_init : ByteArray := prog_16_method_1_code
def yX17_init : MethodName := ⟨RX17, "<init>", "(ILGuestView$Cond;)V"⟩
def dkwX17_init_0 : List UInt8 := [42, 27, 44, 183, 0, 1, 177]
abbrev dktX17_init_0 : List UInt8 := dkwX17_init_0 ++ []
theorem dksX17_init_0 : cX17_init.data.toList.drop 0 = dktX17_init_0 := by decide +kernel
theorem dX17_init_0 : decode cX17_init 0 = .ok (.aload_n 0, 1) := dk_42 (dk_at dksX17_init_0 0 rfl rfl)
theorem dX17_init_1 : decode cX17_init 1 = .ok (.iload_n 1, 1) := dk_27 (dk_at dksX17_init_0 1 rfl rfl)
theorem dX17_init_2 : decode cX17_init 2 = .ok (.aload_n 2, 1) := dk_44 (dk_at dksX17_init_0 2 rfl rfl)
theorem dX17_init_3 : decode cX17_init 3 = .ok (.invokespecial 1, 3) := dk_183 0 1 (dk_at dksX17_init_0 3 rfl rfl)
theorem dX17_init_6 : decode cX17_init 6 = .ok (.return_, 1) := dk_177 (dk_at dksX17_init_0 6 rfl rfl)
theorem q178 : (Jvm.Cond.initialized "GuestView$Worths") ∈ lw_all := lw_g (lw_at lw_m1 27 rfl) rfl
theorem q808 : (Jvm.Cond.selects "GuestView$Worths" ({ cls := "GuestView$Line", name := "to", desc := "(I[I)I" } : Jvm.MethodName) ({ cls := "GuestView$Worths", name := "to", desc := "(I[I)I" } : Jvm.MethodName)) ∈ lw_all := lw_g (lw_at lw_m3 177 rfl) rfl
theorem q809 : (Jvm.Cond.instanceMethod ({ cls := "GuestView$Worths", name := "to", desc := "(I[I)I" } : Jvm.MethodName)) ∈ lw_all := lw_g (lw_at lw_m3 178 rfl) rfl
theorem q810 : (Jvm.Cond.code ({ cls := "GuestView$Worths", name := "to", desc := "(I[I)I" } : Jvm.MethodName) prog_16_method_2_code (3 : Nat) (Option.some Jvm.ClassFile.FieldType.int)) ∈ lw_all := lw_g (lw_at lw_m3 179 rfl) rfl
theorem q811 : (Jvm.Cond.methodLink "GuestView$Worths" (7 : Nat) ({ cls := "GuestView$Worths", name := "adds", desc := "([I)I" } : Jvm.MethodName)) ∈ lw_all := lw_g (lw_at lw_m3 180 rfl) rfl
theorem q812 : (Jvm.Cond.sameMethod "GuestView$Worths" "GuestView$Line" "adds" "([I)I") ∈ lw_all := lw_g (lw_at lw_m3 181 rfl) rfl
theorem q813 : (Jvm.Cond.selects "GuestView$Worths" ({ cls := "GuestView$Worths", name := "adds", desc := "([I)I" } : Jvm.MethodName) ({ cls := "GuestView$Line", name := "adds", desc := "([I)I" } : Jvm.MethodName)) ∈ lw_all := lw_g (lw_at lw_m3 182 rfl) rfl
theorem q1258 : (Jvm.Cond.instantiable "GuestView$Worths" (2 : Nat)) ∈ lw_all := lw_g (lw_at lw_m5 147 rfl) rfl
theorem q1260 : (Jvm.Cond.instanceMethod ({ cls := "GuestView$Worths", name := "<init>", desc := "(ILGuestView$Cond;)V" } : Jvm.MethodName)) ∈ lw_all := lw_g (lw_at lw_m5 149 rfl) rfl
theorem q1261 : (Jvm.Cond.code ({ cls := "GuestView$Worths", name := "<init>", desc := "(ILGuestView$Cond;)V" } : Jvm.MethodName) prog_16_method_1_code (3 : Nat) (Option.none : Option Jvm.ClassFile.FieldType)) ∈ lw_all := lw_g (lw_at lw_m5 150 rfl) rfl
theorem q1262 : (Jvm.Cond.methodLink "GuestView$Worths" (1 : Nat) ({ cls := "GuestView$Line", name := "<init>", desc := "(ILGuestView$Cond;)V" } : Jvm.MethodName)) ∈ lw_all := lw_g (lw_at lw_m5 151 rfl) rfl
theorem q1263 : (Jvm.Cond.laysFinal "GuestView$Worths" "GuestView$Line" "n" "I") ∈ lw_all := lw_g (lw_at lw_m5 152 rfl) rfl
theorem q1264 : (Jvm.Cond.laysFinal "GuestView$Worths" "GuestView$Line" "cond" "LGuestView$Cond;") ∈ lw_all := lw_g (lw_at lw_m5 153 rfl) rfl
theorem q1265 : (Jvm.Cond.superclass "GuestView$Worths" "GuestView$Line") ∈ lw_all := lw_g (lw_at lw_m5 154 rfl) rfl
theorem q2456 : (Jvm.Cond.castable "GuestView$Worths" "java/lang/Object") ∈ lw_tbl := lw_at lw_m10 145 rfl
theorem q2464 : (Jvm.Cond.castable "GuestView$Worths" "GuestView$Line") ∈ lw_tbl := lw_at lw_m10 153 rfl
theorem in_X17 : ∀ w ∈ wsX170, w ∈ lw_all := lw_in wsX170 [1263, 1264] (by decide +kernel) (by decide +kernel)
/-! GuestViewLaw -/
set_option maxRecDepth 100000
def RX0 : String := "GuestViewLaw"
abbrev cX0_bench : ByteArray := method_3_code
def yX0_bench : MethodName := ⟨RX0, "bench", "(LGuestView;[J)I"⟩
def dkwX0_bench_0 : List UInt8 := [43, 3, 42, 182, 0, 7, 133, 80, 167, 0, 9, 77, 4, 172, 77, 5, 172, 3, 172]
abbrev dktX0_bench_0 : List UInt8 := dkwX0_bench_0 ++ []
theorem dksX0_bench_0 : cX0_bench.data.toList.drop 0 = dktX0_bench_0 := by decide +kernel
theorem dX0_bench_0 : decode cX0_bench 0 = .ok (.aload_n 1, 1) := dk_43 (dk_at dksX0_bench_0 0 rfl rfl)
theorem dX0_bench_1 : decode cX0_bench 1 = .ok (.iconst 0, 1) := dk_3 (dk_at dksX0_bench_0 1 rfl rfl)
theorem dX0_bench_2 : decode cX0_bench 2 = .ok (.aload_n 0, 1) := dk_42 (dk_at dksX0_bench_0 2 rfl rfl)
theorem dX0_bench_3 : decode cX0_bench 3 = .ok (.invokevirtual 7, 3) := dk_182 0 7 (dk_at dksX0_bench_0 3 rfl rfl)
theorem dX0_bench_6 : decode cX0_bench 6 = .ok (.i2l, 1) := dk_133 (dk_at dksX0_bench_0 6 rfl rfl)
theorem dX0_bench_7 : decode cX0_bench 7 = .ok (.lastore, 1) := dk_80 (dk_at dksX0_bench_0 7 rfl rfl)
theorem dX0_bench_8 : decode cX0_bench 8 = .ok (.goto 9, 3) := dk_167 0 9 (dk_at dksX0_bench_0 8 rfl rfl)
theorem dX0_bench_11 : decode cX0_bench 11 = .ok (.astore_n 2, 1) := dk_77 (dk_at dksX0_bench_0 11 rfl rfl)
theorem dX0_bench_12 : decode cX0_bench 12 = .ok (.iconst 1, 1) := dk_4 (dk_at dksX0_bench_0 12 rfl rfl)
theorem dX0_bench_13 : decode cX0_bench 13 = .ok (.ireturn, 1) := dk_172 (dk_at dksX0_bench_0 13 rfl rfl)
theorem dX0_bench_14 : decode cX0_bench 14 = .ok (.astore_n 2, 1) := dk_77 (dk_at dksX0_bench_0 14 rfl rfl)
theorem dX0_bench_15 : decode cX0_bench 15 = .ok (.iconst 2, 1) := dk_5 (dk_at dksX0_bench_0 15 rfl rfl)
theorem dX0_bench_16 : decode cX0_bench 16 = .ok (.ireturn, 1) := dk_172 (dk_at dksX0_bench_0 16 rfl rfl)
theorem dX0_bench_17 : decode cX0_bench 17 = .ok (.iconst 0, 1) := dk_3 (dk_at dksX0_bench_0 17 rfl rfl)
theorem dX0_bench_18 : decode cX0_bench 18 = .ok (.ireturn, 1) := dk_172 (dk_at dksX0_bench_0 18 rfl rfl)
abbrev cX0_law : ByteArray := method_4_code
def yX0_law : MethodName := ⟨RX0, "law", "(LGuestView;[J)I"⟩
def dkwX0_law_0 : List UInt8 := [43, 3, 42, 182, 0, 17, 133, 80, 167, 0, 6, 77, 4, 172, 3, 172]
abbrev dktX0_law_0 : List UInt8 := dkwX0_law_0 ++ []
theorem dksX0_law_0 : cX0_law.data.toList.drop 0 = dktX0_law_0 := by decide +kernel
theorem dX0_law_0 : decode cX0_law 0 = .ok (.aload_n 1, 1) := dk_43 (dk_at dksX0_law_0 0 rfl rfl)
theorem dX0_law_1 : decode cX0_law 1 = .ok (.iconst 0, 1) := dk_3 (dk_at dksX0_law_0 1 rfl rfl)
theorem dX0_law_2 : decode cX0_law 2 = .ok (.aload_n 0, 1) := dk_42 (dk_at dksX0_law_0 2 rfl rfl)
theorem dX0_law_3 : decode cX0_law 3 = .ok (.invokevirtual 17, 3) := dk_182 0 17 (dk_at dksX0_law_0 3 rfl rfl)
theorem dX0_law_6 : decode cX0_law 6 = .ok (.i2l, 1) := dk_133 (dk_at dksX0_law_0 6 rfl rfl)
theorem dX0_law_7 : decode cX0_law 7 = .ok (.lastore, 1) := dk_80 (dk_at dksX0_law_0 7 rfl rfl)
theorem dX0_law_8 : decode cX0_law 8 = .ok (.goto 6, 3) := dk_167 0 6 (dk_at dksX0_law_0 8 rfl rfl)
theorem dX0_law_11 : decode cX0_law 11 = .ok (.astore_n 2, 1) := dk_77 (dk_at dksX0_law_0 11 rfl rfl)
theorem dX0_law_12 : decode cX0_law 12 = .ok (.iconst 1, 1) := dk_4 (dk_at dksX0_law_0 12 rfl rfl)
theorem dX0_law_13 : decode cX0_law 13 = .ok (.ireturn, 1) := dk_172 (dk_at dksX0_law_0 13 rfl rfl)
theorem dX0_law_14 : decode cX0_law 14 = .ok (.iconst 0, 1) := dk_3 (dk_at dksX0_law_0 14 rfl rfl)
theorem dX0_law_15 : decode cX0_law 15 = .ok (.ireturn, 1) := dk_172 (dk_at dksX0_law_0 15 rfl rfl)
abbrev cX0_op : ByteArray := method_5_code
def yX0_op : MethodName := ⟨RX0, "op", "(LGuestView;II[J)I"⟩
def dkwX0_op_0 : List UInt8 := [45, 3, 42, 27, 28, 182, 0, 20, 133, 80, 167, 0, 11, 58, 4, 4, 172, 58, 4, 5, 172, 3, 172]
abbrev dktX0_op_0 : List UInt8 := dkwX0_op_0 ++ []
theorem dksX0_op_0 : cX0_op.data.toList.drop 0 = dktX0_op_0 := by decide +kernel
theorem dX0_op_0 : decode cX0_op 0 = .ok (.aload_n 3, 1) := dk_45 (dk_at dksX0_op_0 0 rfl rfl)
theorem dX0_op_1 : decode cX0_op 1 = .ok (.iconst 0, 1) := dk_3 (dk_at dksX0_op_0 1 rfl rfl)
theorem dX0_op_2 : decode cX0_op 2 = .ok (.aload_n 0, 1) := dk_42 (dk_at dksX0_op_0 2 rfl rfl)
theorem dX0_op_3 : decode cX0_op 3 = .ok (.iload_n 1, 1) := dk_27 (dk_at dksX0_op_0 3 rfl rfl)
theorem dX0_op_4 : decode cX0_op 4 = .ok (.iload_n 2, 1) := dk_28 (dk_at dksX0_op_0 4 rfl rfl)
theorem dX0_op_5 : decode cX0_op 5 = .ok (.invokevirtual 20, 3) := dk_182 0 20 (dk_at dksX0_op_0 5 rfl rfl)
theorem dX0_op_8 : decode cX0_op 8 = .ok (.i2l, 1) := dk_133 (dk_at dksX0_op_0 8 rfl rfl)
theorem dX0_op_9 : decode cX0_op 9 = .ok (.lastore, 1) := dk_80 (dk_at dksX0_op_0 9 rfl rfl)
theorem dX0_op_10 : decode cX0_op 10 = .ok (.goto 11, 3) := dk_167 0 11 (dk_at dksX0_op_0 10 rfl rfl)
theorem dX0_op_13 : decode cX0_op 13 = .ok (.astore 4, 2) := dk_58 4 (dk_at dksX0_op_0 13 rfl rfl)
theorem dX0_op_15 : decode cX0_op 15 = .ok (.iconst 1, 1) := dk_4 (dk_at dksX0_op_0 15 rfl rfl)
theorem dX0_op_16 : decode cX0_op 16 = .ok (.ireturn, 1) := dk_172 (dk_at dksX0_op_0 16 rfl rfl)
theorem dX0_op_17 : decode cX0_op 17 = .ok (.astore 4, 2) := dk_58 4 (dk_at dksX0_op_0 17 rfl rfl)
theorem dX0_op_19 : decode cX0_op 19 = .ok (.iconst 2, 1) := dk_5 (dk_at dksX0_op_0 19 rfl rfl)
theorem dX0_op_20 : decode cX0_op 20 = .ok (.ireturn, 1) := dk_172 (dk_at dksX0_op_0 20 rfl rfl)
theorem dX0_op_21 : decode cX0_op 21 = .ok (.iconst 0, 1) := dk_3 (dk_at dksX0_op_0 21 rfl rfl)
theorem dX0_op_22 : decode cX0_op 22 = .ok (.ireturn, 1) := dk_172 (dk_at dksX0_op_0 22 rfl rfl)
abbrev cX0_micro : ByteArray := method_6_code
def yX0_micro : MethodName := ⟨RX0, "micro", "(LGuestView;IIZ[J)I"⟩
def dkwX0_micro_0 : List UInt8 := [25, 4, 3, 42, 27, 28, 29, 182, 0, 28, 133, 80, 167, 0, 7, 58, 5, 4, 172, 3, 172]
abbrev dktX0_micro_0 : List UInt8 := dkwX0_micro_0 ++ []
theorem dksX0_micro_0 : cX0_micro.data.toList.drop 0 = dktX0_micro_0 := by decide +kernel
theorem dX0_micro_0 : decode cX0_micro 0 = .ok (.aload 4, 2) := dk_25 4 (dk_at dksX0_micro_0 0 rfl rfl)
theorem dX0_micro_2 : decode cX0_micro 2 = .ok (.iconst 0, 1) := dk_3 (dk_at dksX0_micro_0 2 rfl rfl)
theorem dX0_micro_3 : decode cX0_micro 3 = .ok (.aload_n 0, 1) := dk_42 (dk_at dksX0_micro_0 3 rfl rfl)
theorem dX0_micro_4 : decode cX0_micro 4 = .ok (.iload_n 1, 1) := dk_27 (dk_at dksX0_micro_0 4 rfl rfl)
theorem dX0_micro_5 : decode cX0_micro 5 = .ok (.iload_n 2, 1) := dk_28 (dk_at dksX0_micro_0 5 rfl rfl)
theorem dX0_micro_6 : decode cX0_micro 6 = .ok (.iload_n 3, 1) := dk_29 (dk_at dksX0_micro_0 6 rfl rfl)
theorem dX0_micro_7 : decode cX0_micro 7 = .ok (.invokevirtual 28, 3) := dk_182 0 28 (dk_at dksX0_micro_0 7 rfl rfl)
theorem dX0_micro_10 : decode cX0_micro 10 = .ok (.i2l, 1) := dk_133 (dk_at dksX0_micro_0 10 rfl rfl)
theorem dX0_micro_11 : decode cX0_micro 11 = .ok (.lastore, 1) := dk_80 (dk_at dksX0_micro_0 11 rfl rfl)
theorem dX0_micro_12 : decode cX0_micro 12 = .ok (.goto 7, 3) := dk_167 0 7 (dk_at dksX0_micro_0 12 rfl rfl)
theorem dX0_micro_15 : decode cX0_micro 15 = .ok (.astore 5, 2) := dk_58 5 (dk_at dksX0_micro_0 15 rfl rfl)
theorem dX0_micro_17 : decode cX0_micro 17 = .ok (.iconst 1, 1) := dk_4 (dk_at dksX0_micro_0 17 rfl rfl)
theorem dX0_micro_18 : decode cX0_micro 18 = .ok (.ireturn, 1) := dk_172 (dk_at dksX0_micro_0 18 rfl rfl)
theorem dX0_micro_19 : decode cX0_micro 19 = .ok (.iconst 0, 1) := dk_3 (dk_at dksX0_micro_0 19 rfl rfl)
theorem dX0_micro_20 : decode cX0_micro 20 = .ok (.ireturn, 1) := dk_172 (dk_at dksX0_micro_0 20 rfl rfl)
abbrev cX0_witness : ByteArray := method_7_code
def yX0_witness : MethodName := ⟨RX0, "witness", "(LGuestView;II[J)I"⟩
def dkwX0_witness_0 : List UInt8 := [45, 3, 42, 27, 28, 182, 0, 32, 133, 80, 167, 0, 11, 58, 4, 4, 172, 58, 4, 5, 172, 3, 172]
abbrev dktX0_witness_0 : List UInt8 := dkwX0_witness_0 ++ []
theorem dksX0_witness_0 : cX0_witness.data.toList.drop 0 = dktX0_witness_0 := by decide +kernel
theorem dX0_witness_0 : decode cX0_witness 0 = .ok (.aload_n 3, 1) := dk_45 (dk_at dksX0_witness_0 0 rfl rfl)
theorem dX0_witness_1 : decode cX0_witness 1 = .ok (.iconst 0, 1) := dk_3 (dk_at dksX0_witness_0 1 rfl rfl)
theorem dX0_witness_2 : decode cX0_witness 2 = .ok (.aload_n 0, 1) := dk_42 (dk_at dksX0_witness_0 2 rfl rfl)
theorem dX0_witness_3 : decode cX0_witness 3 = .ok (.iload_n 1, 1) := dk_27 (dk_at dksX0_witness_0 3 rfl rfl)
theorem dX0_witness_4 : decode cX0_witness 4 = .ok (.iload_n 2, 1) := dk_28 (dk_at dksX0_witness_0 4 rfl rfl)
theorem dX0_witness_5 : decode cX0_witness 5 = .ok (.invokevirtual 32, 3) := dk_182 0 32 (dk_at dksX0_witness_0 5 rfl rfl)
theorem dX0_witness_8 : decode cX0_witness 8 = .ok (.i2l, 1) := dk_133 (dk_at dksX0_witness_0 8 rfl rfl)
theorem dX0_witness_9 : decode cX0_witness 9 = .ok (.lastore, 1) := dk_80 (dk_at dksX0_witness_0 9 rfl rfl)
theorem dX0_witness_10 : decode cX0_witness 10 = .ok (.goto 11, 3) := dk_167 0 11 (dk_at dksX0_witness_0 10 rfl rfl)
theorem dX0_witness_13 : decode cX0_witness 13 = .ok (.astore 4, 2) := dk_58 4 (dk_at dksX0_witness_0 13 rfl rfl)
theorem dX0_witness_15 : decode cX0_witness 15 = .ok (.iconst 1, 1) := dk_4 (dk_at dksX0_witness_0 15 rfl rfl)
theorem dX0_witness_16 : decode cX0_witness 16 = .ok (.ireturn, 1) := dk_172 (dk_at dksX0_witness_0 16 rfl rfl)
theorem dX0_witness_17 : decode cX0_witness 17 = .ok (.astore 4, 2) := dk_58 4 (dk_at dksX0_witness_0 17 rfl rfl)
theorem dX0_witness_19 : decode cX0_witness 19 = .ok (.iconst 2, 1) := dk_5 (dk_at dksX0_witness_0 19 rfl rfl)
theorem dX0_witness_20 : decode cX0_witness 20 = .ok (.ireturn, 1) := dk_172 (dk_at dksX0_witness_0 20 rfl rfl)
theorem dX0_witness_21 : decode cX0_witness 21 = .ok (.iconst 0, 1) := dk_3 (dk_at dksX0_witness_0 21 rfl rfl)
theorem dX0_witness_22 : decode cX0_witness 22 = .ok (.ireturn, 1) := dk_172 (dk_at dksX0_witness_0 22 rfl rfl)
abbrev cX0_done : ByteArray := method_8_code
def yX0_done : MethodName := ⟨RX0, "done", "(LGuestView;III[J)I"⟩
def dkwX0_done_1 : List UInt8 := [58, 5, 6, 172, 3, 172]
abbrev dktX0_done_1 : List UInt8 := dkwX0_done_1 ++ []
def dkwX0_done_0 : List UInt8 := [25, 4, 3, 42, 27, 28, 29, 182, 0, 35, 133, 80, 167, 0, 15, 58, 5, 4, 172, 58, 5, 5, 172]
abbrev dktX0_done_0 : List UInt8 := dkwX0_done_0 ++ dktX0_done_1
theorem dksX0_done_0 : cX0_done.data.toList.drop 0 = dktX0_done_0 := by decide +kernel
theorem dksX0_done_1 : cX0_done.data.toList.drop 23 = dktX0_done_1 := dk_seg dksX0_done_0 23 rfl rfl
theorem dX0_done_0 : decode cX0_done 0 = .ok (.aload 4, 2) := dk_25 4 (dk_at dksX0_done_0 0 rfl rfl)
theorem dX0_done_2 : decode cX0_done 2 = .ok (.iconst 0, 1) := dk_3 (dk_at dksX0_done_0 2 rfl rfl)
theorem dX0_done_3 : decode cX0_done 3 = .ok (.aload_n 0, 1) := dk_42 (dk_at dksX0_done_0 3 rfl rfl)
theorem dX0_done_4 : decode cX0_done 4 = .ok (.iload_n 1, 1) := dk_27 (dk_at dksX0_done_0 4 rfl rfl)
theorem dX0_done_5 : decode cX0_done 5 = .ok (.iload_n 2, 1) := dk_28 (dk_at dksX0_done_0 5 rfl rfl)
theorem dX0_done_6 : decode cX0_done 6 = .ok (.iload_n 3, 1) := dk_29 (dk_at dksX0_done_0 6 rfl rfl)
theorem dX0_done_7 : decode cX0_done 7 = .ok (.invokevirtual 35, 3) := dk_182 0 35 (dk_at dksX0_done_0 7 rfl rfl)
theorem dX0_done_10 : decode cX0_done 10 = .ok (.i2l, 1) := dk_133 (dk_at dksX0_done_0 10 rfl rfl)
theorem dX0_done_11 : decode cX0_done 11 = .ok (.lastore, 1) := dk_80 (dk_at dksX0_done_0 11 rfl rfl)
theorem dX0_done_12 : decode cX0_done 12 = .ok (.goto 15, 3) := dk_167 0 15 (dk_at dksX0_done_0 12 rfl rfl)
theorem dX0_done_15 : decode cX0_done 15 = .ok (.astore 5, 2) := dk_58 5 (dk_at dksX0_done_0 15 rfl rfl)
theorem dX0_done_17 : decode cX0_done 17 = .ok (.iconst 1, 1) := dk_4 (dk_at dksX0_done_0 17 rfl rfl)
theorem dX0_done_18 : decode cX0_done 18 = .ok (.ireturn, 1) := dk_172 (dk_at dksX0_done_0 18 rfl rfl)
theorem dX0_done_19 : decode cX0_done 19 = .ok (.astore 5, 2) := dk_58 5 (dk_at dksX0_done_0 19 rfl rfl)
theorem dX0_done_21 : decode cX0_done 21 = .ok (.iconst 2, 1) := dk_5 (dk_at dksX0_done_0 21 rfl rfl)
theorem dX0_done_22 : decode cX0_done 22 = .ok (.ireturn, 1) := dk_172 (dk_at dksX0_done_0 22 rfl rfl)
theorem dX0_done_23 : decode cX0_done 23 = .ok (.astore 5, 2) := dk_58 5 (dk_at dksX0_done_1 0 rfl rfl)
theorem dX0_done_25 : decode cX0_done 25 = .ok (.iconst 3, 1) := dk_6 (dk_at dksX0_done_1 2 rfl rfl)
theorem dX0_done_26 : decode cX0_done 26 = .ok (.ireturn, 1) := dk_172 (dk_at dksX0_done_1 3 rfl rfl)
theorem dX0_done_27 : decode cX0_done 27 = .ok (.iconst 0, 1) := dk_3 (dk_at dksX0_done_1 4 rfl rfl)
theorem dX0_done_28 : decode cX0_done 28 = .ok (.ireturn, 1) := dk_172 (dk_at dksX0_done_1 5 rfl rfl)
abbrev cX0_cell : ByteArray := method_9_code
def yX0_cell : MethodName := ⟨RX0, "cell", "(LGuestView;I[J)I"⟩
def dkwX0_cell_0 : List UInt8 := [44, 3, 42, 27, 182, 0, 39, 133, 80, 167, 0, 6, 78, 4, 172, 3, 172]
abbrev dktX0_cell_0 : List UInt8 := dkwX0_cell_0 ++ []
theorem dksX0_cell_0 : cX0_cell.data.toList.drop 0 = dktX0_cell_0 := by decide +kernel
theorem dX0_cell_0 : decode cX0_cell 0 = .ok (.aload_n 2, 1) := dk_44 (dk_at dksX0_cell_0 0 rfl rfl)
theorem dX0_cell_1 : decode cX0_cell 1 = .ok (.iconst 0, 1) := dk_3 (dk_at dksX0_cell_0 1 rfl rfl)
theorem dX0_cell_2 : decode cX0_cell 2 = .ok (.aload_n 0, 1) := dk_42 (dk_at dksX0_cell_0 2 rfl rfl)
theorem dX0_cell_3 : decode cX0_cell 3 = .ok (.iload_n 1, 1) := dk_27 (dk_at dksX0_cell_0 3 rfl rfl)
theorem dX0_cell_4 : decode cX0_cell 4 = .ok (.invokevirtual 39, 3) := dk_182 0 39 (dk_at dksX0_cell_0 4 rfl rfl)
theorem dX0_cell_7 : decode cX0_cell 7 = .ok (.i2l, 1) := dk_133 (dk_at dksX0_cell_0 7 rfl rfl)
theorem dX0_cell_8 : decode cX0_cell 8 = .ok (.lastore, 1) := dk_80 (dk_at dksX0_cell_0 8 rfl rfl)
theorem dX0_cell_9 : decode cX0_cell 9 = .ok (.goto 6, 3) := dk_167 0 6 (dk_at dksX0_cell_0 9 rfl rfl)
theorem dX0_cell_12 : decode cX0_cell 12 = .ok (.astore_n 3, 1) := dk_78 (dk_at dksX0_cell_0 12 rfl rfl)
theorem dX0_cell_13 : decode cX0_cell 13 = .ok (.iconst 1, 1) := dk_4 (dk_at dksX0_cell_0 13 rfl rfl)
theorem dX0_cell_14 : decode cX0_cell 14 = .ok (.ireturn, 1) := dk_172 (dk_at dksX0_cell_0 14 rfl rfl)
theorem dX0_cell_15 : decode cX0_cell 15 = .ok (.iconst 0, 1) := dk_3 (dk_at dksX0_cell_0 15 rfl rfl)
theorem dX0_cell_16 : decode cX0_cell 16 = .ok (.ireturn, 1) := dk_172 (dk_at dksX0_cell_0 16 rfl rfl)
abbrev cX0_guest : ByteArray := method_10_code
def yX0_guest : MethodName := ⟨RX0, "guest", "(LGuestView;ZI[J)I"⟩
def dkwX0_guest_0 : List UInt8 := [45, 3, 42, 27, 28, 182, 0, 43, 133, 80, 167, 0, 7, 58, 4, 4, 172, 3, 172]
abbrev dktX0_guest_0 : List UInt8 := dkwX0_guest_0 ++ []
theorem dksX0_guest_0 : cX0_guest.data.toList.drop 0 = dktX0_guest_0 := by decide +kernel
theorem dX0_guest_0 : decode cX0_guest 0 = .ok (.aload_n 3, 1) := dk_45 (dk_at dksX0_guest_0 0 rfl rfl)
theorem dX0_guest_1 : decode cX0_guest 1 = .ok (.iconst 0, 1) := dk_3 (dk_at dksX0_guest_0 1 rfl rfl)
theorem dX0_guest_2 : decode cX0_guest 2 = .ok (.aload_n 0, 1) := dk_42 (dk_at dksX0_guest_0 2 rfl rfl)
theorem dX0_guest_3 : decode cX0_guest 3 = .ok (.iload_n 1, 1) := dk_27 (dk_at dksX0_guest_0 3 rfl rfl)
theorem dX0_guest_4 : decode cX0_guest 4 = .ok (.iload_n 2, 1) := dk_28 (dk_at dksX0_guest_0 4 rfl rfl)
theorem dX0_guest_5 : decode cX0_guest 5 = .ok (.invokevirtual 43, 3) := dk_182 0 43 (dk_at dksX0_guest_0 5 rfl rfl)
theorem dX0_guest_8 : decode cX0_guest 8 = .ok (.i2l, 1) := dk_133 (dk_at dksX0_guest_0 8 rfl rfl)
theorem dX0_guest_9 : decode cX0_guest 9 = .ok (.lastore, 1) := dk_80 (dk_at dksX0_guest_0 9 rfl rfl)
theorem dX0_guest_10 : decode cX0_guest 10 = .ok (.goto 7, 3) := dk_167 0 7 (dk_at dksX0_guest_0 10 rfl rfl)
theorem dX0_guest_13 : decode cX0_guest 13 = .ok (.astore 4, 2) := dk_58 4 (dk_at dksX0_guest_0 13 rfl rfl)
theorem dX0_guest_15 : decode cX0_guest 15 = .ok (.iconst 1, 1) := dk_4 (dk_at dksX0_guest_0 15 rfl rfl)
theorem dX0_guest_16 : decode cX0_guest 16 = .ok (.ireturn, 1) := dk_172 (dk_at dksX0_guest_0 16 rfl rfl)
theorem dX0_guest_17 : decode cX0_guest 17 = .ok (.iconst 0, 1) := dk_3 (dk_at dksX0_guest_0 17 rfl rfl)
theorem dX0_guest_18 : decode cX0_guest 18 = .ok (.ireturn, 1) := dk_172 (dk_at dksX0_guest_0 18 rfl rfl)
abbrev cX0_ticks : ByteArray := method_11_code
def yX0_ticks : MethodName := ⟨RX0, "ticks", "(LGuestView;I[J)I"⟩
def dkwX0_ticks_0 : List UInt8 := [44, 3, 42, 27, 182, 0, 47, 133, 80, 167, 0, 6, 78, 4, 172, 3, 172]
abbrev dktX0_ticks_0 : List UInt8 := dkwX0_ticks_0 ++ []
theorem dksX0_ticks_0 : cX0_ticks.data.toList.drop 0 = dktX0_ticks_0 := by decide +kernel
theorem dX0_ticks_0 : decode cX0_ticks 0 = .ok (.aload_n 2, 1) := dk_44 (dk_at dksX0_ticks_0 0 rfl rfl)
theorem dX0_ticks_1 : decode cX0_ticks 1 = .ok (.iconst 0, 1) := dk_3 (dk_at dksX0_ticks_0 1 rfl rfl)
theorem dX0_ticks_2 : decode cX0_ticks 2 = .ok (.aload_n 0, 1) := dk_42 (dk_at dksX0_ticks_0 2 rfl rfl)
theorem dX0_ticks_3 : decode cX0_ticks 3 = .ok (.iload_n 1, 1) := dk_27 (dk_at dksX0_ticks_0 3 rfl rfl)
theorem dX0_ticks_4 : decode cX0_ticks 4 = .ok (.invokevirtual 47, 3) := dk_182 0 47 (dk_at dksX0_ticks_0 4 rfl rfl)
theorem dX0_ticks_7 : decode cX0_ticks 7 = .ok (.i2l, 1) := dk_133 (dk_at dksX0_ticks_0 7 rfl rfl)
theorem dX0_ticks_8 : decode cX0_ticks 8 = .ok (.lastore, 1) := dk_80 (dk_at dksX0_ticks_0 8 rfl rfl)
theorem dX0_ticks_9 : decode cX0_ticks 9 = .ok (.goto 6, 3) := dk_167 0 6 (dk_at dksX0_ticks_0 9 rfl rfl)
theorem dX0_ticks_12 : decode cX0_ticks 12 = .ok (.astore_n 3, 1) := dk_78 (dk_at dksX0_ticks_0 12 rfl rfl)
theorem dX0_ticks_13 : decode cX0_ticks 13 = .ok (.iconst 1, 1) := dk_4 (dk_at dksX0_ticks_0 13 rfl rfl)
theorem dX0_ticks_14 : decode cX0_ticks 14 = .ok (.ireturn, 1) := dk_172 (dk_at dksX0_ticks_0 14 rfl rfl)
theorem dX0_ticks_15 : decode cX0_ticks 15 = .ok (.iconst 0, 1) := dk_3 (dk_at dksX0_ticks_0 15 rfl rfl)
theorem dX0_ticks_16 : decode cX0_ticks 16 = .ok (.ireturn, 1) := dk_172 (dk_at dksX0_ticks_0 16 rfl rfl)
abbrev cX0_patch : ByteArray := method_12_code
def yX0_patch : MethodName := ⟨RX0, "patch", "(LGuestView;IZ[J)I"⟩
def dkwX0_patch_1 : List UInt8 := [3, 172]
abbrev dktX0_patch_1 : List UInt8 := dkwX0_patch_1 ++ []
def dkwX0_patch_0 : List UInt8 := [45, 3, 42, 27, 28, 182, 0, 50, 153, 0, 7, 10, 167, 0, 4, 9, 80, 167, 0, 7, 58, 4, 4, 172]
abbrev dktX0_patch_0 : List UInt8 := dkwX0_patch_0 ++ dktX0_patch_1
theorem dksX0_patch_0 : cX0_patch.data.toList.drop 0 = dktX0_patch_0 := by decide +kernel
theorem dksX0_patch_1 : cX0_patch.data.toList.drop 24 = dktX0_patch_1 := dk_seg dksX0_patch_0 24 rfl rfl
theorem dX0_patch_0 : decode cX0_patch 0 = .ok (.aload_n 3, 1) := dk_45 (dk_at dksX0_patch_0 0 rfl rfl)
theorem dX0_patch_1 : decode cX0_patch 1 = .ok (.iconst 0, 1) := dk_3 (dk_at dksX0_patch_0 1 rfl rfl)
theorem dX0_patch_2 : decode cX0_patch 2 = .ok (.aload_n 0, 1) := dk_42 (dk_at dksX0_patch_0 2 rfl rfl)
theorem dX0_patch_3 : decode cX0_patch 3 = .ok (.iload_n 1, 1) := dk_27 (dk_at dksX0_patch_0 3 rfl rfl)
theorem dX0_patch_4 : decode cX0_patch 4 = .ok (.iload_n 2, 1) := dk_28 (dk_at dksX0_patch_0 4 rfl rfl)
theorem dX0_patch_5 : decode cX0_patch 5 = .ok (.invokevirtual 50, 3) := dk_182 0 50 (dk_at dksX0_patch_0 5 rfl rfl)
theorem dX0_patch_8 : decode cX0_patch 8 = .ok (.ifCond .eq 7, 3) := dk_153 0 7 (dk_at dksX0_patch_0 8 rfl rfl)
theorem dX0_patch_11 : decode cX0_patch 11 = .ok (.lconst 1, 1) := dk_10 (dk_at dksX0_patch_0 11 rfl rfl)
theorem dX0_patch_12 : decode cX0_patch 12 = .ok (.goto 4, 3) := dk_167 0 4 (dk_at dksX0_patch_0 12 rfl rfl)
theorem dX0_patch_15 : decode cX0_patch 15 = .ok (.lconst 0, 1) := dk_9 (dk_at dksX0_patch_0 15 rfl rfl)
theorem dX0_patch_16 : decode cX0_patch 16 = .ok (.lastore, 1) := dk_80 (dk_at dksX0_patch_0 16 rfl rfl)
theorem dX0_patch_17 : decode cX0_patch 17 = .ok (.goto 7, 3) := dk_167 0 7 (dk_at dksX0_patch_0 17 rfl rfl)
theorem dX0_patch_20 : decode cX0_patch 20 = .ok (.astore 4, 2) := dk_58 4 (dk_at dksX0_patch_0 20 rfl rfl)
theorem dX0_patch_22 : decode cX0_patch 22 = .ok (.iconst 1, 1) := dk_4 (dk_at dksX0_patch_0 22 rfl rfl)
theorem dX0_patch_23 : decode cX0_patch 23 = .ok (.ireturn, 1) := dk_172 (dk_at dksX0_patch_0 23 rfl rfl)
theorem dX0_patch_24 : decode cX0_patch 24 = .ok (.iconst 0, 1) := dk_3 (dk_at dksX0_patch_1 0 rfl rfl)
theorem dX0_patch_25 : decode cX0_patch 25 = .ok (.ireturn, 1) := dk_172 (dk_at dksX0_patch_1 1 rfl rfl)
abbrev cX0_guard : ByteArray := method_13_code
def yX0_guard : MethodName := ⟨RX0, "guard", "(LGuestView;IZ[J)I"⟩
def dkwX0_guard_1 : List UInt8 := [3, 172]
abbrev dktX0_guard_1 : List UInt8 := dkwX0_guard_1 ++ []
def dkwX0_guard_0 : List UInt8 := [45, 3, 42, 27, 28, 182, 0, 54, 153, 0, 7, 10, 167, 0, 4, 9, 80, 167, 0, 7, 58, 4, 4, 172]
abbrev dktX0_guard_0 : List UInt8 := dkwX0_guard_0 ++ dktX0_guard_1
theorem dksX0_guard_0 : cX0_guard.data.toList.drop 0 = dktX0_guard_0 := by decide +kernel
theorem dksX0_guard_1 : cX0_guard.data.toList.drop 24 = dktX0_guard_1 := dk_seg dksX0_guard_0 24 rfl rfl
theorem dX0_guard_0 : decode cX0_guard 0 = .ok (.aload_n 3, 1) := dk_45 (dk_at dksX0_guard_0 0 rfl rfl)
theorem dX0_guard_1 : decode cX0_guard 1 = .ok (.iconst 0, 1) := dk_3 (dk_at dksX0_guard_0 1 rfl rfl)
theorem dX0_guard_2 : decode cX0_guard 2 = .ok (.aload_n 0, 1) := dk_42 (dk_at dksX0_guard_0 2 rfl rfl)
theorem dX0_guard_3 : decode cX0_guard 3 = .ok (.iload_n 1, 1) := dk_27 (dk_at dksX0_guard_0 3 rfl rfl)
theorem dX0_guard_4 : decode cX0_guard 4 = .ok (.iload_n 2, 1) := dk_28 (dk_at dksX0_guard_0 4 rfl rfl)
theorem dX0_guard_5 : decode cX0_guard 5 = .ok (.invokevirtual 54, 3) := dk_182 0 54 (dk_at dksX0_guard_0 5 rfl rfl)
theorem dX0_guard_8 : decode cX0_guard 8 = .ok (.ifCond .eq 7, 3) := dk_153 0 7 (dk_at dksX0_guard_0 8 rfl rfl)
theorem dX0_guard_11 : decode cX0_guard 11 = .ok (.lconst 1, 1) := dk_10 (dk_at dksX0_guard_0 11 rfl rfl)
theorem dX0_guard_12 : decode cX0_guard 12 = .ok (.goto 4, 3) := dk_167 0 4 (dk_at dksX0_guard_0 12 rfl rfl)
theorem dX0_guard_15 : decode cX0_guard 15 = .ok (.lconst 0, 1) := dk_9 (dk_at dksX0_guard_0 15 rfl rfl)
theorem dX0_guard_16 : decode cX0_guard 16 = .ok (.lastore, 1) := dk_80 (dk_at dksX0_guard_0 16 rfl rfl)
theorem dX0_guard_17 : decode cX0_guard 17 = .ok (.goto 7, 3) := dk_167 0 7 (dk_at dksX0_guard_0 17 rfl rfl)
theorem dX0_guard_20 : decode cX0_guard 20 = .ok (.astore 4, 2) := dk_58 4 (dk_at dksX0_guard_0 20 rfl rfl)
theorem dX0_guard_22 : decode cX0_guard 22 = .ok (.iconst 1, 1) := dk_4 (dk_at dksX0_guard_0 22 rfl rfl)
theorem dX0_guard_23 : decode cX0_guard 23 = .ok (.ireturn, 1) := dk_172 (dk_at dksX0_guard_0 23 rfl rfl)
theorem dX0_guard_24 : decode cX0_guard 24 = .ok (.iconst 0, 1) := dk_3 (dk_at dksX0_guard_1 0 rfl rfl)
theorem dX0_guard_25 : decode cX0_guard 25 = .ok (.ireturn, 1) := dk_172 (dk_at dksX0_guard_1 1 rfl rfl)
abbrev cX0_put : ByteArray := method_14_code
def yX0_put : MethodName := ⟨RX0, "put", "(LGuestView;II[J)I"⟩
def dkwX0_put_0 : List UInt8 := [45, 3, 42, 27, 28, 182, 0, 57, 133, 80, 167, 0, 7, 58, 4, 4, 172, 3, 172]
abbrev dktX0_put_0 : List UInt8 := dkwX0_put_0 ++ []
theorem dksX0_put_0 : cX0_put.data.toList.drop 0 = dktX0_put_0 := by decide +kernel
theorem dX0_put_0 : decode cX0_put 0 = .ok (.aload_n 3, 1) := dk_45 (dk_at dksX0_put_0 0 rfl rfl)
theorem dX0_put_1 : decode cX0_put 1 = .ok (.iconst 0, 1) := dk_3 (dk_at dksX0_put_0 1 rfl rfl)
theorem dX0_put_2 : decode cX0_put 2 = .ok (.aload_n 0, 1) := dk_42 (dk_at dksX0_put_0 2 rfl rfl)
theorem dX0_put_3 : decode cX0_put 3 = .ok (.iload_n 1, 1) := dk_27 (dk_at dksX0_put_0 3 rfl rfl)
theorem dX0_put_4 : decode cX0_put 4 = .ok (.iload_n 2, 1) := dk_28 (dk_at dksX0_put_0 4 rfl rfl)
theorem dX0_put_5 : decode cX0_put 5 = .ok (.invokevirtual 57, 3) := dk_182 0 57 (dk_at dksX0_put_0 5 rfl rfl)
theorem dX0_put_8 : decode cX0_put 8 = .ok (.i2l, 1) := dk_133 (dk_at dksX0_put_0 8 rfl rfl)
theorem dX0_put_9 : decode cX0_put 9 = .ok (.lastore, 1) := dk_80 (dk_at dksX0_put_0 9 rfl rfl)
theorem dX0_put_10 : decode cX0_put 10 = .ok (.goto 7, 3) := dk_167 0 7 (dk_at dksX0_put_0 10 rfl rfl)
theorem dX0_put_13 : decode cX0_put 13 = .ok (.astore 4, 2) := dk_58 4 (dk_at dksX0_put_0 13 rfl rfl)
theorem dX0_put_15 : decode cX0_put 15 = .ok (.iconst 1, 1) := dk_4 (dk_at dksX0_put_0 15 rfl rfl)
theorem dX0_put_16 : decode cX0_put 16 = .ok (.ireturn, 1) := dk_172 (dk_at dksX0_put_0 16 rfl rfl)
theorem dX0_put_17 : decode cX0_put 17 = .ok (.iconst 0, 1) := dk_3 (dk_at dksX0_put_0 17 rfl rfl)
theorem dX0_put_18 : decode cX0_put 18 = .ok (.ireturn, 1) := dk_172 (dk_at dksX0_put_0 18 rfl rfl)
abbrev cX0_store : ByteArray := method_15_code
def yX0_store : MethodName := ⟨RX0, "store", "(LGuestView;II[J)I"⟩
def dkwX0_store_0 : List UInt8 := [45, 3, 42, 27, 28, 182, 0, 60, 133, 80, 167, 0, 11, 58, 4, 4, 172, 58, 4, 5, 172, 3, 172]
abbrev dktX0_store_0 : List UInt8 := dkwX0_store_0 ++ []
theorem dksX0_store_0 : cX0_store.data.toList.drop 0 = dktX0_store_0 := by decide +kernel
theorem dX0_store_0 : decode cX0_store 0 = .ok (.aload_n 3, 1) := dk_45 (dk_at dksX0_store_0 0 rfl rfl)
theorem dX0_store_1 : decode cX0_store 1 = .ok (.iconst 0, 1) := dk_3 (dk_at dksX0_store_0 1 rfl rfl)
theorem dX0_store_2 : decode cX0_store 2 = .ok (.aload_n 0, 1) := dk_42 (dk_at dksX0_store_0 2 rfl rfl)
theorem dX0_store_3 : decode cX0_store 3 = .ok (.iload_n 1, 1) := dk_27 (dk_at dksX0_store_0 3 rfl rfl)
theorem dX0_store_4 : decode cX0_store 4 = .ok (.iload_n 2, 1) := dk_28 (dk_at dksX0_store_0 4 rfl rfl)
theorem dX0_store_5 : decode cX0_store 5 = .ok (.invokevirtual 60, 3) := dk_182 0 60 (dk_at dksX0_store_0 5 rfl rfl)
theorem dX0_store_8 : decode cX0_store 8 = .ok (.i2l, 1) := dk_133 (dk_at dksX0_store_0 8 rfl rfl)
theorem dX0_store_9 : decode cX0_store 9 = .ok (.lastore, 1) := dk_80 (dk_at dksX0_store_0 9 rfl rfl)
theorem dX0_store_10 : decode cX0_store 10 = .ok (.goto 11, 3) := dk_167 0 11 (dk_at dksX0_store_0 10 rfl rfl)
theorem dX0_store_13 : decode cX0_store 13 = .ok (.astore 4, 2) := dk_58 4 (dk_at dksX0_store_0 13 rfl rfl)
theorem dX0_store_15 : decode cX0_store 15 = .ok (.iconst 1, 1) := dk_4 (dk_at dksX0_store_0 15 rfl rfl)
theorem dX0_store_16 : decode cX0_store 16 = .ok (.ireturn, 1) := dk_172 (dk_at dksX0_store_0 16 rfl rfl)
theorem dX0_store_17 : decode cX0_store 17 = .ok (.astore 4, 2) := dk_58 4 (dk_at dksX0_store_0 17 rfl rfl)
theorem dX0_store_19 : decode cX0_store 19 = .ok (.iconst 2, 1) := dk_5 (dk_at dksX0_store_0 19 rfl rfl)
theorem dX0_store_20 : decode cX0_store 20 = .ok (.ireturn, 1) := dk_172 (dk_at dksX0_store_0 20 rfl rfl)
theorem dX0_store_21 : decode cX0_store 21 = .ok (.iconst 0, 1) := dk_3 (dk_at dksX0_store_0 21 rfl rfl)
theorem dX0_store_22 : decode cX0_store 22 = .ok (.ireturn, 1) := dk_172 (dk_at dksX0_store_0 22 rfl rfl)
abbrev cX0_vector : ByteArray := method_16_code
def yX0_vector : MethodName := ⟨RX0, "vector", "(LGuestView;I[J)I"⟩
def dkwX0_vector_0 : List UInt8 := [44, 3, 42, 27, 182, 0, 63, 133, 80, 167, 0, 6, 78, 4, 172, 3, 172]
abbrev dktX0_vector_0 : List UInt8 := dkwX0_vector_0 ++ []
theorem dksX0_vector_0 : cX0_vector.data.toList.drop 0 = dktX0_vector_0 := by decide +kernel
theorem dX0_vector_0 : decode cX0_vector 0 = .ok (.aload_n 2, 1) := dk_44 (dk_at dksX0_vector_0 0 rfl rfl)
theorem dX0_vector_1 : decode cX0_vector 1 = .ok (.iconst 0, 1) := dk_3 (dk_at dksX0_vector_0 1 rfl rfl)
theorem dX0_vector_2 : decode cX0_vector 2 = .ok (.aload_n 0, 1) := dk_42 (dk_at dksX0_vector_0 2 rfl rfl)
theorem dX0_vector_3 : decode cX0_vector 3 = .ok (.iload_n 1, 1) := dk_27 (dk_at dksX0_vector_0 3 rfl rfl)
theorem dX0_vector_4 : decode cX0_vector 4 = .ok (.invokevirtual 63, 3) := dk_182 0 63 (dk_at dksX0_vector_0 4 rfl rfl)
theorem dX0_vector_7 : decode cX0_vector 7 = .ok (.i2l, 1) := dk_133 (dk_at dksX0_vector_0 7 rfl rfl)
theorem dX0_vector_8 : decode cX0_vector 8 = .ok (.lastore, 1) := dk_80 (dk_at dksX0_vector_0 8 rfl rfl)
theorem dX0_vector_9 : decode cX0_vector 9 = .ok (.goto 6, 3) := dk_167 0 6 (dk_at dksX0_vector_0 9 rfl rfl)
theorem dX0_vector_12 : decode cX0_vector 12 = .ok (.astore_n 3, 1) := dk_78 (dk_at dksX0_vector_0 12 rfl rfl)
theorem dX0_vector_13 : decode cX0_vector 13 = .ok (.iconst 1, 1) := dk_4 (dk_at dksX0_vector_0 13 rfl rfl)
theorem dX0_vector_14 : decode cX0_vector 14 = .ok (.ireturn, 1) := dk_172 (dk_at dksX0_vector_0 14 rfl rfl)
theorem dX0_vector_15 : decode cX0_vector 15 = .ok (.iconst 0, 1) := dk_3 (dk_at dksX0_vector_0 15 rfl rfl)
theorem dX0_vector_16 : decode cX0_vector 16 = .ok (.ireturn, 1) := dk_172 (dk_at dksX0_vector_0 16 rfl rfl)
abbrev cX0_shift : ByteArray := method_17_code
def yX0_shift : MethodName := ⟨RX0, "shift", "(LGuestView;I[J)I"⟩
def dkwX0_shift_0 : List UInt8 := [44, 3, 42, 27, 182, 0, 66, 133, 80, 167, 0, 6, 78, 4, 172, 3, 172]
abbrev dktX0_shift_0 : List UInt8 := dkwX0_shift_0 ++ []
theorem dksX0_shift_0 : cX0_shift.data.toList.drop 0 = dktX0_shift_0 := by decide +kernel
theorem dX0_shift_0 : decode cX0_shift 0 = .ok (.aload_n 2, 1) := dk_44 (dk_at dksX0_shift_0 0 rfl rfl)
theorem dX0_shift_1 : decode cX0_shift 1 = .ok (.iconst 0, 1) := dk_3 (dk_at dksX0_shift_0 1 rfl rfl)
theorem dX0_shift_2 : decode cX0_shift 2 = .ok (.aload_n 0, 1) := dk_42 (dk_at dksX0_shift_0 2 rfl rfl)
theorem dX0_shift_3 : decode cX0_shift 3 = .ok (.iload_n 1, 1) := dk_27 (dk_at dksX0_shift_0 3 rfl rfl)
theorem dX0_shift_4 : decode cX0_shift 4 = .ok (.invokevirtual 66, 3) := dk_182 0 66 (dk_at dksX0_shift_0 4 rfl rfl)
theorem dX0_shift_7 : decode cX0_shift 7 = .ok (.i2l, 1) := dk_133 (dk_at dksX0_shift_0 7 rfl rfl)
theorem dX0_shift_8 : decode cX0_shift 8 = .ok (.lastore, 1) := dk_80 (dk_at dksX0_shift_0 8 rfl rfl)
theorem dX0_shift_9 : decode cX0_shift 9 = .ok (.goto 6, 3) := dk_167 0 6 (dk_at dksX0_shift_0 9 rfl rfl)
theorem dX0_shift_12 : decode cX0_shift 12 = .ok (.astore_n 3, 1) := dk_78 (dk_at dksX0_shift_0 12 rfl rfl)
theorem dX0_shift_13 : decode cX0_shift 13 = .ok (.iconst 1, 1) := dk_4 (dk_at dksX0_shift_0 13 rfl rfl)
theorem dX0_shift_14 : decode cX0_shift 14 = .ok (.ireturn, 1) := dk_172 (dk_at dksX0_shift_0 14 rfl rfl)
theorem dX0_shift_15 : decode cX0_shift 15 = .ok (.iconst 0, 1) := dk_3 (dk_at dksX0_shift_0 15 rfl rfl)
theorem dX0_shift_16 : decode cX0_shift 16 = .ok (.ireturn, 1) := dk_172 (dk_at dksX0_shift_0 16 rfl rfl)
abbrev cX0_cost : ByteArray := method_18_code
def yX0_cost : MethodName := ⟨RX0, "cost", "(LGuestView;I[J)I"⟩
def dkwX0_cost_0 : List UInt8 := [44, 3, 42, 27, 182, 0, 69, 133, 80, 167, 0, 6, 78, 4, 172, 3, 172]
abbrev dktX0_cost_0 : List UInt8 := dkwX0_cost_0 ++ []
theorem dksX0_cost_0 : cX0_cost.data.toList.drop 0 = dktX0_cost_0 := by decide +kernel
theorem dX0_cost_0 : decode cX0_cost 0 = .ok (.aload_n 2, 1) := dk_44 (dk_at dksX0_cost_0 0 rfl rfl)
theorem dX0_cost_1 : decode cX0_cost 1 = .ok (.iconst 0, 1) := dk_3 (dk_at dksX0_cost_0 1 rfl rfl)
theorem dX0_cost_2 : decode cX0_cost 2 = .ok (.aload_n 0, 1) := dk_42 (dk_at dksX0_cost_0 2 rfl rfl)
theorem dX0_cost_3 : decode cX0_cost 3 = .ok (.iload_n 1, 1) := dk_27 (dk_at dksX0_cost_0 3 rfl rfl)
theorem dX0_cost_4 : decode cX0_cost 4 = .ok (.invokevirtual 69, 3) := dk_182 0 69 (dk_at dksX0_cost_0 4 rfl rfl)
theorem dX0_cost_7 : decode cX0_cost 7 = .ok (.i2l, 1) := dk_133 (dk_at dksX0_cost_0 7 rfl rfl)
theorem dX0_cost_8 : decode cX0_cost 8 = .ok (.lastore, 1) := dk_80 (dk_at dksX0_cost_0 8 rfl rfl)
theorem dX0_cost_9 : decode cX0_cost 9 = .ok (.goto 6, 3) := dk_167 0 6 (dk_at dksX0_cost_0 9 rfl rfl)
theorem dX0_cost_12 : decode cX0_cost 12 = .ok (.astore_n 3, 1) := dk_78 (dk_at dksX0_cost_0 12 rfl rfl)
theorem dX0_cost_13 : decode cX0_cost 13 = .ok (.iconst 1, 1) := dk_4 (dk_at dksX0_cost_0 13 rfl rfl)
theorem dX0_cost_14 : decode cX0_cost 14 = .ok (.ireturn, 1) := dk_172 (dk_at dksX0_cost_0 14 rfl rfl)
theorem dX0_cost_15 : decode cX0_cost 15 = .ok (.iconst 0, 1) := dk_3 (dk_at dksX0_cost_0 15 rfl rfl)
theorem dX0_cost_16 : decode cX0_cost 16 = .ok (.ireturn, 1) := dk_172 (dk_at dksX0_cost_0 16 rfl rfl)
abbrev cX0_alarm : ByteArray := method_19_code
def yX0_alarm : MethodName := ⟨RX0, "alarm", "(LGuestView;I[J)I"⟩
def dkwX0_alarm_0 : List UInt8 := [44, 3, 42, 27, 182, 0, 72, 133, 80, 167, 0, 6, 78, 4, 172, 3, 172]
abbrev dktX0_alarm_0 : List UInt8 := dkwX0_alarm_0 ++ []
theorem dksX0_alarm_0 : cX0_alarm.data.toList.drop 0 = dktX0_alarm_0 := by decide +kernel
theorem dX0_alarm_0 : decode cX0_alarm 0 = .ok (.aload_n 2, 1) := dk_44 (dk_at dksX0_alarm_0 0 rfl rfl)
theorem dX0_alarm_1 : decode cX0_alarm 1 = .ok (.iconst 0, 1) := dk_3 (dk_at dksX0_alarm_0 1 rfl rfl)
theorem dX0_alarm_2 : decode cX0_alarm 2 = .ok (.aload_n 0, 1) := dk_42 (dk_at dksX0_alarm_0 2 rfl rfl)
theorem dX0_alarm_3 : decode cX0_alarm 3 = .ok (.iload_n 1, 1) := dk_27 (dk_at dksX0_alarm_0 3 rfl rfl)
theorem dX0_alarm_4 : decode cX0_alarm 4 = .ok (.invokevirtual 72, 3) := dk_182 0 72 (dk_at dksX0_alarm_0 4 rfl rfl)
theorem dX0_alarm_7 : decode cX0_alarm 7 = .ok (.i2l, 1) := dk_133 (dk_at dksX0_alarm_0 7 rfl rfl)
theorem dX0_alarm_8 : decode cX0_alarm 8 = .ok (.lastore, 1) := dk_80 (dk_at dksX0_alarm_0 8 rfl rfl)
theorem dX0_alarm_9 : decode cX0_alarm 9 = .ok (.goto 6, 3) := dk_167 0 6 (dk_at dksX0_alarm_0 9 rfl rfl)
theorem dX0_alarm_12 : decode cX0_alarm 12 = .ok (.astore_n 3, 1) := dk_78 (dk_at dksX0_alarm_0 12 rfl rfl)
theorem dX0_alarm_13 : decode cX0_alarm 13 = .ok (.iconst 1, 1) := dk_4 (dk_at dksX0_alarm_0 13 rfl rfl)
theorem dX0_alarm_14 : decode cX0_alarm 14 = .ok (.ireturn, 1) := dk_172 (dk_at dksX0_alarm_0 14 rfl rfl)
theorem dX0_alarm_15 : decode cX0_alarm 15 = .ok (.iconst 0, 1) := dk_3 (dk_at dksX0_alarm_0 15 rfl rfl)
theorem dX0_alarm_16 : decode cX0_alarm 16 = .ok (.ireturn, 1) := dk_172 (dk_at dksX0_alarm_0 16 rfl rfl)
abbrev cX0_traps : ByteArray := method_20_code
def yX0_traps : MethodName := ⟨RX0, "traps", "(LGuestView;I[J)I"⟩
def dkwX0_traps_0 : List UInt8 := [44, 3, 42, 27, 182, 0, 75, 133, 80, 167, 0, 6, 78, 4, 172, 3, 172]
abbrev dktX0_traps_0 : List UInt8 := dkwX0_traps_0 ++ []
theorem dksX0_traps_0 : cX0_traps.data.toList.drop 0 = dktX0_traps_0 := by decide +kernel
theorem dX0_traps_0 : decode cX0_traps 0 = .ok (.aload_n 2, 1) := dk_44 (dk_at dksX0_traps_0 0 rfl rfl)
theorem dX0_traps_1 : decode cX0_traps 1 = .ok (.iconst 0, 1) := dk_3 (dk_at dksX0_traps_0 1 rfl rfl)
theorem dX0_traps_2 : decode cX0_traps 2 = .ok (.aload_n 0, 1) := dk_42 (dk_at dksX0_traps_0 2 rfl rfl)
theorem dX0_traps_3 : decode cX0_traps 3 = .ok (.iload_n 1, 1) := dk_27 (dk_at dksX0_traps_0 3 rfl rfl)
theorem dX0_traps_4 : decode cX0_traps 4 = .ok (.invokevirtual 75, 3) := dk_182 0 75 (dk_at dksX0_traps_0 4 rfl rfl)
theorem dX0_traps_7 : decode cX0_traps 7 = .ok (.i2l, 1) := dk_133 (dk_at dksX0_traps_0 7 rfl rfl)
theorem dX0_traps_8 : decode cX0_traps 8 = .ok (.lastore, 1) := dk_80 (dk_at dksX0_traps_0 8 rfl rfl)
theorem dX0_traps_9 : decode cX0_traps 9 = .ok (.goto 6, 3) := dk_167 0 6 (dk_at dksX0_traps_0 9 rfl rfl)
theorem dX0_traps_12 : decode cX0_traps 12 = .ok (.astore_n 3, 1) := dk_78 (dk_at dksX0_traps_0 12 rfl rfl)
theorem dX0_traps_13 : decode cX0_traps 13 = .ok (.iconst 1, 1) := dk_4 (dk_at dksX0_traps_0 13 rfl rfl)
theorem dX0_traps_14 : decode cX0_traps 14 = .ok (.ireturn, 1) := dk_172 (dk_at dksX0_traps_0 14 rfl rfl)
theorem dX0_traps_15 : decode cX0_traps 15 = .ok (.iconst 0, 1) := dk_3 (dk_at dksX0_traps_0 15 rfl rfl)
theorem dX0_traps_16 : decode cX0_traps 16 = .ok (.ireturn, 1) := dk_172 (dk_at dksX0_traps_0 16 rfl rfl)
abbrev cX0_depth : ByteArray := method_21_code
def yX0_depth : MethodName := ⟨RX0, "depth", "(LGuestView;II[J)I"⟩
def dkwX0_depth_0 : List UInt8 := [45, 3, 42, 27, 28, 182, 0, 78, 133, 80, 167, 0, 7, 58, 4, 4, 172, 3, 172]
abbrev dktX0_depth_0 : List UInt8 := dkwX0_depth_0 ++ []
theorem dksX0_depth_0 : cX0_depth.data.toList.drop 0 = dktX0_depth_0 := by decide +kernel
theorem dX0_depth_0 : decode cX0_depth 0 = .ok (.aload_n 3, 1) := dk_45 (dk_at dksX0_depth_0 0 rfl rfl)
theorem dX0_depth_1 : decode cX0_depth 1 = .ok (.iconst 0, 1) := dk_3 (dk_at dksX0_depth_0 1 rfl rfl)
theorem dX0_depth_2 : decode cX0_depth 2 = .ok (.aload_n 0, 1) := dk_42 (dk_at dksX0_depth_0 2 rfl rfl)
theorem dX0_depth_3 : decode cX0_depth 3 = .ok (.iload_n 1, 1) := dk_27 (dk_at dksX0_depth_0 3 rfl rfl)
theorem dX0_depth_4 : decode cX0_depth 4 = .ok (.iload_n 2, 1) := dk_28 (dk_at dksX0_depth_0 4 rfl rfl)
theorem dX0_depth_5 : decode cX0_depth 5 = .ok (.invokevirtual 78, 3) := dk_182 0 78 (dk_at dksX0_depth_0 5 rfl rfl)
theorem dX0_depth_8 : decode cX0_depth 8 = .ok (.i2l, 1) := dk_133 (dk_at dksX0_depth_0 8 rfl rfl)
theorem dX0_depth_9 : decode cX0_depth 9 = .ok (.lastore, 1) := dk_80 (dk_at dksX0_depth_0 9 rfl rfl)
theorem dX0_depth_10 : decode cX0_depth 10 = .ok (.goto 7, 3) := dk_167 0 7 (dk_at dksX0_depth_0 10 rfl rfl)
theorem dX0_depth_13 : decode cX0_depth 13 = .ok (.astore 4, 2) := dk_58 4 (dk_at dksX0_depth_0 13 rfl rfl)
theorem dX0_depth_15 : decode cX0_depth 15 = .ok (.iconst 1, 1) := dk_4 (dk_at dksX0_depth_0 15 rfl rfl)
theorem dX0_depth_16 : decode cX0_depth 16 = .ok (.ireturn, 1) := dk_172 (dk_at dksX0_depth_0 16 rfl rfl)
theorem dX0_depth_17 : decode cX0_depth 17 = .ok (.iconst 0, 1) := dk_3 (dk_at dksX0_depth_0 17 rfl rfl)
theorem dX0_depth_18 : decode cX0_depth 18 = .ok (.ireturn, 1) := dk_172 (dk_at dksX0_depth_0 18 rfl rfl)
abbrev cX0_clash : ByteArray := method_22_code
def yX0_clash : MethodName := ⟨RX0, "clash", "(LGuestView;II[J)I"⟩
def dkwX0_clash_1 : List UInt8 := [58, 4, 5, 172, 3, 172]
abbrev dktX0_clash_1 : List UInt8 := dkwX0_clash_1 ++ []
def dkwX0_clash_0 : List UInt8 := [45, 3, 42, 27, 28, 182, 0, 81, 153, 0, 7, 10, 167, 0, 4, 9, 80, 167, 0, 11, 58, 4, 4, 172]
abbrev dktX0_clash_0 : List UInt8 := dkwX0_clash_0 ++ dktX0_clash_1
theorem dksX0_clash_0 : cX0_clash.data.toList.drop 0 = dktX0_clash_0 := by decide +kernel
theorem dksX0_clash_1 : cX0_clash.data.toList.drop 24 = dktX0_clash_1 := dk_seg dksX0_clash_0 24 rfl rfl
theorem dX0_clash_0 : decode cX0_clash 0 = .ok (.aload_n 3, 1) := dk_45 (dk_at dksX0_clash_0 0 rfl rfl)
theorem dX0_clash_1 : decode cX0_clash 1 = .ok (.iconst 0, 1) := dk_3 (dk_at dksX0_clash_0 1 rfl rfl)
theorem dX0_clash_2 : decode cX0_clash 2 = .ok (.aload_n 0, 1) := dk_42 (dk_at dksX0_clash_0 2 rfl rfl)
theorem dX0_clash_3 : decode cX0_clash 3 = .ok (.iload_n 1, 1) := dk_27 (dk_at dksX0_clash_0 3 rfl rfl)
theorem dX0_clash_4 : decode cX0_clash 4 = .ok (.iload_n 2, 1) := dk_28 (dk_at dksX0_clash_0 4 rfl rfl)
theorem dX0_clash_5 : decode cX0_clash 5 = .ok (.invokevirtual 81, 3) := dk_182 0 81 (dk_at dksX0_clash_0 5 rfl rfl)
theorem dX0_clash_8 : decode cX0_clash 8 = .ok (.ifCond .eq 7, 3) := dk_153 0 7 (dk_at dksX0_clash_0 8 rfl rfl)
theorem dX0_clash_11 : decode cX0_clash 11 = .ok (.lconst 1, 1) := dk_10 (dk_at dksX0_clash_0 11 rfl rfl)
theorem dX0_clash_12 : decode cX0_clash 12 = .ok (.goto 4, 3) := dk_167 0 4 (dk_at dksX0_clash_0 12 rfl rfl)
theorem dX0_clash_15 : decode cX0_clash 15 = .ok (.lconst 0, 1) := dk_9 (dk_at dksX0_clash_0 15 rfl rfl)
theorem dX0_clash_16 : decode cX0_clash 16 = .ok (.lastore, 1) := dk_80 (dk_at dksX0_clash_0 16 rfl rfl)
theorem dX0_clash_17 : decode cX0_clash 17 = .ok (.goto 11, 3) := dk_167 0 11 (dk_at dksX0_clash_0 17 rfl rfl)
theorem dX0_clash_20 : decode cX0_clash 20 = .ok (.astore 4, 2) := dk_58 4 (dk_at dksX0_clash_0 20 rfl rfl)
theorem dX0_clash_22 : decode cX0_clash 22 = .ok (.iconst 1, 1) := dk_4 (dk_at dksX0_clash_0 22 rfl rfl)
theorem dX0_clash_23 : decode cX0_clash 23 = .ok (.ireturn, 1) := dk_172 (dk_at dksX0_clash_0 23 rfl rfl)
theorem dX0_clash_24 : decode cX0_clash 24 = .ok (.astore 4, 2) := dk_58 4 (dk_at dksX0_clash_1 0 rfl rfl)
theorem dX0_clash_26 : decode cX0_clash 26 = .ok (.iconst 2, 1) := dk_5 (dk_at dksX0_clash_1 2 rfl rfl)
theorem dX0_clash_27 : decode cX0_clash 27 = .ok (.ireturn, 1) := dk_172 (dk_at dksX0_clash_1 3 rfl rfl)
theorem dX0_clash_28 : decode cX0_clash 28 = .ok (.iconst 0, 1) := dk_3 (dk_at dksX0_clash_1 4 rfl rfl)
theorem dX0_clash_29 : decode cX0_clash 29 = .ok (.ireturn, 1) := dk_172 (dk_at dksX0_clash_1 5 rfl rfl)
abbrev cX0_which : ByteArray := method_23_code
def yX0_which : MethodName := ⟨RX0, "which", "(LGuestView;[J)I"⟩
def dkwX0_which_0 : List UInt8 := [43, 3, 42, 182, 0, 85, 133, 80, 167, 0, 6, 77, 4, 172, 3, 172]
abbrev dktX0_which_0 : List UInt8 := dkwX0_which_0 ++ []
theorem dksX0_which_0 : cX0_which.data.toList.drop 0 = dktX0_which_0 := by decide +kernel
theorem dX0_which_0 : decode cX0_which 0 = .ok (.aload_n 1, 1) := dk_43 (dk_at dksX0_which_0 0 rfl rfl)
theorem dX0_which_1 : decode cX0_which 1 = .ok (.iconst 0, 1) := dk_3 (dk_at dksX0_which_0 1 rfl rfl)
theorem dX0_which_2 : decode cX0_which 2 = .ok (.aload_n 0, 1) := dk_42 (dk_at dksX0_which_0 2 rfl rfl)
theorem dX0_which_3 : decode cX0_which 3 = .ok (.invokevirtual 85, 3) := dk_182 0 85 (dk_at dksX0_which_0 3 rfl rfl)
theorem dX0_which_6 : decode cX0_which 6 = .ok (.i2l, 1) := dk_133 (dk_at dksX0_which_0 6 rfl rfl)
theorem dX0_which_7 : decode cX0_which 7 = .ok (.lastore, 1) := dk_80 (dk_at dksX0_which_0 7 rfl rfl)
theorem dX0_which_8 : decode cX0_which 8 = .ok (.goto 6, 3) := dk_167 0 6 (dk_at dksX0_which_0 8 rfl rfl)
theorem dX0_which_11 : decode cX0_which 11 = .ok (.astore_n 2, 1) := dk_77 (dk_at dksX0_which_0 11 rfl rfl)
theorem dX0_which_12 : decode cX0_which 12 = .ok (.iconst 1, 1) := dk_4 (dk_at dksX0_which_0 12 rfl rfl)
theorem dX0_which_13 : decode cX0_which 13 = .ok (.ireturn, 1) := dk_172 (dk_at dksX0_which_0 13 rfl rfl)
theorem dX0_which_14 : decode cX0_which 14 = .ok (.iconst 0, 1) := dk_3 (dk_at dksX0_which_0 14 rfl rfl)
theorem dX0_which_15 : decode cX0_which 15 = .ok (.ireturn, 1) := dk_172 (dk_at dksX0_which_0 15 rfl rfl)
abbrev cX0_likely : ByteArray := method_24_code
def yX0_likely : MethodName := ⟨RX0, "likely", "(LGuestView;[J)I"⟩
def dkwX0_likely_0 : List UInt8 := [43, 3, 42, 182, 0, 88, 133, 80, 167, 0, 6, 77, 4, 172, 3, 172]
abbrev dktX0_likely_0 : List UInt8 := dkwX0_likely_0 ++ []
theorem dksX0_likely_0 : cX0_likely.data.toList.drop 0 = dktX0_likely_0 := by decide +kernel
theorem dX0_likely_0 : decode cX0_likely 0 = .ok (.aload_n 1, 1) := dk_43 (dk_at dksX0_likely_0 0 rfl rfl)
theorem dX0_likely_1 : decode cX0_likely 1 = .ok (.iconst 0, 1) := dk_3 (dk_at dksX0_likely_0 1 rfl rfl)
theorem dX0_likely_2 : decode cX0_likely 2 = .ok (.aload_n 0, 1) := dk_42 (dk_at dksX0_likely_0 2 rfl rfl)
theorem dX0_likely_3 : decode cX0_likely 3 = .ok (.invokevirtual 88, 3) := dk_182 0 88 (dk_at dksX0_likely_0 3 rfl rfl)
theorem dX0_likely_6 : decode cX0_likely 6 = .ok (.i2l, 1) := dk_133 (dk_at dksX0_likely_0 6 rfl rfl)
theorem dX0_likely_7 : decode cX0_likely 7 = .ok (.lastore, 1) := dk_80 (dk_at dksX0_likely_0 7 rfl rfl)
theorem dX0_likely_8 : decode cX0_likely 8 = .ok (.goto 6, 3) := dk_167 0 6 (dk_at dksX0_likely_0 8 rfl rfl)
theorem dX0_likely_11 : decode cX0_likely 11 = .ok (.astore_n 2, 1) := dk_77 (dk_at dksX0_likely_0 11 rfl rfl)
theorem dX0_likely_12 : decode cX0_likely 12 = .ok (.iconst 1, 1) := dk_4 (dk_at dksX0_likely_0 12 rfl rfl)
theorem dX0_likely_13 : decode cX0_likely 13 = .ok (.ireturn, 1) := dk_172 (dk_at dksX0_likely_0 13 rfl rfl)
theorem dX0_likely_14 : decode cX0_likely 14 = .ok (.iconst 0, 1) := dk_3 (dk_at dksX0_likely_0 14 rfl rfl)
theorem dX0_likely_15 : decode cX0_likely 15 = .ok (.ireturn, 1) := dk_172 (dk_at dksX0_likely_0 15 rfl rfl)
abbrev cX0_ask : ByteArray := method_25_code
def yX0_ask : MethodName := ⟨RX0, "ask", "(LGuestView;[J)I"⟩
def dkwX0_ask_0 : List UInt8 := [43, 3, 42, 182, 0, 91, 133, 80, 167, 0, 6, 77, 4, 172, 3, 172]
abbrev dktX0_ask_0 : List UInt8 := dkwX0_ask_0 ++ []
theorem dksX0_ask_0 : cX0_ask.data.toList.drop 0 = dktX0_ask_0 := by decide +kernel
theorem dX0_ask_0 : decode cX0_ask 0 = .ok (.aload_n 1, 1) := dk_43 (dk_at dksX0_ask_0 0 rfl rfl)
theorem dX0_ask_1 : decode cX0_ask 1 = .ok (.iconst 0, 1) := dk_3 (dk_at dksX0_ask_0 1 rfl rfl)
theorem dX0_ask_2 : decode cX0_ask 2 = .ok (.aload_n 0, 1) := dk_42 (dk_at dksX0_ask_0 2 rfl rfl)
theorem dX0_ask_3 : decode cX0_ask 3 = .ok (.invokevirtual 91, 3) := dk_182 0 91 (dk_at dksX0_ask_0 3 rfl rfl)
theorem dX0_ask_6 : decode cX0_ask 6 = .ok (.i2l, 1) := dk_133 (dk_at dksX0_ask_0 6 rfl rfl)
theorem dX0_ask_7 : decode cX0_ask 7 = .ok (.lastore, 1) := dk_80 (dk_at dksX0_ask_0 7 rfl rfl)
theorem dX0_ask_8 : decode cX0_ask 8 = .ok (.goto 6, 3) := dk_167 0 6 (dk_at dksX0_ask_0 8 rfl rfl)
theorem dX0_ask_11 : decode cX0_ask 11 = .ok (.astore_n 2, 1) := dk_77 (dk_at dksX0_ask_0 11 rfl rfl)
theorem dX0_ask_12 : decode cX0_ask 12 = .ok (.iconst 1, 1) := dk_4 (dk_at dksX0_ask_0 12 rfl rfl)
theorem dX0_ask_13 : decode cX0_ask 13 = .ok (.ireturn, 1) := dk_172 (dk_at dksX0_ask_0 13 rfl rfl)
theorem dX0_ask_14 : decode cX0_ask 14 = .ok (.iconst 0, 1) := dk_3 (dk_at dksX0_ask_0 14 rfl rfl)
theorem dX0_ask_15 : decode cX0_ask 15 = .ok (.ireturn, 1) := dk_172 (dk_at dksX0_ask_0 15 rfl rfl)
abbrev cX0_pairs : ByteArray := method_26_code
def yX0_pairs : MethodName := ⟨RX0, "pairs", "(LGuestView;I[J)I"⟩
def dkwX0_pairs_0 : List UInt8 := [44, 3, 42, 27, 182, 0, 94, 133, 80, 167, 0, 6, 78, 4, 172, 3, 172]
abbrev dktX0_pairs_0 : List UInt8 := dkwX0_pairs_0 ++ []
theorem dksX0_pairs_0 : cX0_pairs.data.toList.drop 0 = dktX0_pairs_0 := by decide +kernel
theorem dX0_pairs_0 : decode cX0_pairs 0 = .ok (.aload_n 2, 1) := dk_44 (dk_at dksX0_pairs_0 0 rfl rfl)
theorem dX0_pairs_1 : decode cX0_pairs 1 = .ok (.iconst 0, 1) := dk_3 (dk_at dksX0_pairs_0 1 rfl rfl)
theorem dX0_pairs_2 : decode cX0_pairs 2 = .ok (.aload_n 0, 1) := dk_42 (dk_at dksX0_pairs_0 2 rfl rfl)
theorem dX0_pairs_3 : decode cX0_pairs 3 = .ok (.iload_n 1, 1) := dk_27 (dk_at dksX0_pairs_0 3 rfl rfl)
theorem dX0_pairs_4 : decode cX0_pairs 4 = .ok (.invokevirtual 94, 3) := dk_182 0 94 (dk_at dksX0_pairs_0 4 rfl rfl)
theorem dX0_pairs_7 : decode cX0_pairs 7 = .ok (.i2l, 1) := dk_133 (dk_at dksX0_pairs_0 7 rfl rfl)
theorem dX0_pairs_8 : decode cX0_pairs 8 = .ok (.lastore, 1) := dk_80 (dk_at dksX0_pairs_0 8 rfl rfl)
theorem dX0_pairs_9 : decode cX0_pairs 9 = .ok (.goto 6, 3) := dk_167 0 6 (dk_at dksX0_pairs_0 9 rfl rfl)
theorem dX0_pairs_12 : decode cX0_pairs 12 = .ok (.astore_n 3, 1) := dk_78 (dk_at dksX0_pairs_0 12 rfl rfl)
theorem dX0_pairs_13 : decode cX0_pairs 13 = .ok (.iconst 1, 1) := dk_4 (dk_at dksX0_pairs_0 13 rfl rfl)
theorem dX0_pairs_14 : decode cX0_pairs 14 = .ok (.ireturn, 1) := dk_172 (dk_at dksX0_pairs_0 14 rfl rfl)
theorem dX0_pairs_15 : decode cX0_pairs 15 = .ok (.iconst 0, 1) := dk_3 (dk_at dksX0_pairs_0 15 rfl rfl)
theorem dX0_pairs_16 : decode cX0_pairs 16 = .ok (.ireturn, 1) := dk_172 (dk_at dksX0_pairs_0 16 rfl rfl)
abbrev cX0_rests : ByteArray := method_27_code
def yX0_rests : MethodName := ⟨RX0, "rests", "(LGuestView;I[J)I"⟩
def dkwX0_rests_0 : List UInt8 := [44, 3, 42, 27, 182, 0, 97, 133, 80, 167, 0, 6, 78, 4, 172, 3, 172]
abbrev dktX0_rests_0 : List UInt8 := dkwX0_rests_0 ++ []
theorem dksX0_rests_0 : cX0_rests.data.toList.drop 0 = dktX0_rests_0 := by decide +kernel
theorem dX0_rests_0 : decode cX0_rests 0 = .ok (.aload_n 2, 1) := dk_44 (dk_at dksX0_rests_0 0 rfl rfl)
theorem dX0_rests_1 : decode cX0_rests 1 = .ok (.iconst 0, 1) := dk_3 (dk_at dksX0_rests_0 1 rfl rfl)
theorem dX0_rests_2 : decode cX0_rests 2 = .ok (.aload_n 0, 1) := dk_42 (dk_at dksX0_rests_0 2 rfl rfl)
theorem dX0_rests_3 : decode cX0_rests 3 = .ok (.iload_n 1, 1) := dk_27 (dk_at dksX0_rests_0 3 rfl rfl)
theorem dX0_rests_4 : decode cX0_rests 4 = .ok (.invokevirtual 97, 3) := dk_182 0 97 (dk_at dksX0_rests_0 4 rfl rfl)
theorem dX0_rests_7 : decode cX0_rests 7 = .ok (.i2l, 1) := dk_133 (dk_at dksX0_rests_0 7 rfl rfl)
theorem dX0_rests_8 : decode cX0_rests 8 = .ok (.lastore, 1) := dk_80 (dk_at dksX0_rests_0 8 rfl rfl)
theorem dX0_rests_9 : decode cX0_rests 9 = .ok (.goto 6, 3) := dk_167 0 6 (dk_at dksX0_rests_0 9 rfl rfl)
theorem dX0_rests_12 : decode cX0_rests 12 = .ok (.astore_n 3, 1) := dk_78 (dk_at dksX0_rests_0 12 rfl rfl)
theorem dX0_rests_13 : decode cX0_rests 13 = .ok (.iconst 1, 1) := dk_4 (dk_at dksX0_rests_0 13 rfl rfl)
theorem dX0_rests_14 : decode cX0_rests 14 = .ok (.ireturn, 1) := dk_172 (dk_at dksX0_rests_0 14 rfl rfl)
theorem dX0_rests_15 : decode cX0_rests 15 = .ok (.iconst 0, 1) := dk_3 (dk_at dksX0_rests_0 15 rfl rfl)
theorem dX0_rests_16 : decode cX0_rests 16 = .ok (.ireturn, 1) := dk_172 (dk_at dksX0_rests_0 16 rfl rfl)
abbrev cX0_odds : ByteArray := method_28_code
def yX0_odds : MethodName := ⟨RX0, "odds", "(LGuestView;II[J)I"⟩
def dkwX0_odds_0 : List UInt8 := [45, 3, 42, 27, 28, 182, 0, 100, 133, 80, 167, 0, 7, 58, 4, 4, 172, 3, 172]
abbrev dktX0_odds_0 : List UInt8 := dkwX0_odds_0 ++ []
theorem dksX0_odds_0 : cX0_odds.data.toList.drop 0 = dktX0_odds_0 := by decide +kernel
theorem dX0_odds_0 : decode cX0_odds 0 = .ok (.aload_n 3, 1) := dk_45 (dk_at dksX0_odds_0 0 rfl rfl)
theorem dX0_odds_1 : decode cX0_odds 1 = .ok (.iconst 0, 1) := dk_3 (dk_at dksX0_odds_0 1 rfl rfl)
theorem dX0_odds_2 : decode cX0_odds 2 = .ok (.aload_n 0, 1) := dk_42 (dk_at dksX0_odds_0 2 rfl rfl)
theorem dX0_odds_3 : decode cX0_odds 3 = .ok (.iload_n 1, 1) := dk_27 (dk_at dksX0_odds_0 3 rfl rfl)
theorem dX0_odds_4 : decode cX0_odds 4 = .ok (.iload_n 2, 1) := dk_28 (dk_at dksX0_odds_0 4 rfl rfl)
theorem dX0_odds_5 : decode cX0_odds 5 = .ok (.invokevirtual 100, 3) := dk_182 0 100 (dk_at dksX0_odds_0 5 rfl rfl)
theorem dX0_odds_8 : decode cX0_odds 8 = .ok (.i2l, 1) := dk_133 (dk_at dksX0_odds_0 8 rfl rfl)
theorem dX0_odds_9 : decode cX0_odds 9 = .ok (.lastore, 1) := dk_80 (dk_at dksX0_odds_0 9 rfl rfl)
theorem dX0_odds_10 : decode cX0_odds 10 = .ok (.goto 7, 3) := dk_167 0 7 (dk_at dksX0_odds_0 10 rfl rfl)
theorem dX0_odds_13 : decode cX0_odds 13 = .ok (.astore 4, 2) := dk_58 4 (dk_at dksX0_odds_0 13 rfl rfl)
theorem dX0_odds_15 : decode cX0_odds 15 = .ok (.iconst 1, 1) := dk_4 (dk_at dksX0_odds_0 15 rfl rfl)
theorem dX0_odds_16 : decode cX0_odds 16 = .ok (.ireturn, 1) := dk_172 (dk_at dksX0_odds_0 16 rfl rfl)
theorem dX0_odds_17 : decode cX0_odds 17 = .ok (.iconst 0, 1) := dk_3 (dk_at dksX0_odds_0 17 rfl rfl)
theorem dX0_odds_18 : decode cX0_odds 18 = .ok (.ireturn, 1) := dk_172 (dk_at dksX0_odds_0 18 rfl rfl)
abbrev cX0_most : ByteArray := method_29_code
def yX0_most : MethodName := ⟨RX0, "most", "(LGuestView;I[J)I"⟩
def dkwX0_most_0 : List UInt8 := [44, 3, 42, 27, 182, 0, 103, 133, 80, 167, 0, 6, 78, 4, 172, 3, 172]
abbrev dktX0_most_0 : List UInt8 := dkwX0_most_0 ++ []
theorem dksX0_most_0 : cX0_most.data.toList.drop 0 = dktX0_most_0 := by decide +kernel
theorem dX0_most_0 : decode cX0_most 0 = .ok (.aload_n 2, 1) := dk_44 (dk_at dksX0_most_0 0 rfl rfl)
theorem dX0_most_1 : decode cX0_most 1 = .ok (.iconst 0, 1) := dk_3 (dk_at dksX0_most_0 1 rfl rfl)
theorem dX0_most_2 : decode cX0_most 2 = .ok (.aload_n 0, 1) := dk_42 (dk_at dksX0_most_0 2 rfl rfl)
theorem dX0_most_3 : decode cX0_most 3 = .ok (.iload_n 1, 1) := dk_27 (dk_at dksX0_most_0 3 rfl rfl)
theorem dX0_most_4 : decode cX0_most 4 = .ok (.invokevirtual 103, 3) := dk_182 0 103 (dk_at dksX0_most_0 4 rfl rfl)
theorem dX0_most_7 : decode cX0_most 7 = .ok (.i2l, 1) := dk_133 (dk_at dksX0_most_0 7 rfl rfl)
theorem dX0_most_8 : decode cX0_most 8 = .ok (.lastore, 1) := dk_80 (dk_at dksX0_most_0 8 rfl rfl)
theorem dX0_most_9 : decode cX0_most 9 = .ok (.goto 6, 3) := dk_167 0 6 (dk_at dksX0_most_0 9 rfl rfl)
theorem dX0_most_12 : decode cX0_most 12 = .ok (.astore_n 3, 1) := dk_78 (dk_at dksX0_most_0 12 rfl rfl)
theorem dX0_most_13 : decode cX0_most 13 = .ok (.iconst 1, 1) := dk_4 (dk_at dksX0_most_0 13 rfl rfl)
theorem dX0_most_14 : decode cX0_most 14 = .ok (.ireturn, 1) := dk_172 (dk_at dksX0_most_0 14 rfl rfl)
theorem dX0_most_15 : decode cX0_most 15 = .ok (.iconst 0, 1) := dk_3 (dk_at dksX0_most_0 15 rfl rfl)
theorem dX0_most_16 : decode cX0_most 16 = .ok (.ireturn, 1) := dk_172 (dk_at dksX0_most_0 16 rfl rfl)
abbrev cX0_ahead : ByteArray := method_30_code
def yX0_ahead : MethodName := ⟨RX0, "ahead", "(LGuestView;IZ[J)I"⟩
def dkwX0_ahead_0 : List UInt8 := [45, 3, 42, 27, 28, 182, 0, 106, 133, 80, 167, 0, 7, 58, 4, 4, 172, 3, 172]
abbrev dktX0_ahead_0 : List UInt8 := dkwX0_ahead_0 ++ []
theorem dksX0_ahead_0 : cX0_ahead.data.toList.drop 0 = dktX0_ahead_0 := by decide +kernel
theorem dX0_ahead_0 : decode cX0_ahead 0 = .ok (.aload_n 3, 1) := dk_45 (dk_at dksX0_ahead_0 0 rfl rfl)
theorem dX0_ahead_1 : decode cX0_ahead 1 = .ok (.iconst 0, 1) := dk_3 (dk_at dksX0_ahead_0 1 rfl rfl)
theorem dX0_ahead_2 : decode cX0_ahead 2 = .ok (.aload_n 0, 1) := dk_42 (dk_at dksX0_ahead_0 2 rfl rfl)
theorem dX0_ahead_3 : decode cX0_ahead 3 = .ok (.iload_n 1, 1) := dk_27 (dk_at dksX0_ahead_0 3 rfl rfl)
theorem dX0_ahead_4 : decode cX0_ahead 4 = .ok (.iload_n 2, 1) := dk_28 (dk_at dksX0_ahead_0 4 rfl rfl)
theorem dX0_ahead_5 : decode cX0_ahead 5 = .ok (.invokevirtual 106, 3) := dk_182 0 106 (dk_at dksX0_ahead_0 5 rfl rfl)
theorem dX0_ahead_8 : decode cX0_ahead 8 = .ok (.i2l, 1) := dk_133 (dk_at dksX0_ahead_0 8 rfl rfl)
theorem dX0_ahead_9 : decode cX0_ahead 9 = .ok (.lastore, 1) := dk_80 (dk_at dksX0_ahead_0 9 rfl rfl)
theorem dX0_ahead_10 : decode cX0_ahead 10 = .ok (.goto 7, 3) := dk_167 0 7 (dk_at dksX0_ahead_0 10 rfl rfl)
theorem dX0_ahead_13 : decode cX0_ahead 13 = .ok (.astore 4, 2) := dk_58 4 (dk_at dksX0_ahead_0 13 rfl rfl)
theorem dX0_ahead_15 : decode cX0_ahead 15 = .ok (.iconst 1, 1) := dk_4 (dk_at dksX0_ahead_0 15 rfl rfl)
theorem dX0_ahead_16 : decode cX0_ahead 16 = .ok (.ireturn, 1) := dk_172 (dk_at dksX0_ahead_0 16 rfl rfl)
theorem dX0_ahead_17 : decode cX0_ahead 17 = .ok (.iconst 0, 1) := dk_3 (dk_at dksX0_ahead_0 17 rfl rfl)
theorem dX0_ahead_18 : decode cX0_ahead 18 = .ok (.ireturn, 1) := dk_172 (dk_at dksX0_ahead_0 18 rfl rfl)
abbrev cX0_trial : ByteArray := method_31_code
def yX0_trial : MethodName := ⟨RX0, "trial", "(LGuestView;IZ[J)I"⟩
def dkwX0_trial_0 : List UInt8 := [45, 3, 42, 27, 28, 182, 0, 110, 133, 80, 167, 0, 7, 58, 4, 4, 172, 3, 172]
abbrev dktX0_trial_0 : List UInt8 := dkwX0_trial_0 ++ []
theorem dksX0_trial_0 : cX0_trial.data.toList.drop 0 = dktX0_trial_0 := by decide +kernel
theorem dX0_trial_0 : decode cX0_trial 0 = .ok (.aload_n 3, 1) := dk_45 (dk_at dksX0_trial_0 0 rfl rfl)
theorem dX0_trial_1 : decode cX0_trial 1 = .ok (.iconst 0, 1) := dk_3 (dk_at dksX0_trial_0 1 rfl rfl)
theorem dX0_trial_2 : decode cX0_trial 2 = .ok (.aload_n 0, 1) := dk_42 (dk_at dksX0_trial_0 2 rfl rfl)
theorem dX0_trial_3 : decode cX0_trial 3 = .ok (.iload_n 1, 1) := dk_27 (dk_at dksX0_trial_0 3 rfl rfl)
theorem dX0_trial_4 : decode cX0_trial 4 = .ok (.iload_n 2, 1) := dk_28 (dk_at dksX0_trial_0 4 rfl rfl)
theorem dX0_trial_5 : decode cX0_trial 5 = .ok (.invokevirtual 110, 3) := dk_182 0 110 (dk_at dksX0_trial_0 5 rfl rfl)
theorem dX0_trial_8 : decode cX0_trial 8 = .ok (.i2l, 1) := dk_133 (dk_at dksX0_trial_0 8 rfl rfl)
theorem dX0_trial_9 : decode cX0_trial 9 = .ok (.lastore, 1) := dk_80 (dk_at dksX0_trial_0 9 rfl rfl)
theorem dX0_trial_10 : decode cX0_trial 10 = .ok (.goto 7, 3) := dk_167 0 7 (dk_at dksX0_trial_0 10 rfl rfl)
theorem dX0_trial_13 : decode cX0_trial 13 = .ok (.astore 4, 2) := dk_58 4 (dk_at dksX0_trial_0 13 rfl rfl)
theorem dX0_trial_15 : decode cX0_trial 15 = .ok (.iconst 1, 1) := dk_4 (dk_at dksX0_trial_0 15 rfl rfl)
theorem dX0_trial_16 : decode cX0_trial 16 = .ok (.ireturn, 1) := dk_172 (dk_at dksX0_trial_0 16 rfl rfl)
theorem dX0_trial_17 : decode cX0_trial 17 = .ok (.iconst 0, 1) := dk_3 (dk_at dksX0_trial_0 17 rfl rfl)
theorem dX0_trial_18 : decode cX0_trial 18 = .ok (.ireturn, 1) := dk_172 (dk_at dksX0_trial_0 18 rfl rfl)
abbrev cX0_span : ByteArray := method_32_code
def yX0_span : MethodName := ⟨RX0, "span", "(LGuestView;IZ[J)I"⟩
def dkwX0_span_0 : List UInt8 := [45, 3, 42, 27, 28, 182, 0, 113, 133, 80, 167, 0, 7, 58, 4, 4, 172, 3, 172]
abbrev dktX0_span_0 : List UInt8 := dkwX0_span_0 ++ []
theorem dksX0_span_0 : cX0_span.data.toList.drop 0 = dktX0_span_0 := by decide +kernel
theorem dX0_span_0 : decode cX0_span 0 = .ok (.aload_n 3, 1) := dk_45 (dk_at dksX0_span_0 0 rfl rfl)
theorem dX0_span_1 : decode cX0_span 1 = .ok (.iconst 0, 1) := dk_3 (dk_at dksX0_span_0 1 rfl rfl)
theorem dX0_span_2 : decode cX0_span 2 = .ok (.aload_n 0, 1) := dk_42 (dk_at dksX0_span_0 2 rfl rfl)
theorem dX0_span_3 : decode cX0_span 3 = .ok (.iload_n 1, 1) := dk_27 (dk_at dksX0_span_0 3 rfl rfl)
theorem dX0_span_4 : decode cX0_span 4 = .ok (.iload_n 2, 1) := dk_28 (dk_at dksX0_span_0 4 rfl rfl)
theorem dX0_span_5 : decode cX0_span 5 = .ok (.invokevirtual 113, 3) := dk_182 0 113 (dk_at dksX0_span_0 5 rfl rfl)
theorem dX0_span_8 : decode cX0_span 8 = .ok (.i2l, 1) := dk_133 (dk_at dksX0_span_0 8 rfl rfl)
theorem dX0_span_9 : decode cX0_span 9 = .ok (.lastore, 1) := dk_80 (dk_at dksX0_span_0 9 rfl rfl)
theorem dX0_span_10 : decode cX0_span 10 = .ok (.goto 7, 3) := dk_167 0 7 (dk_at dksX0_span_0 10 rfl rfl)
theorem dX0_span_13 : decode cX0_span 13 = .ok (.astore 4, 2) := dk_58 4 (dk_at dksX0_span_0 13 rfl rfl)
theorem dX0_span_15 : decode cX0_span 15 = .ok (.iconst 1, 1) := dk_4 (dk_at dksX0_span_0 15 rfl rfl)
theorem dX0_span_16 : decode cX0_span 16 = .ok (.ireturn, 1) := dk_172 (dk_at dksX0_span_0 16 rfl rfl)
theorem dX0_span_17 : decode cX0_span 17 = .ok (.iconst 0, 1) := dk_3 (dk_at dksX0_span_0 17 rfl rfl)
theorem dX0_span_18 : decode cX0_span 18 = .ok (.ireturn, 1) := dk_172 (dk_at dksX0_span_0 18 rfl rfl)
abbrev cX0_led : ByteArray := method_33_code
def yX0_led : MethodName := ⟨RX0, "led", "(LGuestView;IZ[J)I"⟩
def dkwX0_led_0 : List UInt8 := [45, 3, 42, 27, 28, 182, 0, 116, 133, 80, 167, 0, 7, 58, 4, 4, 172, 3, 172]
abbrev dktX0_led_0 : List UInt8 := dkwX0_led_0 ++ []
theorem dksX0_led_0 : cX0_led.data.toList.drop 0 = dktX0_led_0 := by decide +kernel
theorem dX0_led_0 : decode cX0_led 0 = .ok (.aload_n 3, 1) := dk_45 (dk_at dksX0_led_0 0 rfl rfl)
theorem dX0_led_1 : decode cX0_led 1 = .ok (.iconst 0, 1) := dk_3 (dk_at dksX0_led_0 1 rfl rfl)
theorem dX0_led_2 : decode cX0_led 2 = .ok (.aload_n 0, 1) := dk_42 (dk_at dksX0_led_0 2 rfl rfl)
theorem dX0_led_3 : decode cX0_led 3 = .ok (.iload_n 1, 1) := dk_27 (dk_at dksX0_led_0 3 rfl rfl)
theorem dX0_led_4 : decode cX0_led 4 = .ok (.iload_n 2, 1) := dk_28 (dk_at dksX0_led_0 4 rfl rfl)
theorem dX0_led_5 : decode cX0_led 5 = .ok (.invokevirtual 116, 3) := dk_182 0 116 (dk_at dksX0_led_0 5 rfl rfl)
theorem dX0_led_8 : decode cX0_led 8 = .ok (.i2l, 1) := dk_133 (dk_at dksX0_led_0 8 rfl rfl)
theorem dX0_led_9 : decode cX0_led 9 = .ok (.lastore, 1) := dk_80 (dk_at dksX0_led_0 9 rfl rfl)
theorem dX0_led_10 : decode cX0_led 10 = .ok (.goto 7, 3) := dk_167 0 7 (dk_at dksX0_led_0 10 rfl rfl)
theorem dX0_led_13 : decode cX0_led 13 = .ok (.astore 4, 2) := dk_58 4 (dk_at dksX0_led_0 13 rfl rfl)
theorem dX0_led_15 : decode cX0_led 15 = .ok (.iconst 1, 1) := dk_4 (dk_at dksX0_led_0 15 rfl rfl)
theorem dX0_led_16 : decode cX0_led 16 = .ok (.ireturn, 1) := dk_172 (dk_at dksX0_led_0 16 rfl rfl)
theorem dX0_led_17 : decode cX0_led 17 = .ok (.iconst 0, 1) := dk_3 (dk_at dksX0_led_0 17 rfl rfl)
theorem dX0_led_18 : decode cX0_led 18 = .ok (.ireturn, 1) := dk_172 (dk_at dksX0_led_0 18 rfl rfl)
abbrev cX0_log : ByteArray := method_34_code
def yX0_log : MethodName := ⟨RX0, "log", "(LGuestView;II[J)I"⟩
def dkwX0_log_0 : List UInt8 := [45, 3, 42, 27, 28, 182, 0, 119, 133, 80, 167, 0, 7, 58, 4, 4, 172, 3, 172]
abbrev dktX0_log_0 : List UInt8 := dkwX0_log_0 ++ []
theorem dksX0_log_0 : cX0_log.data.toList.drop 0 = dktX0_log_0 := by decide +kernel
theorem dX0_log_0 : decode cX0_log 0 = .ok (.aload_n 3, 1) := dk_45 (dk_at dksX0_log_0 0 rfl rfl)
theorem dX0_log_1 : decode cX0_log 1 = .ok (.iconst 0, 1) := dk_3 (dk_at dksX0_log_0 1 rfl rfl)
theorem dX0_log_2 : decode cX0_log 2 = .ok (.aload_n 0, 1) := dk_42 (dk_at dksX0_log_0 2 rfl rfl)
theorem dX0_log_3 : decode cX0_log 3 = .ok (.iload_n 1, 1) := dk_27 (dk_at dksX0_log_0 3 rfl rfl)
theorem dX0_log_4 : decode cX0_log 4 = .ok (.iload_n 2, 1) := dk_28 (dk_at dksX0_log_0 4 rfl rfl)
theorem dX0_log_5 : decode cX0_log 5 = .ok (.invokevirtual 119, 3) := dk_182 0 119 (dk_at dksX0_log_0 5 rfl rfl)
theorem dX0_log_8 : decode cX0_log 8 = .ok (.i2l, 1) := dk_133 (dk_at dksX0_log_0 8 rfl rfl)
theorem dX0_log_9 : decode cX0_log 9 = .ok (.lastore, 1) := dk_80 (dk_at dksX0_log_0 9 rfl rfl)
theorem dX0_log_10 : decode cX0_log 10 = .ok (.goto 7, 3) := dk_167 0 7 (dk_at dksX0_log_0 10 rfl rfl)
theorem dX0_log_13 : decode cX0_log 13 = .ok (.astore 4, 2) := dk_58 4 (dk_at dksX0_log_0 13 rfl rfl)
theorem dX0_log_15 : decode cX0_log 15 = .ok (.iconst 1, 1) := dk_4 (dk_at dksX0_log_0 15 rfl rfl)
theorem dX0_log_16 : decode cX0_log 16 = .ok (.ireturn, 1) := dk_172 (dk_at dksX0_log_0 16 rfl rfl)
theorem dX0_log_17 : decode cX0_log 17 = .ok (.iconst 0, 1) := dk_3 (dk_at dksX0_log_0 17 rfl rfl)
theorem dX0_log_18 : decode cX0_log 18 = .ok (.ireturn, 1) := dk_172 (dk_at dksX0_log_0 18 rfl rfl)
theorem q151 : (Jvm.Cond.initialized "GuestViewLaw") ∈ lw_all := lw_g (lw_at lw_m1 0 rfl) rfl
theorem q184 : (Jvm.Cond.classLink "GuestViewLaw" (8 : Nat) "GuestView") ∈ lw_all := lw_g (lw_at lw_m1 33 rfl) rfl
theorem q186 : (Jvm.Cond.methodLink "GuestViewLaw" (122 : Nat) ({ cls := "GuestView", name := "<init>", desc := "()V" } : Jvm.MethodName)) ∈ lw_all := lw_g (lw_at lw_m1 35 rfl) rfl
theorem q604 : (Jvm.Cond.methodLink "GuestViewLaw" (126 : Nat) ({ cls := "GuestView", name := "feed", desc := "(IIIII)I" } : Jvm.MethodName)) ∈ lw_all := lw_g (lw_at lw_m2 213 rfl) rfl
theorem q612 : (Jvm.Cond.methodLink "GuestViewLaw" (131 : Nat) ({ cls := "GuestView", name := "end", desc := "(I)Z" } : Jvm.MethodName)) ∈ lw_all := lw_g (lw_at lw_m2 221 rfl) rfl
theorem q619 : (Jvm.Cond.methodLink "GuestViewLaw" (148 : Nat) ({ cls := "GuestView", name := "fault", desc := "()I" } : Jvm.MethodName)) ∈ lw_all := lw_g (lw_at lw_m2 228 rfl) rfl
theorem q623 : (Jvm.Cond.methodLink "GuestViewLaw" (167 : Nat) ({ cls := "GuestView", name := "program", desc := "(I)I" } : Jvm.MethodName)) ∈ lw_all := lw_g (lw_at lw_m2 232 rfl) rfl
theorem q627 : (Jvm.Cond.methodLink "GuestViewLaw" (182 : Nat) ({ cls := "GuestView", name := "boot", desc := "()V" } : Jvm.MethodName)) ∈ lw_all := lw_g (lw_at lw_m2 236 rfl) rfl
theorem q663 : (Jvm.Cond.methodLink "GuestViewLaw" (211 : Nat) ({ cls := "GuestView", name := "hostable", desc := "()Z" } : Jvm.MethodName)) ∈ lw_all := lw_g (lw_at lw_m3 32 rfl) rfl
theorem q679 : (Jvm.Cond.methodLink "GuestViewLaw" (216 : Nat) ({ cls := "GuestView", name := "alike", desc := "()Z" } : Jvm.MethodName)) ∈ lw_all := lw_g (lw_at lw_m3 48 rfl) rfl
theorem q691 : (Jvm.Cond.methodLink "GuestViewLaw" (220 : Nat) ({ cls := "GuestView", name := "leaks", desc := "()I" } : Jvm.MethodName)) ∈ lw_all := lw_g (lw_at lw_m3 60 rfl) rfl
theorem q818 : (Jvm.Cond.methodLink "GuestViewLaw" (230 : Nat) ({ cls := "GuestView", name := "least", desc := "()I" } : Jvm.MethodName)) ∈ lw_all := lw_g (lw_at lw_m3 187 rfl) rfl
theorem q822 : (Jvm.Cond.methodLink "GuestViewLaw" (234 : Nat) ({ cls := "GuestView", name := "proof", desc := "()I" } : Jvm.MethodName)) ∈ lw_all := lw_g (lw_at lw_m3 191 rfl) rfl
theorem q831 : (Jvm.Cond.methodLink "GuestViewLaw" (241 : Nat) ({ cls := "GuestView", name := "beside", desc := "()I" } : Jvm.MethodName)) ∈ lw_all := lw_g (lw_at lw_m3 200 rfl) rfl
theorem q849 : (Jvm.Cond.methodLink "GuestViewLaw" (245 : Nat) ({ cls := "GuestView", name := "open", desc := "()I" } : Jvm.MethodName)) ∈ lw_all := lw_g (lw_at lw_m3 218 rfl) rfl
theorem q853 : (Jvm.Cond.methodLink "GuestViewLaw" (258 : Nat) ({ cls := "GuestView", name := "lead", desc := "()I" } : Jvm.MethodName)) ∈ lw_all := lw_g (lw_at lw_m3 222 rfl) rfl
theorem q867 : (Jvm.Cond.methodLink "GuestViewLaw" (262 : Nat) ({ cls := "GuestView", name := "side", desc := "()I" } : Jvm.MethodName)) ∈ lw_all := lw_g (lw_at lw_m3 236 rfl) rfl
theorem q871 : (Jvm.Cond.methodLink "GuestViewLaw" (278 : Nat) ({ cls := "GuestView", name := "twins", desc := "()I" } : Jvm.MethodName)) ∈ lw_all := lw_g (lw_at lw_m4 0 rfl) rfl
theorem q882 : (Jvm.Cond.methodLink "GuestViewLaw" (297 : Nat) ({ cls := "GuestView", name := "seed", desc := "(I)I" } : Jvm.MethodName)) ∈ lw_all := lw_g (lw_at lw_m4 11 rfl) rfl
theorem q886 : (Jvm.Cond.methodLink "GuestViewLaw" (301 : Nat) ({ cls := "GuestView", name := "undo", desc := "()Z" } : Jvm.MethodName)) ∈ lw_all := lw_g (lw_at lw_m4 15 rfl) rfl
theorem q890 : (Jvm.Cond.methodLink "GuestViewLaw" (305 : Nat) ({ cls := "GuestView", name := "image", desc := "()V" } : Jvm.MethodName)) ∈ lw_all := lw_g (lw_at lw_m4 19 rfl) rfl
theorem q894 : (Jvm.Cond.methodLink "GuestViewLaw" (309 : Nat) ({ cls := "GuestView", name := "back", desc := "()Z" } : Jvm.MethodName)) ∈ lw_all := lw_g (lw_at lw_m4 23 rfl) rfl
theorem q898 : (Jvm.Cond.methodLink "GuestViewLaw" (313 : Nat) ({ cls := "GuestView", name := "count", desc := "(I)I" } : Jvm.MethodName)) ∈ lw_all := lw_g (lw_at lw_m4 27 rfl) rfl
theorem q902 : (Jvm.Cond.methodLink "GuestViewLaw" (136 : Nat) ({ cls := "GuestViewLaw", name := "bench", desc := "(LGuestView;[J)I" } : Jvm.MethodName)) ∈ lw_all := lw_g (lw_at lw_m4 31 rfl) rfl
theorem q903 : (Jvm.Cond.static ({ cls := "GuestViewLaw", name := "bench", desc := "(LGuestView;[J)I" } : Jvm.MethodName)) ∈ lw_all := lw_g (lw_at lw_m4 32 rfl) rfl
theorem q904 : (Jvm.Cond.codeWith ({ cls := "GuestViewLaw", name := "bench", desc := "(LGuestView;[J)I" } : Jvm.MethodName) method_3_code (3 : Nat) (Option.some Jvm.ClassFile.FieldType.int) [((0 : Nat), (8 : Nat), (11 : Nat), (13 : Nat)), ((0 : Nat), (8 : Nat), (14 : Nat), (15 : Nat))]) ∈ lw_all := lw_g (lw_at lw_m4 33 rfl) rfl
theorem q905 : (Jvm.Cond.classLink "GuestViewLaw" (13 : Nat) "java/lang/IllegalArgumentException") ∈ lw_all := lw_g (lw_at lw_m4 34 rfl) rfl
theorem q906 : (Jvm.Cond.classLink "GuestViewLaw" (15 : Nat) "java/lang/UnsupportedOperationException") ∈ lw_all := lw_g (lw_at lw_m4 35 rfl) rfl
theorem q907 : (Jvm.Cond.methodLink "GuestViewLaw" (7 : Nat) ({ cls := "GuestView", name := "bench", desc := "()I" } : Jvm.MethodName)) ∈ lw_all := lw_g (lw_at lw_m4 36 rfl) rfl
theorem q1130 : (Jvm.Cond.methodLink "GuestViewLaw" (145 : Nat) ({ cls := "GuestViewLaw", name := "law", desc := "(LGuestView;[J)I" } : Jvm.MethodName)) ∈ lw_all := lw_g (lw_at lw_m5 19 rfl) rfl
theorem q1131 : (Jvm.Cond.static ({ cls := "GuestViewLaw", name := "law", desc := "(LGuestView;[J)I" } : Jvm.MethodName)) ∈ lw_all := lw_g (lw_at lw_m5 20 rfl) rfl
theorem q1132 : (Jvm.Cond.codeWith ({ cls := "GuestViewLaw", name := "law", desc := "(LGuestView;[J)I" } : Jvm.MethodName) method_4_code (3 : Nat) (Option.some Jvm.ClassFile.FieldType.int) [((0 : Nat), (8 : Nat), (11 : Nat), (13 : Nat))]) ∈ lw_all := lw_g (lw_at lw_m5 21 rfl) rfl
theorem q1133 : (Jvm.Cond.methodLink "GuestViewLaw" (17 : Nat) ({ cls := "GuestView", name := "law", desc := "()I" } : Jvm.MethodName)) ∈ lw_all := lw_g (lw_at lw_m5 22 rfl) rfl
theorem q1266 : (Jvm.Cond.methodLink "GuestViewLaw" (152 : Nat) ({ cls := "GuestViewLaw", name := "op", desc := "(LGuestView;II[J)I" } : Jvm.MethodName)) ∈ lw_all := lw_g (lw_at lw_m5 155 rfl) rfl
theorem q1267 : (Jvm.Cond.static ({ cls := "GuestViewLaw", name := "op", desc := "(LGuestView;II[J)I" } : Jvm.MethodName)) ∈ lw_all := lw_g (lw_at lw_m5 156 rfl) rfl
theorem q1268 : (Jvm.Cond.codeWith ({ cls := "GuestViewLaw", name := "op", desc := "(LGuestView;II[J)I" } : Jvm.MethodName) method_5_code (5 : Nat) (Option.some Jvm.ClassFile.FieldType.int) [((0 : Nat), (10 : Nat), (13 : Nat), (24 : Nat)), ((0 : Nat), (10 : Nat), (17 : Nat), (26 : Nat))]) ∈ lw_all := lw_g (lw_at lw_m5 157 rfl) rfl
theorem q1269 : (Jvm.Cond.classLink "GuestViewLaw" (24 : Nat) "java/lang/IndexOutOfBoundsException") ∈ lw_all := lw_g (lw_at lw_m5 158 rfl) rfl
theorem q1301 : (Jvm.Cond.classLink "GuestViewLaw" (26 : Nat) "java/util/NoSuchElementException") ∈ lw_all := lw_g (lw_at lw_m5 190 rfl) rfl
theorem q1302 : (Jvm.Cond.methodLink "GuestViewLaw" (20 : Nat) ({ cls := "GuestView", name := "op", desc := "(II)I" } : Jvm.MethodName)) ∈ lw_all := lw_g (lw_at lw_m5 191 rfl) rfl
theorem q1354 : (Jvm.Cond.methodLink "GuestViewLaw" (156 : Nat) ({ cls := "GuestViewLaw", name := "micro", desc := "(LGuestView;IIZ[J)I" } : Jvm.MethodName)) ∈ lw_all := lw_g (lw_at lw_m6 3 rfl) rfl
theorem q1355 : (Jvm.Cond.static ({ cls := "GuestViewLaw", name := "micro", desc := "(LGuestView;IIZ[J)I" } : Jvm.MethodName)) ∈ lw_all := lw_g (lw_at lw_m6 4 rfl) rfl
theorem q1356 : (Jvm.Cond.codeWith ({ cls := "GuestViewLaw", name := "micro", desc := "(LGuestView;IIZ[J)I" } : Jvm.MethodName) method_6_code (6 : Nat) (Option.some Jvm.ClassFile.FieldType.int) [((0 : Nat), (12 : Nat), (15 : Nat), (24 : Nat))]) ∈ lw_all := lw_g (lw_at lw_m6 5 rfl) rfl
theorem q1357 : (Jvm.Cond.methodLink "GuestViewLaw" (28 : Nat) ({ cls := "GuestView", name := "micro", desc := "(IIZ)I" } : Jvm.MethodName)) ∈ lw_all := lw_g (lw_at lw_m6 6 rfl) rfl
theorem q1361 : (Jvm.Cond.methodLink "GuestViewLaw" (160 : Nat) ({ cls := "GuestViewLaw", name := "witness", desc := "(LGuestView;II[J)I" } : Jvm.MethodName)) ∈ lw_all := lw_g (lw_at lw_m6 10 rfl) rfl
theorem q1362 : (Jvm.Cond.static ({ cls := "GuestViewLaw", name := "witness", desc := "(LGuestView;II[J)I" } : Jvm.MethodName)) ∈ lw_all := lw_g (lw_at lw_m6 11 rfl) rfl
theorem q1363 : (Jvm.Cond.codeWith ({ cls := "GuestViewLaw", name := "witness", desc := "(LGuestView;II[J)I" } : Jvm.MethodName) method_7_code (5 : Nat) (Option.some Jvm.ClassFile.FieldType.int) [((0 : Nat), (10 : Nat), (13 : Nat), (24 : Nat)), ((0 : Nat), (10 : Nat), (17 : Nat), (26 : Nat))]) ∈ lw_all := lw_g (lw_at lw_m6 12 rfl) rfl
theorem q1364 : (Jvm.Cond.methodLink "GuestViewLaw" (32 : Nat) ({ cls := "GuestView", name := "witness", desc := "(II)I" } : Jvm.MethodName)) ∈ lw_all := lw_g (lw_at lw_m6 13 rfl) rfl
theorem q1371 : (Jvm.Cond.methodLink "GuestViewLaw" (163 : Nat) ({ cls := "GuestViewLaw", name := "done", desc := "(LGuestView;III[J)I" } : Jvm.MethodName)) ∈ lw_all := lw_g (lw_at lw_m6 20 rfl) rfl
theorem q1372 : (Jvm.Cond.static ({ cls := "GuestViewLaw", name := "done", desc := "(LGuestView;III[J)I" } : Jvm.MethodName)) ∈ lw_all := lw_g (lw_at lw_m6 21 rfl) rfl
theorem q1373 : (Jvm.Cond.codeWith ({ cls := "GuestViewLaw", name := "done", desc := "(LGuestView;III[J)I" } : Jvm.MethodName) method_8_code (6 : Nat) (Option.some Jvm.ClassFile.FieldType.int) [((0 : Nat), (12 : Nat), (15 : Nat), (24 : Nat)), ((0 : Nat), (12 : Nat), (19 : Nat), (13 : Nat)), ((0 : Nat), (12 : Nat), (23 : Nat), (26 : Nat))]) ∈ lw_all := lw_g (lw_at lw_m6 22 rfl) rfl
theorem q1374 : (Jvm.Cond.methodLink "GuestViewLaw" (35 : Nat) ({ cls := "GuestView", name := "done", desc := "(III)I" } : Jvm.MethodName)) ∈ lw_all := lw_g (lw_at lw_m6 23 rfl) rfl
theorem q1381 : (Jvm.Cond.methodLink "GuestViewLaw" (171 : Nat) ({ cls := "GuestViewLaw", name := "cell", desc := "(LGuestView;I[J)I" } : Jvm.MethodName)) ∈ lw_all := lw_g (lw_at lw_m6 30 rfl) rfl
theorem q1382 : (Jvm.Cond.static ({ cls := "GuestViewLaw", name := "cell", desc := "(LGuestView;I[J)I" } : Jvm.MethodName)) ∈ lw_all := lw_g (lw_at lw_m6 31 rfl) rfl
theorem q1383 : (Jvm.Cond.codeWith ({ cls := "GuestViewLaw", name := "cell", desc := "(LGuestView;I[J)I" } : Jvm.MethodName) method_9_code (4 : Nat) (Option.some Jvm.ClassFile.FieldType.int) [((0 : Nat), (9 : Nat), (12 : Nat), (24 : Nat))]) ∈ lw_all := lw_g (lw_at lw_m6 32 rfl) rfl
theorem q1384 : (Jvm.Cond.methodLink "GuestViewLaw" (39 : Nat) ({ cls := "GuestView", name := "cell", desc := "(I)I" } : Jvm.MethodName)) ∈ lw_all := lw_g (lw_at lw_m6 33 rfl) rfl
theorem q1391 : (Jvm.Cond.methodLink "GuestViewLaw" (175 : Nat) ({ cls := "GuestViewLaw", name := "guest", desc := "(LGuestView;ZI[J)I" } : Jvm.MethodName)) ∈ lw_all := lw_g (lw_at lw_m6 40 rfl) rfl
theorem q1392 : (Jvm.Cond.static ({ cls := "GuestViewLaw", name := "guest", desc := "(LGuestView;ZI[J)I" } : Jvm.MethodName)) ∈ lw_all := lw_g (lw_at lw_m6 41 rfl) rfl
theorem q1393 : (Jvm.Cond.codeWith ({ cls := "GuestViewLaw", name := "guest", desc := "(LGuestView;ZI[J)I" } : Jvm.MethodName) method_10_code (5 : Nat) (Option.some Jvm.ClassFile.FieldType.int) [((0 : Nat), (10 : Nat), (13 : Nat), (26 : Nat))]) ∈ lw_all := lw_g (lw_at lw_m6 42 rfl) rfl
theorem q1394 : (Jvm.Cond.methodLink "GuestViewLaw" (43 : Nat) ({ cls := "GuestView", name := "guest", desc := "(ZI)I" } : Jvm.MethodName)) ∈ lw_all := lw_g (lw_at lw_m6 43 rfl) rfl
theorem q1400 : (Jvm.Cond.methodLink "GuestViewLaw" (179 : Nat) ({ cls := "GuestViewLaw", name := "ticks", desc := "(LGuestView;I[J)I" } : Jvm.MethodName)) ∈ lw_all := lw_g (lw_at lw_m6 49 rfl) rfl
theorem q1401 : (Jvm.Cond.static ({ cls := "GuestViewLaw", name := "ticks", desc := "(LGuestView;I[J)I" } : Jvm.MethodName)) ∈ lw_all := lw_g (lw_at lw_m6 50 rfl) rfl
theorem q1402 : (Jvm.Cond.codeWith ({ cls := "GuestViewLaw", name := "ticks", desc := "(LGuestView;I[J)I" } : Jvm.MethodName) method_11_code (4 : Nat) (Option.some Jvm.ClassFile.FieldType.int) [((0 : Nat), (9 : Nat), (12 : Nat), (13 : Nat))]) ∈ lw_all := lw_g (lw_at lw_m6 51 rfl) rfl
theorem q1403 : (Jvm.Cond.methodLink "GuestViewLaw" (47 : Nat) ({ cls := "GuestView", name := "ticks", desc := "(I)I" } : Jvm.MethodName)) ∈ lw_all := lw_g (lw_at lw_m6 52 rfl) rfl
theorem q1433 : (Jvm.Cond.methodLink "GuestViewLaw" (186 : Nat) ({ cls := "GuestViewLaw", name := "patch", desc := "(LGuestView;IZ[J)I" } : Jvm.MethodName)) ∈ lw_all := lw_g (lw_at lw_m6 82 rfl) rfl
theorem q1434 : (Jvm.Cond.static ({ cls := "GuestViewLaw", name := "patch", desc := "(LGuestView;IZ[J)I" } : Jvm.MethodName)) ∈ lw_all := lw_g (lw_at lw_m6 83 rfl) rfl
theorem q1435 : (Jvm.Cond.codeWith ({ cls := "GuestViewLaw", name := "patch", desc := "(LGuestView;IZ[J)I" } : Jvm.MethodName) method_12_code (5 : Nat) (Option.some Jvm.ClassFile.FieldType.int) [((0 : Nat), (17 : Nat), (20 : Nat), (24 : Nat))]) ∈ lw_all := lw_g (lw_at lw_m6 84 rfl) rfl
theorem q1436 : (Jvm.Cond.methodLink "GuestViewLaw" (50 : Nat) ({ cls := "GuestView", name := "patch", desc := "(IZ)Z" } : Jvm.MethodName)) ∈ lw_all := lw_g (lw_at lw_m6 85 rfl) rfl
theorem q1440 : (Jvm.Cond.methodLink "GuestViewLaw" (190 : Nat) ({ cls := "GuestViewLaw", name := "guard", desc := "(LGuestView;IZ[J)I" } : Jvm.MethodName)) ∈ lw_all := lw_g (lw_at lw_m6 89 rfl) rfl
theorem q1441 : (Jvm.Cond.static ({ cls := "GuestViewLaw", name := "guard", desc := "(LGuestView;IZ[J)I" } : Jvm.MethodName)) ∈ lw_all := lw_g (lw_at lw_m6 90 rfl) rfl
theorem q1442 : (Jvm.Cond.codeWith ({ cls := "GuestViewLaw", name := "guard", desc := "(LGuestView;IZ[J)I" } : Jvm.MethodName) method_13_code (5 : Nat) (Option.some Jvm.ClassFile.FieldType.int) [((0 : Nat), (17 : Nat), (20 : Nat), (24 : Nat))]) ∈ lw_all := lw_g (lw_at lw_m6 91 rfl) rfl
theorem q1443 : (Jvm.Cond.methodLink "GuestViewLaw" (54 : Nat) ({ cls := "GuestView", name := "guard", desc := "(IZ)Z" } : Jvm.MethodName)) ∈ lw_all := lw_g (lw_at lw_m6 92 rfl) rfl
theorem q1447 : (Jvm.Cond.methodLink "GuestViewLaw" (193 : Nat) ({ cls := "GuestViewLaw", name := "put", desc := "(LGuestView;II[J)I" } : Jvm.MethodName)) ∈ lw_all := lw_g (lw_at lw_m6 96 rfl) rfl
theorem q1448 : (Jvm.Cond.static ({ cls := "GuestViewLaw", name := "put", desc := "(LGuestView;II[J)I" } : Jvm.MethodName)) ∈ lw_all := lw_g (lw_at lw_m6 97 rfl) rfl
theorem q1449 : (Jvm.Cond.codeWith ({ cls := "GuestViewLaw", name := "put", desc := "(LGuestView;II[J)I" } : Jvm.MethodName) method_14_code (5 : Nat) (Option.some Jvm.ClassFile.FieldType.int) [((0 : Nat), (10 : Nat), (13 : Nat), (24 : Nat))]) ∈ lw_all := lw_g (lw_at lw_m6 98 rfl) rfl
theorem q1450 : (Jvm.Cond.methodLink "GuestViewLaw" (57 : Nat) ({ cls := "GuestView", name := "put", desc := "(II)I" } : Jvm.MethodName)) ∈ lw_all := lw_g (lw_at lw_m6 99 rfl) rfl
theorem q1455 : (Jvm.Cond.methodLink "GuestViewLaw" (196 : Nat) ({ cls := "GuestViewLaw", name := "store", desc := "(LGuestView;II[J)I" } : Jvm.MethodName)) ∈ lw_all := lw_g (lw_at lw_m6 104 rfl) rfl
theorem q1456 : (Jvm.Cond.static ({ cls := "GuestViewLaw", name := "store", desc := "(LGuestView;II[J)I" } : Jvm.MethodName)) ∈ lw_all := lw_g (lw_at lw_m6 105 rfl) rfl
theorem q1457 : (Jvm.Cond.codeWith ({ cls := "GuestViewLaw", name := "store", desc := "(LGuestView;II[J)I" } : Jvm.MethodName) method_15_code (5 : Nat) (Option.some Jvm.ClassFile.FieldType.int) [((0 : Nat), (10 : Nat), (13 : Nat), (24 : Nat)), ((0 : Nat), (10 : Nat), (17 : Nat), (13 : Nat))]) ∈ lw_all := lw_g (lw_at lw_m6 106 rfl) rfl
theorem q1458 : (Jvm.Cond.methodLink "GuestViewLaw" (60 : Nat) ({ cls := "GuestView", name := "store", desc := "(II)I" } : Jvm.MethodName)) ∈ lw_all := lw_g (lw_at lw_m6 107 rfl) rfl
theorem q1462 : (Jvm.Cond.methodLink "GuestViewLaw" (199 : Nat) ({ cls := "GuestViewLaw", name := "vector", desc := "(LGuestView;I[J)I" } : Jvm.MethodName)) ∈ lw_all := lw_g (lw_at lw_m6 111 rfl) rfl
theorem q1463 : (Jvm.Cond.static ({ cls := "GuestViewLaw", name := "vector", desc := "(LGuestView;I[J)I" } : Jvm.MethodName)) ∈ lw_all := lw_g (lw_at lw_m6 112 rfl) rfl
theorem q1464 : (Jvm.Cond.codeWith ({ cls := "GuestViewLaw", name := "vector", desc := "(LGuestView;I[J)I" } : Jvm.MethodName) method_16_code (4 : Nat) (Option.some Jvm.ClassFile.FieldType.int) [((0 : Nat), (9 : Nat), (12 : Nat), (13 : Nat))]) ∈ lw_all := lw_g (lw_at lw_m6 113 rfl) rfl
theorem q1465 : (Jvm.Cond.methodLink "GuestViewLaw" (63 : Nat) ({ cls := "GuestView", name := "vector", desc := "(I)I" } : Jvm.MethodName)) ∈ lw_all := lw_g (lw_at lw_m6 114 rfl) rfl
theorem q1469 : (Jvm.Cond.methodLink "GuestViewLaw" (202 : Nat) ({ cls := "GuestViewLaw", name := "shift", desc := "(LGuestView;I[J)I" } : Jvm.MethodName)) ∈ lw_all := lw_g (lw_at lw_m6 118 rfl) rfl
theorem q1470 : (Jvm.Cond.static ({ cls := "GuestViewLaw", name := "shift", desc := "(LGuestView;I[J)I" } : Jvm.MethodName)) ∈ lw_all := lw_g (lw_at lw_m6 119 rfl) rfl
theorem q1471 : (Jvm.Cond.codeWith ({ cls := "GuestViewLaw", name := "shift", desc := "(LGuestView;I[J)I" } : Jvm.MethodName) method_17_code (4 : Nat) (Option.some Jvm.ClassFile.FieldType.int) [((0 : Nat), (9 : Nat), (12 : Nat), (13 : Nat))]) ∈ lw_all := lw_g (lw_at lw_m6 120 rfl) rfl
theorem q1472 : (Jvm.Cond.methodLink "GuestViewLaw" (66 : Nat) ({ cls := "GuestView", name := "shift", desc := "(I)I" } : Jvm.MethodName)) ∈ lw_all := lw_g (lw_at lw_m6 121 rfl) rfl
theorem q1476 : (Jvm.Cond.methodLink "GuestViewLaw" (205 : Nat) ({ cls := "GuestViewLaw", name := "cost", desc := "(LGuestView;I[J)I" } : Jvm.MethodName)) ∈ lw_all := lw_g (lw_at lw_m6 125 rfl) rfl
theorem q1477 : (Jvm.Cond.static ({ cls := "GuestViewLaw", name := "cost", desc := "(LGuestView;I[J)I" } : Jvm.MethodName)) ∈ lw_all := lw_g (lw_at lw_m6 126 rfl) rfl
theorem q1478 : (Jvm.Cond.codeWith ({ cls := "GuestViewLaw", name := "cost", desc := "(LGuestView;I[J)I" } : Jvm.MethodName) method_18_code (4 : Nat) (Option.some Jvm.ClassFile.FieldType.int) [((0 : Nat), (9 : Nat), (12 : Nat), (13 : Nat))]) ∈ lw_all := lw_g (lw_at lw_m6 127 rfl) rfl
theorem q1479 : (Jvm.Cond.methodLink "GuestViewLaw" (69 : Nat) ({ cls := "GuestView", name := "cost", desc := "(I)I" } : Jvm.MethodName)) ∈ lw_all := lw_g (lw_at lw_m6 128 rfl) rfl
theorem q1483 : (Jvm.Cond.methodLink "GuestViewLaw" (208 : Nat) ({ cls := "GuestViewLaw", name := "alarm", desc := "(LGuestView;I[J)I" } : Jvm.MethodName)) ∈ lw_all := lw_g (lw_at lw_m6 132 rfl) rfl
theorem q1484 : (Jvm.Cond.static ({ cls := "GuestViewLaw", name := "alarm", desc := "(LGuestView;I[J)I" } : Jvm.MethodName)) ∈ lw_all := lw_g (lw_at lw_m6 133 rfl) rfl
theorem q1485 : (Jvm.Cond.codeWith ({ cls := "GuestViewLaw", name := "alarm", desc := "(LGuestView;I[J)I" } : Jvm.MethodName) method_19_code (4 : Nat) (Option.some Jvm.ClassFile.FieldType.int) [((0 : Nat), (9 : Nat), (12 : Nat), (13 : Nat))]) ∈ lw_all := lw_g (lw_at lw_m6 134 rfl) rfl
theorem q1486 : (Jvm.Cond.methodLink "GuestViewLaw" (72 : Nat) ({ cls := "GuestView", name := "alarm", desc := "(I)I" } : Jvm.MethodName)) ∈ lw_all := lw_g (lw_at lw_m6 135 rfl) rfl
theorem q1490 : (Jvm.Cond.methodLink "GuestViewLaw" (224 : Nat) ({ cls := "GuestViewLaw", name := "traps", desc := "(LGuestView;I[J)I" } : Jvm.MethodName)) ∈ lw_all := lw_g (lw_at lw_m6 139 rfl) rfl
theorem q1491 : (Jvm.Cond.static ({ cls := "GuestViewLaw", name := "traps", desc := "(LGuestView;I[J)I" } : Jvm.MethodName)) ∈ lw_all := lw_g (lw_at lw_m6 140 rfl) rfl
theorem q1492 : (Jvm.Cond.codeWith ({ cls := "GuestViewLaw", name := "traps", desc := "(LGuestView;I[J)I" } : Jvm.MethodName) method_20_code (4 : Nat) (Option.some Jvm.ClassFile.FieldType.int) [((0 : Nat), (9 : Nat), (12 : Nat), (13 : Nat))]) ∈ lw_all := lw_g (lw_at lw_m6 141 rfl) rfl
theorem q1493 : (Jvm.Cond.methodLink "GuestViewLaw" (75 : Nat) ({ cls := "GuestView", name := "traps", desc := "(I)I" } : Jvm.MethodName)) ∈ lw_all := lw_g (lw_at lw_m6 142 rfl) rfl
theorem q1505 : (Jvm.Cond.methodLink "GuestViewLaw" (227 : Nat) ({ cls := "GuestViewLaw", name := "depth", desc := "(LGuestView;II[J)I" } : Jvm.MethodName)) ∈ lw_all := lw_g (lw_at lw_m6 154 rfl) rfl
theorem q1506 : (Jvm.Cond.static ({ cls := "GuestViewLaw", name := "depth", desc := "(LGuestView;II[J)I" } : Jvm.MethodName)) ∈ lw_all := lw_g (lw_at lw_m6 155 rfl) rfl
theorem q1507 : (Jvm.Cond.codeWith ({ cls := "GuestViewLaw", name := "depth", desc := "(LGuestView;II[J)I" } : Jvm.MethodName) method_21_code (5 : Nat) (Option.some Jvm.ClassFile.FieldType.int) [((0 : Nat), (10 : Nat), (13 : Nat), (13 : Nat))]) ∈ lw_all := lw_g (lw_at lw_m6 156 rfl) rfl
theorem q1508 : (Jvm.Cond.methodLink "GuestViewLaw" (78 : Nat) ({ cls := "GuestView", name := "depth", desc := "(II)I" } : Jvm.MethodName)) ∈ lw_all := lw_g (lw_at lw_m6 157 rfl) rfl
theorem q1512 : (Jvm.Cond.methodLink "GuestViewLaw" (238 : Nat) ({ cls := "GuestViewLaw", name := "clash", desc := "(LGuestView;II[J)I" } : Jvm.MethodName)) ∈ lw_all := lw_g (lw_at lw_m6 161 rfl) rfl
theorem q1513 : (Jvm.Cond.static ({ cls := "GuestViewLaw", name := "clash", desc := "(LGuestView;II[J)I" } : Jvm.MethodName)) ∈ lw_all := lw_g (lw_at lw_m6 162 rfl) rfl
theorem q1514 : (Jvm.Cond.codeWith ({ cls := "GuestViewLaw", name := "clash", desc := "(LGuestView;II[J)I" } : Jvm.MethodName) method_22_code (5 : Nat) (Option.some Jvm.ClassFile.FieldType.int) [((0 : Nat), (17 : Nat), (20 : Nat), (24 : Nat)), ((0 : Nat), (17 : Nat), (24 : Nat), (13 : Nat))]) ∈ lw_all := lw_g (lw_at lw_m6 163 rfl) rfl
theorem q1515 : (Jvm.Cond.methodLink "GuestViewLaw" (81 : Nat) ({ cls := "GuestView", name := "clash", desc := "(II)Z" } : Jvm.MethodName)) ∈ lw_all := lw_g (lw_at lw_m6 164 rfl) rfl
theorem q1519 : (Jvm.Cond.methodLink "GuestViewLaw" (249 : Nat) ({ cls := "GuestViewLaw", name := "which", desc := "(LGuestView;[J)I" } : Jvm.MethodName)) ∈ lw_all := lw_g (lw_at lw_m6 168 rfl) rfl
theorem q1520 : (Jvm.Cond.static ({ cls := "GuestViewLaw", name := "which", desc := "(LGuestView;[J)I" } : Jvm.MethodName)) ∈ lw_all := lw_g (lw_at lw_m6 169 rfl) rfl
theorem q1521 : (Jvm.Cond.codeWith ({ cls := "GuestViewLaw", name := "which", desc := "(LGuestView;[J)I" } : Jvm.MethodName) method_23_code (3 : Nat) (Option.some Jvm.ClassFile.FieldType.int) [((0 : Nat), (8 : Nat), (11 : Nat), (13 : Nat))]) ∈ lw_all := lw_g (lw_at lw_m6 170 rfl) rfl
theorem q1522 : (Jvm.Cond.methodLink "GuestViewLaw" (85 : Nat) ({ cls := "GuestView", name := "which", desc := "()I" } : Jvm.MethodName)) ∈ lw_all := lw_g (lw_at lw_m6 171 rfl) rfl
theorem q1534 : (Jvm.Cond.methodLink "GuestViewLaw" (252 : Nat) ({ cls := "GuestViewLaw", name := "likely", desc := "(LGuestView;[J)I" } : Jvm.MethodName)) ∈ lw_all := lw_g (lw_at lw_m6 183 rfl) rfl
theorem q1535 : (Jvm.Cond.static ({ cls := "GuestViewLaw", name := "likely", desc := "(LGuestView;[J)I" } : Jvm.MethodName)) ∈ lw_all := lw_g (lw_at lw_m6 184 rfl) rfl
theorem q1536 : (Jvm.Cond.codeWith ({ cls := "GuestViewLaw", name := "likely", desc := "(LGuestView;[J)I" } : Jvm.MethodName) method_24_code (3 : Nat) (Option.some Jvm.ClassFile.FieldType.int) [((0 : Nat), (8 : Nat), (11 : Nat), (13 : Nat))]) ∈ lw_all := lw_g (lw_at lw_m6 185 rfl) rfl
theorem q1537 : (Jvm.Cond.methodLink "GuestViewLaw" (88 : Nat) ({ cls := "GuestView", name := "likely", desc := "()I" } : Jvm.MethodName)) ∈ lw_all := lw_g (lw_at lw_m6 186 rfl) rfl
theorem q1541 : (Jvm.Cond.methodLink "GuestViewLaw" (255 : Nat) ({ cls := "GuestViewLaw", name := "ask", desc := "(LGuestView;[J)I" } : Jvm.MethodName)) ∈ lw_all := lw_g (lw_at lw_m6 190 rfl) rfl
theorem q1542 : (Jvm.Cond.static ({ cls := "GuestViewLaw", name := "ask", desc := "(LGuestView;[J)I" } : Jvm.MethodName)) ∈ lw_all := lw_g (lw_at lw_m6 191 rfl) rfl
theorem q1543 : (Jvm.Cond.codeWith ({ cls := "GuestViewLaw", name := "ask", desc := "(LGuestView;[J)I" } : Jvm.MethodName) method_25_code (3 : Nat) (Option.some Jvm.ClassFile.FieldType.int) [((0 : Nat), (8 : Nat), (11 : Nat), (13 : Nat))]) ∈ lw_all := lw_g (lw_at lw_m6 192 rfl) rfl
theorem q1544 : (Jvm.Cond.methodLink "GuestViewLaw" (91 : Nat) ({ cls := "GuestView", name := "ask", desc := "()I" } : Jvm.MethodName)) ∈ lw_all := lw_g (lw_at lw_m6 193 rfl) rfl
theorem q1553 : (Jvm.Cond.methodLink "GuestViewLaw" (266 : Nat) ({ cls := "GuestViewLaw", name := "pairs", desc := "(LGuestView;I[J)I" } : Jvm.MethodName)) ∈ lw_all := lw_g (lw_at lw_m6 202 rfl) rfl
theorem q1554 : (Jvm.Cond.static ({ cls := "GuestViewLaw", name := "pairs", desc := "(LGuestView;I[J)I" } : Jvm.MethodName)) ∈ lw_all := lw_g (lw_at lw_m6 203 rfl) rfl
theorem q1555 : (Jvm.Cond.codeWith ({ cls := "GuestViewLaw", name := "pairs", desc := "(LGuestView;I[J)I" } : Jvm.MethodName) method_26_code (4 : Nat) (Option.some Jvm.ClassFile.FieldType.int) [((0 : Nat), (9 : Nat), (12 : Nat), (24 : Nat))]) ∈ lw_all := lw_g (lw_at lw_m6 204 rfl) rfl
theorem q1556 : (Jvm.Cond.methodLink "GuestViewLaw" (94 : Nat) ({ cls := "GuestView", name := "pairs", desc := "(I)I" } : Jvm.MethodName)) ∈ lw_all := lw_g (lw_at lw_m6 205 rfl) rfl
theorem q1572 : (Jvm.Cond.methodLink "GuestViewLaw" (269 : Nat) ({ cls := "GuestViewLaw", name := "rests", desc := "(LGuestView;I[J)I" } : Jvm.MethodName)) ∈ lw_all := lw_g (lw_at lw_m6 221 rfl) rfl
theorem q1573 : (Jvm.Cond.static ({ cls := "GuestViewLaw", name := "rests", desc := "(LGuestView;I[J)I" } : Jvm.MethodName)) ∈ lw_all := lw_g (lw_at lw_m6 222 rfl) rfl
theorem q1574 : (Jvm.Cond.codeWith ({ cls := "GuestViewLaw", name := "rests", desc := "(LGuestView;I[J)I" } : Jvm.MethodName) method_27_code (4 : Nat) (Option.some Jvm.ClassFile.FieldType.int) [((0 : Nat), (9 : Nat), (12 : Nat), (24 : Nat))]) ∈ lw_all := lw_g (lw_at lw_m6 223 rfl) rfl
theorem q1575 : (Jvm.Cond.methodLink "GuestViewLaw" (97 : Nat) ({ cls := "GuestView", name := "rests", desc := "(I)I" } : Jvm.MethodName)) ∈ lw_all := lw_g (lw_at lw_m6 224 rfl) rfl
theorem q1587 : (Jvm.Cond.methodLink "GuestViewLaw" (272 : Nat) ({ cls := "GuestViewLaw", name := "odds", desc := "(LGuestView;II[J)I" } : Jvm.MethodName)) ∈ lw_all := lw_g (lw_at lw_m6 236 rfl) rfl
theorem q1588 : (Jvm.Cond.static ({ cls := "GuestViewLaw", name := "odds", desc := "(LGuestView;II[J)I" } : Jvm.MethodName)) ∈ lw_all := lw_g (lw_at lw_m6 237 rfl) rfl
theorem q1589 : (Jvm.Cond.codeWith ({ cls := "GuestViewLaw", name := "odds", desc := "(LGuestView;II[J)I" } : Jvm.MethodName) method_28_code (5 : Nat) (Option.some Jvm.ClassFile.FieldType.int) [((0 : Nat), (10 : Nat), (13 : Nat), (13 : Nat))]) ∈ lw_all := lw_g (lw_at lw_m6 238 rfl) rfl
theorem q1590 : (Jvm.Cond.methodLink "GuestViewLaw" (100 : Nat) ({ cls := "GuestView", name := "odds", desc := "(II)I" } : Jvm.MethodName)) ∈ lw_all := lw_g (lw_at lw_m6 239 rfl) rfl
theorem q1596 : (Jvm.Cond.methodLink "GuestViewLaw" (275 : Nat) ({ cls := "GuestViewLaw", name := "most", desc := "(LGuestView;I[J)I" } : Jvm.MethodName)) ∈ lw_all := lw_g (lw_at lw_m7 5 rfl) rfl
theorem q1597 : (Jvm.Cond.static ({ cls := "GuestViewLaw", name := "most", desc := "(LGuestView;I[J)I" } : Jvm.MethodName)) ∈ lw_all := lw_g (lw_at lw_m7 6 rfl) rfl
theorem q1598 : (Jvm.Cond.codeWith ({ cls := "GuestViewLaw", name := "most", desc := "(LGuestView;I[J)I" } : Jvm.MethodName) method_29_code (4 : Nat) (Option.some Jvm.ClassFile.FieldType.int) [((0 : Nat), (9 : Nat), (12 : Nat), (26 : Nat))]) ∈ lw_all := lw_g (lw_at lw_m7 7 rfl) rfl
theorem q1599 : (Jvm.Cond.methodLink "GuestViewLaw" (103 : Nat) ({ cls := "GuestView", name := "most", desc := "(I)I" } : Jvm.MethodName)) ∈ lw_all := lw_g (lw_at lw_m7 8 rfl) rfl
theorem q1607 : (Jvm.Cond.methodLink "GuestViewLaw" (282 : Nat) ({ cls := "GuestViewLaw", name := "ahead", desc := "(LGuestView;IZ[J)I" } : Jvm.MethodName)) ∈ lw_all := lw_g (lw_at lw_m7 16 rfl) rfl
theorem q1608 : (Jvm.Cond.static ({ cls := "GuestViewLaw", name := "ahead", desc := "(LGuestView;IZ[J)I" } : Jvm.MethodName)) ∈ lw_all := lw_g (lw_at lw_m7 17 rfl) rfl
theorem q1609 : (Jvm.Cond.codeWith ({ cls := "GuestViewLaw", name := "ahead", desc := "(LGuestView;IZ[J)I" } : Jvm.MethodName) method_30_code (5 : Nat) (Option.some Jvm.ClassFile.FieldType.int) [((0 : Nat), (10 : Nat), (13 : Nat), (13 : Nat))]) ∈ lw_all := lw_g (lw_at lw_m7 18 rfl) rfl
theorem q1610 : (Jvm.Cond.methodLink "GuestViewLaw" (106 : Nat) ({ cls := "GuestView", name := "ahead", desc := "(IZ)I" } : Jvm.MethodName)) ∈ lw_all := lw_g (lw_at lw_m7 19 rfl) rfl
theorem q1614 : (Jvm.Cond.methodLink "GuestViewLaw" (285 : Nat) ({ cls := "GuestViewLaw", name := "trial", desc := "(LGuestView;IZ[J)I" } : Jvm.MethodName)) ∈ lw_all := lw_g (lw_at lw_m7 23 rfl) rfl
theorem q1615 : (Jvm.Cond.static ({ cls := "GuestViewLaw", name := "trial", desc := "(LGuestView;IZ[J)I" } : Jvm.MethodName)) ∈ lw_all := lw_g (lw_at lw_m7 24 rfl) rfl
theorem q1616 : (Jvm.Cond.codeWith ({ cls := "GuestViewLaw", name := "trial", desc := "(LGuestView;IZ[J)I" } : Jvm.MethodName) method_31_code (5 : Nat) (Option.some Jvm.ClassFile.FieldType.int) [((0 : Nat), (10 : Nat), (13 : Nat), (13 : Nat))]) ∈ lw_all := lw_g (lw_at lw_m7 25 rfl) rfl
theorem q1617 : (Jvm.Cond.methodLink "GuestViewLaw" (110 : Nat) ({ cls := "GuestView", name := "trial", desc := "(IZ)I" } : Jvm.MethodName)) ∈ lw_all := lw_g (lw_at lw_m7 26 rfl) rfl
theorem q1622 : (Jvm.Cond.methodLink "GuestViewLaw" (288 : Nat) ({ cls := "GuestViewLaw", name := "span", desc := "(LGuestView;IZ[J)I" } : Jvm.MethodName)) ∈ lw_all := lw_g (lw_at lw_m7 31 rfl) rfl
theorem q1623 : (Jvm.Cond.static ({ cls := "GuestViewLaw", name := "span", desc := "(LGuestView;IZ[J)I" } : Jvm.MethodName)) ∈ lw_all := lw_g (lw_at lw_m7 32 rfl) rfl
theorem q1624 : (Jvm.Cond.codeWith ({ cls := "GuestViewLaw", name := "span", desc := "(LGuestView;IZ[J)I" } : Jvm.MethodName) method_32_code (5 : Nat) (Option.some Jvm.ClassFile.FieldType.int) [((0 : Nat), (10 : Nat), (13 : Nat), (13 : Nat))]) ∈ lw_all := lw_g (lw_at lw_m7 33 rfl) rfl
theorem q1625 : (Jvm.Cond.methodLink "GuestViewLaw" (113 : Nat) ({ cls := "GuestView", name := "span", desc := "(IZ)I" } : Jvm.MethodName)) ∈ lw_all := lw_g (lw_at lw_m7 34 rfl) rfl
theorem q1629 : (Jvm.Cond.methodLink "GuestViewLaw" (291 : Nat) ({ cls := "GuestViewLaw", name := "led", desc := "(LGuestView;IZ[J)I" } : Jvm.MethodName)) ∈ lw_all := lw_g (lw_at lw_m7 38 rfl) rfl
theorem q1630 : (Jvm.Cond.static ({ cls := "GuestViewLaw", name := "led", desc := "(LGuestView;IZ[J)I" } : Jvm.MethodName)) ∈ lw_all := lw_g (lw_at lw_m7 39 rfl) rfl
theorem q1631 : (Jvm.Cond.codeWith ({ cls := "GuestViewLaw", name := "led", desc := "(LGuestView;IZ[J)I" } : Jvm.MethodName) method_33_code (5 : Nat) (Option.some Jvm.ClassFile.FieldType.int) [((0 : Nat), (10 : Nat), (13 : Nat), (24 : Nat))]) ∈ lw_all := lw_g (lw_at lw_m7 40 rfl) rfl
theorem q1632 : (Jvm.Cond.methodLink "GuestViewLaw" (116 : Nat) ({ cls := "GuestView", name := "led", desc := "(IZ)I" } : Jvm.MethodName)) ∈ lw_all := lw_g (lw_at lw_m7 41 rfl) rfl
theorem q1645 : (Jvm.Cond.methodLink "GuestViewLaw" (294 : Nat) ({ cls := "GuestViewLaw", name := "log", desc := "(LGuestView;II[J)I" } : Jvm.MethodName)) ∈ lw_all := lw_g (lw_at lw_m7 54 rfl) rfl
theorem q1646 : (Jvm.Cond.static ({ cls := "GuestViewLaw", name := "log", desc := "(LGuestView;II[J)I" } : Jvm.MethodName)) ∈ lw_all := lw_g (lw_at lw_m7 55 rfl) rfl
theorem q1647 : (Jvm.Cond.codeWith ({ cls := "GuestViewLaw", name := "log", desc := "(LGuestView;II[J)I" } : Jvm.MethodName) method_34_code (5 : Nat) (Option.some Jvm.ClassFile.FieldType.int) [((0 : Nat), (10 : Nat), (13 : Nat), (26 : Nat))]) ∈ lw_all := lw_g (lw_at lw_m7 56 rfl) rfl
theorem q1648 : (Jvm.Cond.methodLink "GuestViewLaw" (119 : Nat) ({ cls := "GuestView", name := "log", desc := "(II)I" } : Jvm.MethodName)) ∈ lw_all := lw_g (lw_at lw_m7 57 rfl) rfl
theorem q1652 : (Jvm.Cond.methodLink "GuestViewLaw" (142 : Nat) ({ cls := "GuestViewModel", name := "thrown", desc := "()I" } : Jvm.MethodName)) ∈ lw_all := lw_g (lw_at lw_m7 61 rfl) rfl
theorem q1656 : (Jvm.Cond.classLink "GuestViewLaw" (123 : Nat) "GuestViewModel") ∈ lw_all := lw_g (lw_at lw_m7 65 rfl) rfl
theorem q1658 : (Jvm.Cond.methodLink "GuestViewLaw" (125 : Nat) ({ cls := "GuestViewModel", name := "<init>", desc := "()V" } : Jvm.MethodName)) ∈ lw_all := lw_g (lw_at lw_m7 67 rfl) rfl
theorem q1767 : (Jvm.Cond.methodLink "GuestViewLaw" (308 : Nat) ({ cls := "GuestViewModel", name := "image", desc := "()V" } : Jvm.MethodName)) ∈ lw_all := lw_g (lw_at lw_m7 176 rfl) rfl
theorem q1771 : (Jvm.Cond.methodLink "GuestViewLaw" (312 : Nat) ({ cls := "GuestViewModel", name := "back", desc := "()Z" } : Jvm.MethodName)) ∈ lw_all := lw_g (lw_at lw_m7 180 rfl) rfl
theorem q1775 : (Jvm.Cond.methodLink "GuestViewLaw" (304 : Nat) ({ cls := "GuestViewModel", name := "undo", desc := "()Z" } : Jvm.MethodName)) ∈ lw_all := lw_g (lw_at lw_m7 184 rfl) rfl
theorem q1779 : (Jvm.Cond.methodLink "GuestViewLaw" (130 : Nat) ({ cls := "GuestViewModel", name := "feed", desc := "(IIIII)I" } : Jvm.MethodName)) ∈ lw_all := lw_g (lw_at lw_m7 188 rfl) rfl
theorem q1783 : (Jvm.Cond.methodLink "GuestViewLaw" (135 : Nat) ({ cls := "GuestViewModel", name := "end", desc := "(I)Z" } : Jvm.MethodName)) ∈ lw_all := lw_g (lw_at lw_m7 192 rfl) rfl
theorem q1787 : (Jvm.Cond.methodLink "GuestViewLaw" (151 : Nat) ({ cls := "GuestViewModel", name := "fault", desc := "()I" } : Jvm.MethodName)) ∈ lw_all := lw_g (lw_at lw_m7 196 rfl) rfl
theorem q1791 : (Jvm.Cond.methodLink "GuestViewLaw" (141 : Nat) ({ cls := "GuestViewModel", name := "bench", desc := "()I" } : Jvm.MethodName)) ∈ lw_all := lw_g (lw_at lw_m7 200 rfl) rfl
theorem q1961 : (Jvm.Cond.methodLink "GuestViewLaw" (147 : Nat) ({ cls := "GuestViewModel", name := "law", desc := "()I" } : Jvm.MethodName)) ∈ lw_all := lw_g (lw_at lw_m8 130 rfl) rfl
theorem q1965 : (Jvm.Cond.methodLink "GuestViewLaw" (155 : Nat) ({ cls := "GuestViewModel", name := "op", desc := "(II)I" } : Jvm.MethodName)) ∈ lw_all := lw_g (lw_at lw_m8 134 rfl) rfl
theorem q2081 : (Jvm.Cond.methodLink "GuestViewLaw" (159 : Nat) ({ cls := "GuestViewModel", name := "micro", desc := "(IIZ)I" } : Jvm.MethodName)) ∈ lw_all := lw_g (lw_at lw_m9 10 rfl) rfl
theorem q2085 : (Jvm.Cond.methodLink "GuestViewLaw" (162 : Nat) ({ cls := "GuestViewModel", name := "witness", desc := "(II)I" } : Jvm.MethodName)) ∈ lw_all := lw_g (lw_at lw_m9 14 rfl) rfl
theorem q2089 : (Jvm.Cond.methodLink "GuestViewLaw" (166 : Nat) ({ cls := "GuestViewModel", name := "done", desc := "(III)I" } : Jvm.MethodName)) ∈ lw_all := lw_g (lw_at lw_m9 18 rfl) rfl
theorem q2093 : (Jvm.Cond.methodLink "GuestViewLaw" (170 : Nat) ({ cls := "GuestViewModel", name := "program", desc := "(I)I" } : Jvm.MethodName)) ∈ lw_all := lw_g (lw_at lw_m9 22 rfl) rfl
theorem q2097 : (Jvm.Cond.methodLink "GuestViewLaw" (174 : Nat) ({ cls := "GuestViewModel", name := "cell", desc := "(I)I" } : Jvm.MethodName)) ∈ lw_all := lw_g (lw_at lw_m9 26 rfl) rfl
theorem q2105 : (Jvm.Cond.methodLink "GuestViewLaw" (178 : Nat) ({ cls := "GuestViewModel", name := "guest", desc := "(ZI)I" } : Jvm.MethodName)) ∈ lw_all := lw_g (lw_at lw_m9 34 rfl) rfl
theorem q2117 : (Jvm.Cond.methodLink "GuestViewLaw" (181 : Nat) ({ cls := "GuestViewModel", name := "ticks", desc := "(I)I" } : Jvm.MethodName)) ∈ lw_all := lw_g (lw_at lw_m9 46 rfl) rfl
theorem q2167 : (Jvm.Cond.methodLink "GuestViewLaw" (185 : Nat) ({ cls := "GuestViewModel", name := "boot", desc := "()V" } : Jvm.MethodName)) ∈ lw_all := lw_g (lw_at lw_m9 96 rfl) rfl
theorem q2171 : (Jvm.Cond.methodLink "GuestViewLaw" (189 : Nat) ({ cls := "GuestViewModel", name := "patch", desc := "(IZ)Z" } : Jvm.MethodName)) ∈ lw_all := lw_g (lw_at lw_m9 100 rfl) rfl
theorem q2183 : (Jvm.Cond.methodLink "GuestViewLaw" (192 : Nat) ({ cls := "GuestViewModel", name := "guard", desc := "(IZ)Z" } : Jvm.MethodName)) ∈ lw_all := lw_g (lw_at lw_m9 112 rfl) rfl
theorem q2187 : (Jvm.Cond.methodLink "GuestViewLaw" (195 : Nat) ({ cls := "GuestViewModel", name := "put", desc := "(II)I" } : Jvm.MethodName)) ∈ lw_all := lw_g (lw_at lw_m9 116 rfl) rfl
theorem q2191 : (Jvm.Cond.methodLink "GuestViewLaw" (198 : Nat) ({ cls := "GuestViewModel", name := "store", desc := "(II)I" } : Jvm.MethodName)) ∈ lw_all := lw_g (lw_at lw_m9 120 rfl) rfl
theorem q2195 : (Jvm.Cond.methodLink "GuestViewLaw" (201 : Nat) ({ cls := "GuestViewModel", name := "vector", desc := "(I)I" } : Jvm.MethodName)) ∈ lw_all := lw_g (lw_at lw_m9 124 rfl) rfl
theorem q2203 : (Jvm.Cond.methodLink "GuestViewLaw" (204 : Nat) ({ cls := "GuestViewModel", name := "shift", desc := "(I)I" } : Jvm.MethodName)) ∈ lw_all := lw_g (lw_at lw_m9 132 rfl) rfl
theorem q2207 : (Jvm.Cond.methodLink "GuestViewLaw" (207 : Nat) ({ cls := "GuestViewModel", name := "cost", desc := "(I)I" } : Jvm.MethodName)) ∈ lw_all := lw_g (lw_at lw_m9 136 rfl) rfl
theorem q2211 : (Jvm.Cond.methodLink "GuestViewLaw" (210 : Nat) ({ cls := "GuestViewModel", name := "alarm", desc := "(I)I" } : Jvm.MethodName)) ∈ lw_all := lw_g (lw_at lw_m9 140 rfl) rfl
theorem q2215 : (Jvm.Cond.methodLink "GuestViewLaw" (215 : Nat) ({ cls := "GuestViewModel", name := "hostable", desc := "()Z" } : Jvm.MethodName)) ∈ lw_all := lw_g (lw_at lw_m9 144 rfl) rfl
theorem q2223 : (Jvm.Cond.methodLink "GuestViewLaw" (248 : Nat) ({ cls := "GuestViewModel", name := "open", desc := "()I" } : Jvm.MethodName)) ∈ lw_all := lw_g (lw_at lw_m9 152 rfl) rfl
theorem q2228 : (Jvm.Cond.methodLink "GuestViewLaw" (233 : Nat) ({ cls := "GuestViewModel", name := "least", desc := "()I" } : Jvm.MethodName)) ∈ lw_all := lw_g (lw_at lw_m9 157 rfl) rfl
theorem q2232 : (Jvm.Cond.methodLink "GuestViewLaw" (219 : Nat) ({ cls := "GuestViewModel", name := "alike", desc := "()Z" } : Jvm.MethodName)) ∈ lw_all := lw_g (lw_at lw_m9 161 rfl) rfl
theorem q2236 : (Jvm.Cond.methodLink "GuestViewLaw" (223 : Nat) ({ cls := "GuestViewModel", name := "leaks", desc := "()I" } : Jvm.MethodName)) ∈ lw_all := lw_g (lw_at lw_m9 165 rfl) rfl
theorem q2252 : (Jvm.Cond.methodLink "GuestViewLaw" (226 : Nat) ({ cls := "GuestViewModel", name := "traps", desc := "(I)I" } : Jvm.MethodName)) ∈ lw_all := lw_g (lw_at lw_m9 181 rfl) rfl
theorem q2260 : (Jvm.Cond.methodLink "GuestViewLaw" (229 : Nat) ({ cls := "GuestViewModel", name := "depth", desc := "(II)I" } : Jvm.MethodName)) ∈ lw_all := lw_g (lw_at lw_m9 189 rfl) rfl
theorem q2264 : (Jvm.Cond.methodLink "GuestViewLaw" (237 : Nat) ({ cls := "GuestViewModel", name := "proof", desc := "()I" } : Jvm.MethodName)) ∈ lw_all := lw_g (lw_at lw_m9 193 rfl) rfl
theorem q2272 : (Jvm.Cond.methodLink "GuestViewLaw" (240 : Nat) ({ cls := "GuestViewModel", name := "clash", desc := "(II)Z" } : Jvm.MethodName)) ∈ lw_all := lw_g (lw_at lw_m9 201 rfl) rfl
theorem q2284 : (Jvm.Cond.methodLink "GuestViewLaw" (244 : Nat) ({ cls := "GuestViewModel", name := "beside", desc := "()I" } : Jvm.MethodName)) ∈ lw_all := lw_g (lw_at lw_m9 213 rfl) rfl
theorem q2295 : (Jvm.Cond.methodLink "GuestViewLaw" (251 : Nat) ({ cls := "GuestViewModel", name := "which", desc := "()I" } : Jvm.MethodName)) ∈ lw_all := lw_g (lw_at lw_m9 224 rfl) rfl
theorem q2315 : (Jvm.Cond.methodLink "GuestViewLaw" (254 : Nat) ({ cls := "GuestViewModel", name := "likely", desc := "()I" } : Jvm.MethodName)) ∈ lw_all := lw_g (lw_at lw_m10 4 rfl) rfl
theorem q2323 : (Jvm.Cond.methodLink "GuestViewLaw" (257 : Nat) ({ cls := "GuestViewModel", name := "ask", desc := "()I" } : Jvm.MethodName)) ∈ lw_all := lw_g (lw_at lw_m10 12 rfl) rfl
theorem q2333 : (Jvm.Cond.methodLink "GuestViewLaw" (261 : Nat) ({ cls := "GuestViewModel", name := "lead", desc := "()I" } : Jvm.MethodName)) ∈ lw_all := lw_g (lw_at lw_m10 22 rfl) rfl
theorem q2352 : (Jvm.Cond.methodLink "GuestViewLaw" (265 : Nat) ({ cls := "GuestViewModel", name := "side", desc := "()I" } : Jvm.MethodName)) ∈ lw_all := lw_g (lw_at lw_m10 41 rfl) rfl
theorem q2356 : (Jvm.Cond.methodLink "GuestViewLaw" (268 : Nat) ({ cls := "GuestViewModel", name := "pairs", desc := "(I)I" } : Jvm.MethodName)) ∈ lw_all := lw_g (lw_at lw_m10 45 rfl) rfl
theorem q2368 : (Jvm.Cond.methodLink "GuestViewLaw" (271 : Nat) ({ cls := "GuestViewModel", name := "rests", desc := "(I)I" } : Jvm.MethodName)) ∈ lw_all := lw_g (lw_at lw_m10 57 rfl) rfl
theorem q2380 : (Jvm.Cond.methodLink "GuestViewLaw" (274 : Nat) ({ cls := "GuestViewModel", name := "odds", desc := "(II)I" } : Jvm.MethodName)) ∈ lw_all := lw_g (lw_at lw_m10 69 rfl) rfl
theorem q2386 : (Jvm.Cond.methodLink "GuestViewLaw" (277 : Nat) ({ cls := "GuestViewModel", name := "most", desc := "(I)I" } : Jvm.MethodName)) ∈ lw_all := lw_g (lw_at lw_m10 75 rfl) rfl
theorem q2394 : (Jvm.Cond.methodLink "GuestViewLaw" (281 : Nat) ({ cls := "GuestViewModel", name := "twins", desc := "()I" } : Jvm.MethodName)) ∈ lw_all := lw_g (lw_at lw_m10 83 rfl) rfl
theorem q2402 : (Jvm.Cond.methodLink "GuestViewLaw" (284 : Nat) ({ cls := "GuestViewModel", name := "ahead", desc := "(IZ)I" } : Jvm.MethodName)) ∈ lw_all := lw_g (lw_at lw_m10 91 rfl) rfl
theorem q2409 : (Jvm.Cond.methodLink "GuestViewLaw" (287 : Nat) ({ cls := "GuestViewModel", name := "trial", desc := "(IZ)I" } : Jvm.MethodName)) ∈ lw_all := lw_g (lw_at lw_m10 98 rfl) rfl
theorem q2413 : (Jvm.Cond.methodLink "GuestViewLaw" (290 : Nat) ({ cls := "GuestViewModel", name := "span", desc := "(IZ)I" } : Jvm.MethodName)) ∈ lw_all := lw_g (lw_at lw_m10 102 rfl) rfl
theorem q2417 : (Jvm.Cond.methodLink "GuestViewLaw" (293 : Nat) ({ cls := "GuestViewModel", name := "led", desc := "(IZ)I" } : Jvm.MethodName)) ∈ lw_all := lw_g (lw_at lw_m10 106 rfl) rfl
theorem q2425 : (Jvm.Cond.methodLink "GuestViewLaw" (296 : Nat) ({ cls := "GuestViewModel", name := "log", desc := "(II)I" } : Jvm.MethodName)) ∈ lw_all := lw_g (lw_at lw_m10 114 rfl) rfl
theorem q2429 : (Jvm.Cond.methodLink "GuestViewLaw" (300 : Nat) ({ cls := "GuestViewModel", name := "seed", desc := "(I)I" } : Jvm.MethodName)) ∈ lw_all := lw_g (lw_at lw_m10 118 rfl) rfl
theorem q2433 : (Jvm.Cond.methodLink "GuestViewLaw" (316 : Nat) ({ cls := "GuestViewModel", name := "count", desc := "(I)I" } : Jvm.MethodName)) ∈ lw_all := lw_g (lw_at lw_m10 122 rfl) rfl
