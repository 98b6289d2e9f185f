/-! RatioGraph$Edge -/
set_option maxRecDepth 100000
def RX2 : String := "RatioGraph$Edge"
def TX2 : u_T := fun k => match k with
  | 0 => ("RatioGraph$Edge", "from", "I", true)
  | 1 => ("RatioGraph$Edge", "to", "I", true)
  | 2 => ("RatioGraph$Edge", "weight", "I", true)
  | 3 => ("RatioGraph$Edge", "slope", "I", true)
  | 4 => ("RatioGraph$Edge", "time", "I", true)
  | 5 => ("RatioGraph$Edge", "top", "I", true)
  | _ => ("RatioGraph$Edge", "bottom", "I", true)
def tyX2 : Nat → FieldType := fun k => match k with
  | 0 => .int
  | 1 => .int
  | 2 => .int
  | 3 => .int
  | 4 => .int
  | 5 => .int
  | _ => .int
abbrev wsX20 : List Cond := u_ws RX2 TX2 7
theorem nmX2 : ∀ a, a < 7 → ∀ b, b < 7 → a ≠ b → (TX2 a).2.1 ≠ (TX2 b).2.1 := by decide +kernel
theorem tyX2_ok : ∀ k, k < 7 → parseFieldDescriptor (TX2 k).2.2.1 = some (tyX2 k) := by decide +kernel
abbrev cX2_fits : ByteArray := prog_6_method_3_code
def yX2_fits : MethodName := ⟨RX2, "fits", "(II)Z"⟩
def dkwX2_fits_3 : List UInt8 := [27, 133, 10, 20, 0, 46, 184, 0, 40, 172, 3, 172]
abbrev dktX2_fits_3 : List UInt8 := dkwX2_fits_3 ++ []
def dkwX2_fits_2 : List UInt8 := [27, 133, 20, 0, 36, 20, 0, 38, 184, 0, 40, 172, 27, 133, 20, 0, 44, 20, 0, 46, 184, 0, 40, 172]
abbrev dktX2_fits_2 : List UInt8 := dkwX2_fits_2 ++ dktX2_fits_3
def dkwX2_fits_1 : List UInt8 := [170, 0, 0, 0, 0, 0, 61, 0, 0, 0, 2, 0, 0, 0, 4, 0, 0, 0, 27, 0, 0, 0, 39, 0, 0, 0, 51]
abbrev dktX2_fits_1 : List UInt8 := dkwX2_fits_1 ++ dktX2_fits_2
def dkwX2_fits_0 : List UInt8 := [26]
abbrev dktX2_fits_0 : List UInt8 := dkwX2_fits_0 ++ dktX2_fits_1
theorem dksX2_fits_0 : cX2_fits.data.toList.drop 0 = dktX2_fits_0 := by decide +kernel
theorem dksX2_fits_1 : cX2_fits.data.toList.drop 1 = dktX2_fits_1 := dk_seg dksX2_fits_0 1 rfl rfl
theorem dksX2_fits_2 : cX2_fits.data.toList.drop 28 = dktX2_fits_2 := dk_seg dksX2_fits_1 27 rfl rfl
theorem dksX2_fits_3 : cX2_fits.data.toList.drop 52 = dktX2_fits_3 := dk_seg dksX2_fits_2 24 rfl rfl
theorem dX2_fits_0 : decode cX2_fits 0 = .ok (.iload_n 0, 1) := dk_26 (dk_at dksX2_fits_0 0 rfl rfl)
theorem dX2_fits_1 : decode cX2_fits 1 = .ok (.tableswitch 61 2 4 #[27, 39, 51], 27) := by decide +kernel
theorem dX2_fits_28 : decode cX2_fits 28 = .ok (.iload_n 1, 1) := dk_27 (dk_at dksX2_fits_2 0 rfl rfl)
theorem dX2_fits_29 : decode cX2_fits 29 = .ok (.i2l, 1) := dk_133 (dk_at dksX2_fits_2 1 rfl rfl)
theorem dX2_fits_30 : decode cX2_fits 30 = .ok (.ldc2_w 36, 3) := dk_20 0 36 (dk_at dksX2_fits_2 2 rfl rfl)
theorem dX2_fits_33 : decode cX2_fits 33 = .ok (.ldc2_w 38, 3) := dk_20 0 38 (dk_at dksX2_fits_2 5 rfl rfl)
theorem dX2_fits_36 : decode cX2_fits 36 = .ok (.invokestatic 40, 3) := dk_184 0 40 (dk_at dksX2_fits_2 8 rfl rfl)
theorem dX2_fits_39 : decode cX2_fits 39 = .ok (.ireturn, 1) := dk_172 (dk_at dksX2_fits_2 11 rfl rfl)
theorem dX2_fits_40 : decode cX2_fits 40 = .ok (.iload_n 1, 1) := dk_27 (dk_at dksX2_fits_2 12 rfl rfl)
theorem dX2_fits_41 : decode cX2_fits 41 = .ok (.i2l, 1) := dk_133 (dk_at dksX2_fits_2 13 rfl rfl)
theorem dX2_fits_42 : decode cX2_fits 42 = .ok (.ldc2_w 44, 3) := dk_20 0 44 (dk_at dksX2_fits_2 14 rfl rfl)
theorem dX2_fits_45 : decode cX2_fits 45 = .ok (.ldc2_w 46, 3) := dk_20 0 46 (dk_at dksX2_fits_2 17 rfl rfl)
theorem dX2_fits_48 : decode cX2_fits 48 = .ok (.invokestatic 40, 3) := dk_184 0 40 (dk_at dksX2_fits_2 20 rfl rfl)
theorem dX2_fits_51 : decode cX2_fits 51 = .ok (.ireturn, 1) := dk_172 (dk_at dksX2_fits_2 23 rfl rfl)
theorem dX2_fits_52 : decode cX2_fits 52 = .ok (.iload_n 1, 1) := dk_27 (dk_at dksX2_fits_3 0 rfl rfl)
theorem dX2_fits_53 : decode cX2_fits 53 = .ok (.i2l, 1) := dk_133 (dk_at dksX2_fits_3 1 rfl rfl)
theorem dX2_fits_54 : decode cX2_fits 54 = .ok (.lconst 1, 1) := dk_10 (dk_at dksX2_fits_3 2 rfl rfl)
theorem dX2_fits_55 : decode cX2_fits 55 = .ok (.ldc2_w 46, 3) := dk_20 0 46 (dk_at dksX2_fits_3 3 rfl rfl)
theorem dX2_fits_58 : decode cX2_fits 58 = .ok (.invokestatic 40, 3) := dk_184 0 40 (dk_at dksX2_fits_3 6 rfl rfl)
theorem dX2_fits_61 : decode cX2_fits 61 = .ok (.ireturn, 1) := dk_172 (dk_at dksX2_fits_3 9 rfl rfl)
theorem dX2_fits_62 : decode cX2_fits 62 = .ok (.iconst 0, 1) := dk_3 (dk_at dksX2_fits_3 10 rfl rfl)
theorem dX2_fits_63 : decode cX2_fits 63 = .ok (.ireturn, 1) := dk_172 (dk_at dksX2_fits_3 11 rfl rfl)
abbrev cX2_init : ByteArray := prog_6_method_1_code
def yX2_init : MethodName := ⟨RX2, "<init>", "(IIIII)V"⟩
def dkwX2_init_0 : List UInt8 := [42, 27, 28, 29, 21, 4, 21, 5, 4, 4, 183, 0, 3, 177]
abbrev dktX2_init_0 : List UInt8 := dkwX2_init_0 ++ []
theorem dksX2_init_0 : cX2_init.data.toList.drop 0 = dktX2_init_0 := by decide +kernel
theorem dX2_init_0 : decode cX2_init 0 = .ok (.aload_n 0, 1) := dk_42 (dk_at dksX2_init_0 0 rfl rfl)
theorem dX2_init_1 : decode cX2_init 1 = .ok (.iload_n 1, 1) := dk_27 (dk_at dksX2_init_0 1 rfl rfl)
theorem dX2_init_2 : decode cX2_init 2 = .ok (.iload_n 2, 1) := dk_28 (dk_at dksX2_init_0 2 rfl rfl)
theorem dX2_init_3 : decode cX2_init 3 = .ok (.iload_n 3, 1) := dk_29 (dk_at dksX2_init_0 3 rfl rfl)
theorem dX2_init_4 : decode cX2_init 4 = .ok (.iload 4, 2) := dk_21 4 (dk_at dksX2_init_0 4 rfl rfl)
theorem dX2_init_6 : decode cX2_init 6 = .ok (.iload 5, 2) := dk_21 5 (dk_at dksX2_init_0 6 rfl rfl)
theorem dX2_init_8 : decode cX2_init 8 = .ok (.iconst 1, 1) := dk_4 (dk_at dksX2_init_0 8 rfl rfl)
theorem dX2_init_9 : decode cX2_init 9 = .ok (.iconst 1, 1) := dk_4 (dk_at dksX2_init_0 9 rfl rfl)
theorem dX2_init_10 : decode cX2_init 10 = .ok (.invokespecial 3, 3) := dk_183 0 3 (dk_at dksX2_init_0 10 rfl rfl)
theorem dX2_init_13 : decode cX2_init 13 = .ok (.return_, 1) := dk_177 (dk_at dksX2_init_0 13 rfl rfl)
abbrev cX2_init_2 : ByteArray := prog_6_method_2_code
def yX2_init_2 : MethodName := ⟨RX2, "<init>", "(IIIIIII)V"⟩
def dkwX2_init_2_1 : List UInt8 := [181, 0, 24, 42, 21, 5, 181, 0, 27, 42, 21, 6, 181, 0, 30, 42, 21, 7, 181, 0, 33, 177]
abbrev dktX2_init_2_1 : List UInt8 := dkwX2_init_2_1 ++ []
def dkwX2_init_2_0 : List UInt8 := [42, 183, 0, 9, 42, 27, 181, 0, 14, 42, 28, 181, 0, 18, 42, 29, 181, 0, 21, 42, 21, 4]
abbrev dktX2_init_2_0 : List UInt8 := dkwX2_init_2_0 ++ dktX2_init_2_1
theorem dksX2_init_2_0 : cX2_init_2.data.toList.drop 0 = dktX2_init_2_0 := by decide +kernel
theorem dksX2_init_2_1 : cX2_init_2.data.toList.drop 22 = dktX2_init_2_1 := dk_seg dksX2_init_2_0 22 rfl rfl
theorem dX2_init_2_0 : decode cX2_init_2 0 = .ok (.aload_n 0, 1) := dk_42 (dk_at dksX2_init_2_0 0 rfl rfl)
theorem dX2_init_2_1 : decode cX2_init_2 1 = .ok (.invokespecial 9, 3) := dk_183 0 9 (dk_at dksX2_init_2_0 1 rfl rfl)
theorem dX2_init_2_4 : decode cX2_init_2 4 = .ok (.aload_n 0, 1) := dk_42 (dk_at dksX2_init_2_0 4 rfl rfl)
theorem dX2_init_2_5 : decode cX2_init_2 5 = .ok (.iload_n 1, 1) := dk_27 (dk_at dksX2_init_2_0 5 rfl rfl)
theorem dX2_init_2_6 : decode cX2_init_2 6 = .ok (.putfield 14, 3) := dk_181 0 14 (dk_at dksX2_init_2_0 6 rfl rfl)
theorem dX2_init_2_9 : decode cX2_init_2 9 = .ok (.aload_n 0, 1) := dk_42 (dk_at dksX2_init_2_0 9 rfl rfl)
theorem dX2_init_2_10 : decode cX2_init_2 10 = .ok (.iload_n 2, 1) := dk_28 (dk_at dksX2_init_2_0 10 rfl rfl)
theorem dX2_init_2_11 : decode cX2_init_2 11 = .ok (.putfield 18, 3) := dk_181 0 18 (dk_at dksX2_init_2_0 11 rfl rfl)
theorem dX2_init_2_14 : decode cX2_init_2 14 = .ok (.aload_n 0, 1) := dk_42 (dk_at dksX2_init_2_0 14 rfl rfl)
theorem dX2_init_2_15 : decode cX2_init_2 15 = .ok (.iload_n 3, 1) := dk_29 (dk_at dksX2_init_2_0 15 rfl rfl)
theorem dX2_init_2_16 : decode cX2_init_2 16 = .ok (.putfield 21, 3) := dk_181 0 21 (dk_at dksX2_init_2_0 16 rfl rfl)
theorem dX2_init_2_19 : decode cX2_init_2 19 = .ok (.aload_n 0, 1) := dk_42 (dk_at dksX2_init_2_0 19 rfl rfl)
theorem dX2_init_2_20 : decode cX2_init_2 20 = .ok (.iload 4, 2) := dk_21 4 (dk_at dksX2_init_2_0 20 rfl rfl)
theorem dX2_init_2_22 : decode cX2_init_2 22 = .ok (.putfield 24, 3) := dk_181 0 24 (dk_at dksX2_init_2_1 0 rfl rfl)
theorem dX2_init_2_25 : decode cX2_init_2 25 = .ok (.aload_n 0, 1) := dk_42 (dk_at dksX2_init_2_1 3 rfl rfl)
theorem dX2_init_2_26 : decode cX2_init_2 26 = .ok (.iload 5, 2) := dk_21 5 (dk_at dksX2_init_2_1 4 rfl rfl)
theorem dX2_init_2_28 : decode cX2_init_2 28 = .ok (.putfield 27, 3) := dk_181 0 27 (dk_at dksX2_init_2_1 6 rfl rfl)
theorem dX2_init_2_31 : decode cX2_init_2 31 = .ok (.aload_n 0, 1) := dk_42 (dk_at dksX2_init_2_1 9 rfl rfl)
theorem dX2_init_2_32 : decode cX2_init_2 32 = .ok (.iload 6, 2) := dk_21 6 (dk_at dksX2_init_2_1 10 rfl rfl)
theorem dX2_init_2_34 : decode cX2_init_2 34 = .ok (.putfield 30, 3) := dk_181 0 30 (dk_at dksX2_init_2_1 12 rfl rfl)
theorem dX2_init_2_37 : decode cX2_init_2 37 = .ok (.aload_n 0, 1) := dk_42 (dk_at dksX2_init_2_1 15 rfl rfl)
theorem dX2_init_2_38 : decode cX2_init_2 38 = .ok (.iload 7, 2) := dk_21 7 (dk_at dksX2_init_2_1 16 rfl rfl)
theorem dX2_init_2_40 : decode cX2_init_2 40 = .ok (.putfield 33, 3) := dk_181 0 33 (dk_at dksX2_init_2_1 18 rfl rfl)
theorem dX2_init_2_43 : decode cX2_init_2 43 = .ok (.return_, 1) := dk_177 (dk_at dksX2_init_2_1 21 rfl rfl)
abbrev cX2_with : ByteArray := prog_6_method_5_code
def yX2_with : MethodName := ⟨RX2, "with", "(II)LRatioGraph$Edge;"⟩
def dkwX2_with_2 : List UInt8 := [167, 0, 7, 42, 180, 0, 27, 42, 180, 0, 30, 42, 180, 0, 33, 183, 0, 3, 176]
abbrev dktX2_with_2 : List UInt8 := dkwX2_with_2 ++ []
def dkwX2_with_1 : List UInt8 := [180, 0, 21, 27, 6, 160, 0, 7, 28, 167, 0, 7, 42, 180, 0, 24, 27, 7, 160, 0, 7, 28]
abbrev dktX2_with_1 : List UInt8 := dkwX2_with_1 ++ dktX2_with_2
def dkwX2_with_0 : List UInt8 := [187, 0, 4, 89, 42, 180, 0, 14, 42, 180, 0, 18, 27, 5, 160, 0, 7, 28, 167, 0, 7, 42]
abbrev dktX2_with_0 : List UInt8 := dkwX2_with_0 ++ dktX2_with_1
theorem dksX2_with_0 : cX2_with.data.toList.drop 0 = dktX2_with_0 := by decide +kernel
theorem dksX2_with_1 : cX2_with.data.toList.drop 22 = dktX2_with_1 := dk_seg dksX2_with_0 22 rfl rfl
theorem dksX2_with_2 : cX2_with.data.toList.drop 44 = dktX2_with_2 := dk_seg dksX2_with_1 22 rfl rfl
theorem dX2_with_0 : decode cX2_with 0 = .ok (.new 4, 3) := dk_187 0 4 (dk_at dksX2_with_0 0 rfl rfl)
theorem dX2_with_3 : decode cX2_with 3 = .ok (.dup, 1) := dk_89 (dk_at dksX2_with_0 3 rfl rfl)
theorem dX2_with_4 : decode cX2_with 4 = .ok (.aload_n 0, 1) := dk_42 (dk_at dksX2_with_0 4 rfl rfl)
theorem dX2_with_5 : decode cX2_with 5 = .ok (.getfield 14, 3) := dk_180 0 14 (dk_at dksX2_with_0 5 rfl rfl)
theorem dX2_with_8 : decode cX2_with 8 = .ok (.aload_n 0, 1) := dk_42 (dk_at dksX2_with_0 8 rfl rfl)
theorem dX2_with_9 : decode cX2_with 9 = .ok (.getfield 18, 3) := dk_180 0 18 (dk_at dksX2_with_0 9 rfl rfl)
theorem dX2_with_12 : decode cX2_with 12 = .ok (.iload_n 1, 1) := dk_27 (dk_at dksX2_with_0 12 rfl rfl)
theorem dX2_with_13 : decode cX2_with 13 = .ok (.iconst 2, 1) := dk_5 (dk_at dksX2_with_0 13 rfl rfl)
theorem dX2_with_14 : decode cX2_with 14 = .ok (.if_icmp .ne 7, 3) := dk_160 0 7 (dk_at dksX2_with_0 14 rfl rfl)
theorem dX2_with_17 : decode cX2_with 17 = .ok (.iload_n 2, 1) := dk_28 (dk_at dksX2_with_0 17 rfl rfl)
theorem dX2_with_18 : decode cX2_with 18 = .ok (.goto 7, 3) := dk_167 0 7 (dk_at dksX2_with_0 18 rfl rfl)
theorem dX2_with_21 : decode cX2_with 21 = .ok (.aload_n 0, 1) := dk_42 (dk_at dksX2_with_0 21 rfl rfl)
theorem dX2_with_22 : decode cX2_with 22 = .ok (.getfield 21, 3) := dk_180 0 21 (dk_at dksX2_with_1 0 rfl rfl)
theorem dX2_with_25 : decode cX2_with 25 = .ok (.iload_n 1, 1) := dk_27 (dk_at dksX2_with_1 3 rfl rfl)
theorem dX2_with_26 : decode cX2_with 26 = .ok (.iconst 3, 1) := dk_6 (dk_at dksX2_with_1 4 rfl rfl)
theorem dX2_with_27 : decode cX2_with 27 = .ok (.if_icmp .ne 7, 3) := dk_160 0 7 (dk_at dksX2_with_1 5 rfl rfl)
theorem dX2_with_30 : decode cX2_with 30 = .ok (.iload_n 2, 1) := dk_28 (dk_at dksX2_with_1 8 rfl rfl)
theorem dX2_with_31 : decode cX2_with 31 = .ok (.goto 7, 3) := dk_167 0 7 (dk_at dksX2_with_1 9 rfl rfl)
theorem dX2_with_34 : decode cX2_with 34 = .ok (.aload_n 0, 1) := dk_42 (dk_at dksX2_with_1 12 rfl rfl)
theorem dX2_with_35 : decode cX2_with 35 = .ok (.getfield 24, 3) := dk_180 0 24 (dk_at dksX2_with_1 13 rfl rfl)
theorem dX2_with_38 : decode cX2_with 38 = .ok (.iload_n 1, 1) := dk_27 (dk_at dksX2_with_1 16 rfl rfl)
theorem dX2_with_39 : decode cX2_with 39 = .ok (.iconst 4, 1) := dk_7 (dk_at dksX2_with_1 17 rfl rfl)
theorem dX2_with_40 : decode cX2_with 40 = .ok (.if_icmp .ne 7, 3) := dk_160 0 7 (dk_at dksX2_with_1 18 rfl rfl)
theorem dX2_with_43 : decode cX2_with 43 = .ok (.iload_n 2, 1) := dk_28 (dk_at dksX2_with_1 21 rfl rfl)
theorem dX2_with_44 : decode cX2_with 44 = .ok (.goto 7, 3) := dk_167 0 7 (dk_at dksX2_with_2 0 rfl rfl)
theorem dX2_with_47 : decode cX2_with 47 = .ok (.aload_n 0, 1) := dk_42 (dk_at dksX2_with_2 3 rfl rfl)
theorem dX2_with_48 : decode cX2_with 48 = .ok (.getfield 27, 3) := dk_180 0 27 (dk_at dksX2_with_2 4 rfl rfl)
theorem dX2_with_51 : decode cX2_with 51 = .ok (.aload_n 0, 1) := dk_42 (dk_at dksX2_with_2 7 rfl rfl)
theorem dX2_with_52 : decode cX2_with 52 = .ok (.getfield 30, 3) := dk_180 0 30 (dk_at dksX2_with_2 8 rfl rfl)
theorem dX2_with_55 : decode cX2_with 55 = .ok (.aload_n 0, 1) := dk_42 (dk_at dksX2_with_2 11 rfl rfl)
theorem dX2_with_56 : decode cX2_with 56 = .ok (.getfield 33, 3) := dk_180 0 33 (dk_at dksX2_with_2 12 rfl rfl)
theorem dX2_with_59 : decode cX2_with 59 = .ok (.invokespecial 3, 3) := dk_183 0 3 (dk_at dksX2_with_2 15 rfl rfl)
theorem dX2_with_62 : decode cX2_with 62 = .ok (.areturn, 1) := dk_176 (dk_at dksX2_with_2 18 rfl rfl)
abbrev cX2_part : ByteArray := prog_6_method_4_code
def yX2_part : MethodName := ⟨RX2, "part", "(I)I"⟩
def dkwX2_part_3 : List UInt8 := [172, 42, 180, 0, 30, 172, 42, 180, 0, 33, 172]
abbrev dktX2_part_3 : List UInt8 := dkwX2_part_3 ++ []
def dkwX2_part_2 : List UInt8 := [42, 180, 0, 14, 172, 42, 180, 0, 18, 172, 42, 180, 0, 21, 172, 42, 180, 0, 24, 172, 42, 180, 0, 27]
abbrev dktX2_part_2 : List UInt8 := dkwX2_part_2 ++ dktX2_part_3
def dkwX2_part_1 : List UInt8 := [170, 0, 0, 0, 0, 0, 69, 0, 0, 0, 0, 0, 0, 0, 5, 0, 0, 0, 39, 0, 0, 0, 44, 0, 0, 0, 49, 0, 0, 0, 54, 0, 0, 0, 59, 0, 0, 0, 64]
abbrev dktX2_part_1 : List UInt8 := dkwX2_part_1 ++ dktX2_part_2
def dkwX2_part_0 : List UInt8 := [27]
abbrev dktX2_part_0 : List UInt8 := dkwX2_part_0 ++ dktX2_part_1
theorem dksX2_part_0 : cX2_part.data.toList.drop 0 = dktX2_part_0 := by decide +kernel
theorem dksX2_part_1 : cX2_part.data.toList.drop 1 = dktX2_part_1 := dk_seg dksX2_part_0 1 rfl rfl
theorem dksX2_part_2 : cX2_part.data.toList.drop 40 = dktX2_part_2 := dk_seg dksX2_part_1 39 rfl rfl
theorem dksX2_part_3 : cX2_part.data.toList.drop 64 = dktX2_part_3 := dk_seg dksX2_part_2 24 rfl rfl
theorem dX2_part_0 : decode cX2_part 0 = .ok (.iload_n 1, 1) := dk_27 (dk_at dksX2_part_0 0 rfl rfl)
theorem dX2_part_1 : decode cX2_part 1 = .ok (.tableswitch 69 0 5 #[39, 44, 49, 54, 59, 64], 39) := by decide +kernel
theorem dX2_part_40 : decode cX2_part 40 = .ok (.aload_n 0, 1) := dk_42 (dk_at dksX2_part_2 0 rfl rfl)
theorem dX2_part_41 : decode cX2_part 41 = .ok (.getfield 14, 3) := dk_180 0 14 (dk_at dksX2_part_2 1 rfl rfl)
theorem dX2_part_44 : decode cX2_part 44 = .ok (.ireturn, 1) := dk_172 (dk_at dksX2_part_2 4 rfl rfl)
theorem dX2_part_45 : decode cX2_part 45 = .ok (.aload_n 0, 1) := dk_42 (dk_at dksX2_part_2 5 rfl rfl)
theorem dX2_part_46 : decode cX2_part 46 = .ok (.getfield 18, 3) := dk_180 0 18 (dk_at dksX2_part_2 6 rfl rfl)
theorem dX2_part_49 : decode cX2_part 49 = .ok (.ireturn, 1) := dk_172 (dk_at dksX2_part_2 9 rfl rfl)
theorem dX2_part_50 : decode cX2_part 50 = .ok (.aload_n 0, 1) := dk_42 (dk_at dksX2_part_2 10 rfl rfl)
theorem dX2_part_51 : decode cX2_part 51 = .ok (.getfield 21, 3) := dk_180 0 21 (dk_at dksX2_part_2 11 rfl rfl)
theorem dX2_part_54 : decode cX2_part 54 = .ok (.ireturn, 1) := dk_172 (dk_at dksX2_part_2 14 rfl rfl)
theorem dX2_part_55 : decode cX2_part 55 = .ok (.aload_n 0, 1) := dk_42 (dk_at dksX2_part_2 15 rfl rfl)
theorem dX2_part_56 : decode cX2_part 56 = .ok (.getfield 24, 3) := dk_180 0 24 (dk_at dksX2_part_2 16 rfl rfl)
theorem dX2_part_59 : decode cX2_part 59 = .ok (.ireturn, 1) := dk_172 (dk_at dksX2_part_2 19 rfl rfl)
theorem dX2_part_60 : decode cX2_part 60 = .ok (.aload_n 0, 1) := dk_42 (dk_at dksX2_part_2 20 rfl rfl)
theorem dX2_part_61 : decode cX2_part 61 = .ok (.getfield 27, 3) := dk_180 0 27 (dk_at dksX2_part_2 21 rfl rfl)
theorem dX2_part_64 : decode cX2_part 64 = .ok (.ireturn, 1) := dk_172 (dk_at dksX2_part_3 0 rfl rfl)
theorem dX2_part_65 : decode cX2_part 65 = .ok (.aload_n 0, 1) := dk_42 (dk_at dksX2_part_3 1 rfl rfl)
theorem dX2_part_66 : decode cX2_part 66 = .ok (.getfield 30, 3) := dk_180 0 30 (dk_at dksX2_part_3 2 rfl rfl)
theorem dX2_part_69 : decode cX2_part 69 = .ok (.ireturn, 1) := dk_172 (dk_at dksX2_part_3 5 rfl rfl)
theorem dX2_part_70 : decode cX2_part 70 = .ok (.aload_n 0, 1) := dk_42 (dk_at dksX2_part_3 6 rfl rfl)
theorem dX2_part_71 : decode cX2_part 71 = .ok (.getfield 33, 3) := dk_180 0 33 (dk_at dksX2_part_3 7 rfl rfl)
theorem dX2_part_74 : decode cX2_part 74 = .ok (.ireturn, 1) := dk_172 (dk_at dksX2_part_3 10 rfl rfl)
abbrev cX2_at : ByteArray := prog_6_method_6_code
def yX2_at : MethodName := ⟨RX2, "at", "(II)LRatioGraph$Edge;"⟩
def dkwX2_at_1 : List UInt8 := [27, 28, 183, 0, 3, 176]
abbrev dktX2_at_1 : List UInt8 := dkwX2_at_1 ++ []
def dkwX2_at_0 : List UInt8 := [187, 0, 4, 89, 42, 180, 0, 14, 42, 180, 0, 18, 42, 180, 0, 21, 42, 180, 0, 24, 42, 180, 0, 27]
abbrev dktX2_at_0 : List UInt8 := dkwX2_at_0 ++ dktX2_at_1
theorem dksX2_at_0 : cX2_at.data.toList.drop 0 = dktX2_at_0 := by decide +kernel
theorem dksX2_at_1 : cX2_at.data.toList.drop 24 = dktX2_at_1 := dk_seg dksX2_at_0 24 rfl rfl
theorem dX2_at_0 : decode cX2_at 0 = .ok (.new 4, 3) := dk_187 0 4 (dk_at dksX2_at_0 0 rfl rfl)
theorem dX2_at_3 : decode cX2_at 3 = .ok (.dup, 1) := dk_89 (dk_at dksX2_at_0 3 rfl rfl)
theorem dX2_at_4 : decode cX2_at 4 = .ok (.aload_n 0, 1) := dk_42 (dk_at dksX2_at_0 4 rfl rfl)
theorem dX2_at_5 : decode cX2_at 5 = .ok (.getfield 14, 3) := dk_180 0 14 (dk_at dksX2_at_0 5 rfl rfl)
theorem dX2_at_8 : decode cX2_at 8 = .ok (.aload_n 0, 1) := dk_42 (dk_at dksX2_at_0 8 rfl rfl)
theorem dX2_at_9 : decode cX2_at 9 = .ok (.getfield 18, 3) := dk_180 0 18 (dk_at dksX2_at_0 9 rfl rfl)
theorem dX2_at_12 : decode cX2_at 12 = .ok (.aload_n 0, 1) := dk_42 (dk_at dksX2_at_0 12 rfl rfl)
theorem dX2_at_13 : decode cX2_at 13 = .ok (.getfield 21, 3) := dk_180 0 21 (dk_at dksX2_at_0 13 rfl rfl)
theorem dX2_at_16 : decode cX2_at 16 = .ok (.aload_n 0, 1) := dk_42 (dk_at dksX2_at_0 16 rfl rfl)
theorem dX2_at_17 : decode cX2_at 17 = .ok (.getfield 24, 3) := dk_180 0 24 (dk_at dksX2_at_0 17 rfl rfl)
theorem dX2_at_20 : decode cX2_at 20 = .ok (.aload_n 0, 1) := dk_42 (dk_at dksX2_at_0 20 rfl rfl)
theorem dX2_at_21 : decode cX2_at 21 = .ok (.getfield 27, 3) := dk_180 0 27 (dk_at dksX2_at_0 21 rfl rfl)
theorem dX2_at_24 : decode cX2_at 24 = .ok (.iload_n 1, 1) := dk_27 (dk_at dksX2_at_1 0 rfl rfl)
theorem dX2_at_25 : decode cX2_at 25 = .ok (.iload_n 2, 1) := dk_28 (dk_at dksX2_at_1 1 rfl rfl)
theorem dX2_at_26 : decode cX2_at 26 = .ok (.invokespecial 3, 3) := dk_183 0 3 (dk_at dksX2_at_1 2 rfl rfl)
theorem dX2_at_29 : decode cX2_at 29 = .ok (.areturn, 1) := dk_176 (dk_at dksX2_at_1 5 rfl rfl)
theorem q72 : (Jvm.Cond.initialized "RatioGraph$Edge") ∈ lw_all := lw_g (lw_at lw_m1 8 rfl) rfl
theorem q201 : (Jvm.Cond.static ({ cls := "RatioGraph$Edge", name := "fits", desc := "(II)Z" } : Jvm.MethodName)) ∈ lw_all := lw_g (lw_at lw_m1 137 rfl) rfl
theorem q202 : (Jvm.Cond.code ({ cls := "RatioGraph$Edge", name := "fits", desc := "(II)Z" } : Jvm.MethodName) prog_6_method_3_code (2 : Nat) (Option.some Jvm.ClassFile.FieldType.boolean)) ∈ lw_all := lw_g (lw_at lw_m1 138 rfl) rfl
theorem q203 : (Jvm.Cond.constantLong "RatioGraph$Edge" (36 : Nat) (-99 : Int64)) ∈ lw_all := lw_g (lw_at lw_m1 139 rfl) rfl
theorem q204 : (Jvm.Cond.constantLong "RatioGraph$Edge" (38 : Nat) (99 : Int64)) ∈ lw_all := lw_g (lw_at lw_m1 140 rfl) rfl
theorem q205 : (Jvm.Cond.methodLinkNest "RatioGraph$Edge" (40 : Nat) ({ cls := "RatioGraph", name := "isIn", desc := "(JJJ)Z" } : Jvm.MethodName) "RatioGraph") ∈ lw_tbl := lw_at lw_m1 141 rfl
theorem q206 : (Jvm.Cond.constantLong "RatioGraph$Edge" (44 : Nat) (-9 : Int64)) ∈ lw_all := lw_g (lw_at lw_m1 142 rfl) rfl
theorem q207 : (Jvm.Cond.constantLong "RatioGraph$Edge" (46 : Nat) (9 : Int64)) ∈ lw_all := lw_g (lw_at lw_m1 143 rfl) rfl
theorem q268 : (Jvm.Cond.selects "RatioGraph$Edge" ({ cls := "java/lang/Object", name := "getClass", desc := "()Ljava/lang/Class;" } : Jvm.MethodName) ({ cls := "java/lang/Object", name := "getClass", desc := "()Ljava/lang/Class;" } : Jvm.MethodName)) ∈ lw_all := lw_g (lw_at lw_m1 204 rfl) rfl
theorem q326 : (Jvm.Cond.instantiable "RatioGraph$Edge" (7 : Nat)) ∈ lw_all := lw_g (lw_at lw_m2 22 rfl) rfl
theorem q328 : (Jvm.Cond.instanceMethod ({ cls := "RatioGraph$Edge", name := "<init>", desc := "(IIIII)V" } : Jvm.MethodName)) ∈ lw_all := lw_g (lw_at lw_m2 24 rfl) rfl
theorem q329 : (Jvm.Cond.code ({ cls := "RatioGraph$Edge", name := "<init>", desc := "(IIIII)V" } : Jvm.MethodName) prog_6_method_1_code (6 : Nat) (Option.none : Option Jvm.ClassFile.FieldType)) ∈ lw_all := lw_g (lw_at lw_m2 25 rfl) rfl
theorem q330 : (Jvm.Cond.methodLink "RatioGraph$Edge" (3 : Nat) ({ cls := "RatioGraph$Edge", name := "<init>", desc := "(IIIIIII)V" } : Jvm.MethodName)) ∈ lw_all := lw_g (lw_at lw_m2 26 rfl) rfl
theorem q331 : (Jvm.Cond.instanceMethod ({ cls := "RatioGraph$Edge", name := "<init>", desc := "(IIIIIII)V" } : Jvm.MethodName)) ∈ lw_all := lw_g (lw_at lw_m2 27 rfl) rfl
theorem q332 : (Jvm.Cond.code ({ cls := "RatioGraph$Edge", name := "<init>", desc := "(IIIIIII)V" } : Jvm.MethodName) prog_6_method_2_code (8 : Nat) (Option.none : Option Jvm.ClassFile.FieldType)) ∈ lw_all := lw_g (lw_at lw_m2 28 rfl) rfl
theorem q333 : (Jvm.Cond.methodLink "RatioGraph$Edge" (9 : Nat) ({ cls := "java/lang/Object", name := "<init>", desc := "()V" } : Jvm.MethodName)) ∈ lw_all := lw_g (lw_at lw_m2 29 rfl) rfl
theorem q334 : (Jvm.Cond.fieldLink "RatioGraph$Edge" (14 : Nat) "RatioGraph$Edge" "from" "I") ∈ lw_all := lw_g (lw_at lw_m2 30 rfl) rfl
theorem q339 : (Jvm.Cond.fieldLink "RatioGraph$Edge" (18 : Nat) "RatioGraph$Edge" "to" "I") ∈ lw_all := lw_g (lw_at lw_m2 35 rfl) rfl
theorem q345 : (Jvm.Cond.fieldLink "RatioGraph$Edge" (21 : Nat) "RatioGraph$Edge" "weight" "I") ∈ lw_all := lw_g (lw_at lw_m2 41 rfl) rfl
theorem q348 : (Jvm.Cond.fieldLink "RatioGraph$Edge" (24 : Nat) "RatioGraph$Edge" "slope" "I") ∈ lw_all := lw_g (lw_at lw_m2 44 rfl) rfl
theorem q350 : (Jvm.Cond.fieldLink "RatioGraph$Edge" (27 : Nat) "RatioGraph$Edge" "time" "I") ∈ lw_all := lw_g (lw_at lw_m2 46 rfl) rfl
theorem q352 : (Jvm.Cond.fieldLink "RatioGraph$Edge" (30 : Nat) "RatioGraph$Edge" "top" "I") ∈ lw_all := lw_g (lw_at lw_m2 48 rfl) rfl
theorem q356 : (Jvm.Cond.fieldLink "RatioGraph$Edge" (33 : Nat) "RatioGraph$Edge" "bottom" "I") ∈ lw_all := lw_g (lw_at lw_m2 52 rfl) rfl
theorem q360 : (Jvm.Cond.laysFinal "RatioGraph$Edge" "RatioGraph$Edge" "from" "I") ∈ lw_all := lw_g (lw_at lw_m2 56 rfl) rfl
theorem q361 : (Jvm.Cond.soleField "RatioGraph$Edge" "from") ∈ lw_all := lw_g (lw_at lw_m2 57 rfl) rfl
theorem q362 : (Jvm.Cond.laysFinal "RatioGraph$Edge" "RatioGraph$Edge" "to" "I") ∈ lw_all := lw_g (lw_at lw_m2 58 rfl) rfl
theorem q363 : (Jvm.Cond.soleField "RatioGraph$Edge" "to") ∈ lw_all := lw_g (lw_at lw_m2 59 rfl) rfl
theorem q364 : (Jvm.Cond.laysFinal "RatioGraph$Edge" "RatioGraph$Edge" "weight" "I") ∈ lw_all := lw_g (lw_at lw_m2 60 rfl) rfl
theorem q365 : (Jvm.Cond.soleField "RatioGraph$Edge" "weight") ∈ lw_all := lw_g (lw_at lw_m2 61 rfl) rfl
theorem q366 : (Jvm.Cond.laysFinal "RatioGraph$Edge" "RatioGraph$Edge" "slope" "I") ∈ lw_all := lw_g (lw_at lw_m2 62 rfl) rfl
theorem q367 : (Jvm.Cond.soleField "RatioGraph$Edge" "slope") ∈ lw_all := lw_g (lw_at lw_m2 63 rfl) rfl
theorem q368 : (Jvm.Cond.laysFinal "RatioGraph$Edge" "RatioGraph$Edge" "time" "I") ∈ lw_all := lw_g (lw_at lw_m2 64 rfl) rfl
theorem q369 : (Jvm.Cond.soleField "RatioGraph$Edge" "time") ∈ lw_all := lw_g (lw_at lw_m2 65 rfl) rfl
theorem q370 : (Jvm.Cond.laysFinal "RatioGraph$Edge" "RatioGraph$Edge" "top" "I") ∈ lw_all := lw_g (lw_at lw_m2 66 rfl) rfl
theorem q371 : (Jvm.Cond.soleField "RatioGraph$Edge" "top") ∈ lw_all := lw_g (lw_at lw_m2 67 rfl) rfl
theorem q372 : (Jvm.Cond.laysFinal "RatioGraph$Edge" "RatioGraph$Edge" "bottom" "I") ∈ lw_all := lw_g (lw_at lw_m2 68 rfl) rfl
theorem q373 : (Jvm.Cond.soleField "RatioGraph$Edge" "bottom") ∈ lw_all := lw_g (lw_at lw_m2 69 rfl) rfl
theorem q374 : (Jvm.Cond.superclass "RatioGraph$Edge" "java/lang/Object") ∈ lw_all := lw_g (lw_at lw_m2 70 rfl) rfl
theorem q440 : (Jvm.Cond.instanceMethod ({ cls := "RatioGraph$Edge", name := "with", desc := "(II)LRatioGraph$Edge;" } : Jvm.MethodName)) ∈ lw_all := lw_g (lw_at lw_m2 136 rfl) rfl
theorem q441 : (Jvm.Cond.selects "RatioGraph$Edge" ({ cls := "RatioGraph$Edge", name := "with", desc := "(II)LRatioGraph$Edge;" } : Jvm.MethodName) ({ cls := "RatioGraph$Edge", name := "with", desc := "(II)LRatioGraph$Edge;" } : Jvm.MethodName)) ∈ lw_all := lw_g (lw_at lw_m2 137 rfl) rfl
theorem q442 : (Jvm.Cond.code ({ cls := "RatioGraph$Edge", name := "with", desc := "(II)LRatioGraph$Edge;" } : Jvm.MethodName) prog_6_method_5_code (3 : Nat) (Option.some (Jvm.ClassFile.FieldType.object "RatioGraph$Edge"))) ∈ lw_all := lw_g (lw_at lw_m2 138 rfl) rfl
theorem q443 : (Jvm.Cond.classLink "RatioGraph$Edge" (4 : Nat) "RatioGraph$Edge") ∈ lw_all := lw_g (lw_at lw_m2 139 rfl) rfl
theorem q449 : (Jvm.Cond.instanceMethod ({ cls := "RatioGraph$Edge", name := "part", desc := "(I)I" } : Jvm.MethodName)) ∈ lw_all := lw_g (lw_at lw_m2 145 rfl) rfl
theorem q450 : (Jvm.Cond.selects "RatioGraph$Edge" ({ cls := "RatioGraph$Edge", name := "part", desc := "(I)I" } : Jvm.MethodName) ({ cls := "RatioGraph$Edge", name := "part", desc := "(I)I" } : Jvm.MethodName)) ∈ lw_all := lw_g (lw_at lw_m2 146 rfl) rfl
theorem q451 : (Jvm.Cond.code ({ cls := "RatioGraph$Edge", name := "part", desc := "(I)I" } : Jvm.MethodName) prog_6_method_4_code (2 : Nat) (Option.some Jvm.ClassFile.FieldType.int)) ∈ lw_all := lw_g (lw_at lw_m2 147 rfl) rfl
theorem q458 : (Jvm.Cond.instanceMethod ({ cls := "RatioGraph$Edge", name := "at", desc := "(II)LRatioGraph$Edge;" } : Jvm.MethodName)) ∈ lw_all := lw_g (lw_at lw_m2 154 rfl) rfl
theorem q459 : (Jvm.Cond.selects "RatioGraph$Edge" ({ cls := "RatioGraph$Edge", name := "at", desc := "(II)LRatioGraph$Edge;" } : Jvm.MethodName) ({ cls := "RatioGraph$Edge", name := "at", desc := "(II)LRatioGraph$Edge;" } : Jvm.MethodName)) ∈ lw_all := lw_g (lw_at lw_m2 155 rfl) rfl
theorem q460 : (Jvm.Cond.code ({ cls := "RatioGraph$Edge", name := "at", desc := "(II)LRatioGraph$Edge;" } : Jvm.MethodName) prog_6_method_6_code (3 : Nat) (Option.some (Jvm.ClassFile.FieldType.object "RatioGraph$Edge"))) ∈ lw_all := lw_g (lw_at lw_m2 156 rfl) rfl
theorem q1800 : (Jvm.Cond.castable "RatioGraph$Edge" "java/lang/Object") ∈ lw_tbl := lw_at lw_m8 56 rfl
theorem in_X2 : ∀ w ∈ wsX20, w ∈ lw_all := lw_in wsX20 [360, 362, 364, 366, 368, 370, 372] (by decide +kernel) (by decide +kernel)

/-! RatioGraph$GraphReader -/
set_option maxRecDepth 100000
def RX3 : String := "RatioGraph$GraphReader"
def TX3 : u_T := fun k => match k with
  | 0 => ("RatioGraph$GraphReader", "at", "I", false)
  | 1 => ("RatioGraph$GraphReader", "read", "Ljava/util/ArrayList;", true)
  | _ => ("RatioGraph$GraphReader", "this$0", "LRatioGraph;", true)
def tyX3 : Nat → FieldType := fun k => match k with
  | 0 => .int
  | 1 => .object "java/util/ArrayList"
  | _ => .object "RatioGraph"
abbrev wsX30 : List Cond := u_ws RX3 TX3 3
theorem nmX3 : ∀ a, a < 3 → ∀ b, b < 3 → a ≠ b → (TX3 a).2.1 ≠ (TX3 b).2.1 := by decide +kernel
theorem tyX3_ok : ∀ k, k < 3 → parseFieldDescriptor (TX3 k).2.2.1 = some (tyX3 k) := by decide +kernel
abbrev cX3_init : ByteArray := prog_11_method_1_code
def yX3_init : MethodName := ⟨RX3, "<init>", "(LRatioGraph;)V"⟩
def dkwX3_init_1 : List UInt8 := [182, 0, 24, 177]
abbrev dktX3_init_1 : List UInt8 := dkwX3_init_1 ++ []
def dkwX3_init_0 : List UInt8 := [42, 43, 181, 0, 3, 42, 183, 0, 9, 42, 187, 0, 15, 89, 16, 16, 183, 0, 17, 181, 0, 20, 42]
abbrev dktX3_init_0 : List UInt8 := dkwX3_init_0 ++ dktX3_init_1
theorem dksX3_init_0 : cX3_init.data.toList.drop 0 = dktX3_init_0 := by decide +kernel
theorem dksX3_init_1 : cX3_init.data.toList.drop 23 = dktX3_init_1 := dk_seg dksX3_init_0 23 rfl rfl
theorem dX3_init_0 : decode cX3_init 0 = .ok (.aload_n 0, 1) := dk_42 (dk_at dksX3_init_0 0 rfl rfl)
theorem dX3_init_1 : decode cX3_init 1 = .ok (.aload_n 1, 1) := dk_43 (dk_at dksX3_init_0 1 rfl rfl)
theorem dX3_init_2 : decode cX3_init 2 = .ok (.putfield 3, 3) := dk_181 0 3 (dk_at dksX3_init_0 2 rfl rfl)
theorem dX3_init_5 : decode cX3_init 5 = .ok (.aload_n 0, 1) := dk_42 (dk_at dksX3_init_0 5 rfl rfl)
theorem dX3_init_6 : decode cX3_init 6 = .ok (.invokespecial 9, 3) := dk_183 0 9 (dk_at dksX3_init_0 6 rfl rfl)
theorem dX3_init_9 : decode cX3_init 9 = .ok (.aload_n 0, 1) := dk_42 (dk_at dksX3_init_0 9 rfl rfl)
theorem dX3_init_10 : decode cX3_init 10 = .ok (.new 15, 3) := dk_187 0 15 (dk_at dksX3_init_0 10 rfl rfl)
theorem dX3_init_13 : decode cX3_init 13 = .ok (.dup, 1) := dk_89 (dk_at dksX3_init_0 13 rfl rfl)
theorem dX3_init_14 : decode cX3_init 14 = .ok (.bipush 16, 2) := dk_16 16 (dk_at dksX3_init_0 14 rfl rfl)
theorem dX3_init_16 : decode cX3_init 16 = .ok (.invokespecial 17, 3) := dk_183 0 17 (dk_at dksX3_init_0 16 rfl rfl)
theorem dX3_init_19 : decode cX3_init 19 = .ok (.putfield 20, 3) := dk_181 0 20 (dk_at dksX3_init_0 19 rfl rfl)
theorem dX3_init_22 : decode cX3_init 22 = .ok (.aload_n 0, 1) := dk_42 (dk_at dksX3_init_0 22 rfl rfl)
theorem dX3_init_23 : decode cX3_init 23 = .ok (.invokevirtual 24, 3) := dk_182 0 24 (dk_at dksX3_init_1 0 rfl rfl)
theorem dX3_init_26 : decode cX3_init 26 = .ok (.return_, 1) := dk_177 (dk_at dksX3_init_1 3 rfl rfl)
abbrev cX3_blanks : ByteArray := prog_11_method_3_code
def yX3_blanks : MethodName := ⟨RX3, "blanks", "()V"⟩
def dkwX3_blanks_0 : List UInt8 := [42, 182, 0, 38, 16, 32, 160, 0, 16, 42, 89, 180, 0, 27, 4, 96, 181, 0, 27, 167, 255, 237, 177]
abbrev dktX3_blanks_0 : List UInt8 := dkwX3_blanks_0 ++ []
theorem dksX3_blanks_0 : cX3_blanks.data.toList.drop 0 = dktX3_blanks_0 := by decide +kernel
theorem dX3_blanks_0 : decode cX3_blanks 0 = .ok (.aload_n 0, 1) := dk_42 (dk_at dksX3_blanks_0 0 rfl rfl)
theorem dX3_blanks_1 : decode cX3_blanks 1 = .ok (.invokevirtual 38, 3) := dk_182 0 38 (dk_at dksX3_blanks_0 1 rfl rfl)
theorem dX3_blanks_4 : decode cX3_blanks 4 = .ok (.bipush 32, 2) := dk_16 32 (dk_at dksX3_blanks_0 4 rfl rfl)
theorem dX3_blanks_6 : decode cX3_blanks 6 = .ok (.if_icmp .ne 16, 3) := dk_160 0 16 (dk_at dksX3_blanks_0 6 rfl rfl)
theorem dX3_blanks_9 : decode cX3_blanks 9 = .ok (.aload_n 0, 1) := dk_42 (dk_at dksX3_blanks_0 9 rfl rfl)
theorem dX3_blanks_10 : decode cX3_blanks 10 = .ok (.dup, 1) := dk_89 (dk_at dksX3_blanks_0 10 rfl rfl)
theorem dX3_blanks_11 : decode cX3_blanks 11 = .ok (.getfield 27, 3) := dk_180 0 27 (dk_at dksX3_blanks_0 11 rfl rfl)
theorem dX3_blanks_14 : decode cX3_blanks 14 = .ok (.iconst 1, 1) := dk_4 (dk_at dksX3_blanks_0 14 rfl rfl)
theorem dX3_blanks_15 : decode cX3_blanks 15 = .ok (.iadd, 1) := dk_96 (dk_at dksX3_blanks_0 15 rfl rfl)
theorem dX3_blanks_16 : decode cX3_blanks 16 = .ok (.putfield 27, 3) := dk_181 0 27 (dk_at dksX3_blanks_0 16 rfl rfl)
theorem dX3_blanks_19 : decode cX3_blanks 19 = .ok (.goto (-19), 3) := dk_167 255 237 (dk_at dksX3_blanks_0 19 rfl rfl)
theorem dX3_blanks_22 : decode cX3_blanks 22 = .ok (.return_, 1) := dk_177 (dk_at dksX3_blanks_0 22 rfl rfl)
abbrev cX3_next : ByteArray := prog_11_method_2_code
def yX3_next : MethodName := ⟨RX3, "next", "()I"⟩
def dkwX3_next_1 : List UInt8 := [180, 0, 27, 51, 167, 0, 4, 2, 172]
abbrev dktX3_next_1 : List UInt8 := dkwX3_next_1 ++ []
def dkwX3_next_0 : List UInt8 := [42, 180, 0, 27, 42, 180, 0, 3, 180, 0, 31, 162, 0, 18, 42, 180, 0, 3, 180, 0, 34, 42]
abbrev dktX3_next_0 : List UInt8 := dkwX3_next_0 ++ dktX3_next_1
theorem dksX3_next_0 : cX3_next.data.toList.drop 0 = dktX3_next_0 := by decide +kernel
theorem dksX3_next_1 : cX3_next.data.toList.drop 22 = dktX3_next_1 := dk_seg dksX3_next_0 22 rfl rfl
theorem dX3_next_0 : decode cX3_next 0 = .ok (.aload_n 0, 1) := dk_42 (dk_at dksX3_next_0 0 rfl rfl)
theorem dX3_next_1 : decode cX3_next 1 = .ok (.getfield 27, 3) := dk_180 0 27 (dk_at dksX3_next_0 1 rfl rfl)
theorem dX3_next_4 : decode cX3_next 4 = .ok (.aload_n 0, 1) := dk_42 (dk_at dksX3_next_0 4 rfl rfl)
theorem dX3_next_5 : decode cX3_next 5 = .ok (.getfield 3, 3) := dk_180 0 3 (dk_at dksX3_next_0 5 rfl rfl)
theorem dX3_next_8 : decode cX3_next 8 = .ok (.getfield 31, 3) := dk_180 0 31 (dk_at dksX3_next_0 8 rfl rfl)
theorem dX3_next_11 : decode cX3_next 11 = .ok (.if_icmp .ge 18, 3) := dk_162 0 18 (dk_at dksX3_next_0 11 rfl rfl)
theorem dX3_next_14 : decode cX3_next 14 = .ok (.aload_n 0, 1) := dk_42 (dk_at dksX3_next_0 14 rfl rfl)
theorem dX3_next_15 : decode cX3_next 15 = .ok (.getfield 3, 3) := dk_180 0 3 (dk_at dksX3_next_0 15 rfl rfl)
theorem dX3_next_18 : decode cX3_next 18 = .ok (.getfield 34, 3) := dk_180 0 34 (dk_at dksX3_next_0 18 rfl rfl)
theorem dX3_next_21 : decode cX3_next 21 = .ok (.aload_n 0, 1) := dk_42 (dk_at dksX3_next_0 21 rfl rfl)
theorem dX3_next_22 : decode cX3_next 22 = .ok (.getfield 27, 3) := dk_180 0 27 (dk_at dksX3_next_1 0 rfl rfl)
theorem dX3_next_25 : decode cX3_next 25 = .ok (.baload, 1) := dk_51 (dk_at dksX3_next_1 3 rfl rfl)
theorem dX3_next_26 : decode cX3_next 26 = .ok (.goto 4, 3) := dk_167 0 4 (dk_at dksX3_next_1 4 rfl rfl)
theorem dX3_next_29 : decode cX3_next 29 = .ok (.iconst (-1), 1) := dk_2 (dk_at dksX3_next_1 7 rfl rfl)
theorem dX3_next_30 : decode cX3_next 30 = .ok (.ireturn, 1) := dk_172 (dk_at dksX3_next_1 8 rfl rfl)
abbrev cX3_read : ByteArray := prog_11_method_12_code
def yX3_read : MethodName := ⟨RX3, "read", "()Ljava/util/ArrayList;"⟩
def dkwX3_read_1 : List UInt8 := [182, 0, 100, 87, 167, 255, 230, 42, 180, 0, 20, 176]
abbrev dktX3_read_1 : List UInt8 := dkwX3_read_1 ++ []
def dkwX3_read_0 : List UInt8 := [42, 180, 0, 27, 42, 180, 0, 3, 180, 0, 31, 162, 0, 18, 42, 180, 0, 20, 42, 182, 0, 96]
abbrev dktX3_read_0 : List UInt8 := dkwX3_read_0 ++ dktX3_read_1
theorem dksX3_read_0 : cX3_read.data.toList.drop 0 = dktX3_read_0 := by decide +kernel
theorem dksX3_read_1 : cX3_read.data.toList.drop 22 = dktX3_read_1 := dk_seg dksX3_read_0 22 rfl rfl
theorem dX3_read_0 : decode cX3_read 0 = .ok (.aload_n 0, 1) := dk_42 (dk_at dksX3_read_0 0 rfl rfl)
theorem dX3_read_1 : decode cX3_read 1 = .ok (.getfield 27, 3) := dk_180 0 27 (dk_at dksX3_read_0 1 rfl rfl)
theorem dX3_read_4 : decode cX3_read 4 = .ok (.aload_n 0, 1) := dk_42 (dk_at dksX3_read_0 4 rfl rfl)
theorem dX3_read_5 : decode cX3_read 5 = .ok (.getfield 3, 3) := dk_180 0 3 (dk_at dksX3_read_0 5 rfl rfl)
theorem dX3_read_8 : decode cX3_read 8 = .ok (.getfield 31, 3) := dk_180 0 31 (dk_at dksX3_read_0 8 rfl rfl)
theorem dX3_read_11 : decode cX3_read 11 = .ok (.if_icmp .ge 18, 3) := dk_162 0 18 (dk_at dksX3_read_0 11 rfl rfl)
theorem dX3_read_14 : decode cX3_read 14 = .ok (.aload_n 0, 1) := dk_42 (dk_at dksX3_read_0 14 rfl rfl)
theorem dX3_read_15 : decode cX3_read 15 = .ok (.getfield 20, 3) := dk_180 0 20 (dk_at dksX3_read_0 15 rfl rfl)
theorem dX3_read_18 : decode cX3_read 18 = .ok (.aload_n 0, 1) := dk_42 (dk_at dksX3_read_0 18 rfl rfl)
theorem dX3_read_19 : decode cX3_read 19 = .ok (.invokevirtual 96, 3) := dk_182 0 96 (dk_at dksX3_read_0 19 rfl rfl)
theorem dX3_read_22 : decode cX3_read 22 = .ok (.invokevirtual 100, 3) := dk_182 0 100 (dk_at dksX3_read_1 0 rfl rfl)
theorem dX3_read_25 : decode cX3_read 25 = .ok (.pop, 1) := dk_87 (dk_at dksX3_read_1 3 rfl rfl)
theorem dX3_read_26 : decode cX3_read 26 = .ok (.goto (-26), 3) := dk_167 255 230 (dk_at dksX3_read_1 4 rfl rfl)
theorem dX3_read_29 : decode cX3_read 29 = .ok (.aload_n 0, 1) := dk_42 (dk_at dksX3_read_1 7 rfl rfl)
theorem dX3_read_30 : decode cX3_read 30 = .ok (.getfield 20, 3) := dk_180 0 20 (dk_at dksX3_read_1 8 rfl rfl)
theorem dX3_read_33 : decode cX3_read 33 = .ok (.areturn, 1) := dk_176 (dk_at dksX3_read_1 11 rfl rfl)
abbrev cX3_edge : ByteArray := prog_11_method_11_code
def yX3_edge : MethodName := ⟨RX3, "edge", "()LRatioGraph$Edge;"⟩
def dkwX3_edge_7 : List UInt8 := [182, 0, 90, 182, 0, 93, 58, 6, 42, 42, 16, 59, 182, 0, 77, 182, 0, 49, 25, 6, 176]
abbrev dktX3_edge_7 : List UInt8 := dkwX3_edge_7 ++ []
def dkwX3_edge_6 : List UInt8 := [153, 0, 32, 42, 182, 0, 90, 54, 7, 42, 42, 16, 47, 182, 0, 77, 182, 0, 49, 25, 6, 21, 7, 42]
abbrev dktX3_edge_6 : List UInt8 := dkwX3_edge_6 ++ dktX3_edge_7
def dkwX3_edge_5 : List UInt8 := [54, 5, 187, 0, 85, 89, 27, 28, 29, 21, 5, 21, 4, 183, 0, 87, 58, 6, 42, 16, 114, 182, 0, 77]
abbrev dktX3_edge_5 : List UInt8 := dkwX3_edge_5 ++ dktX3_edge_6
def dkwX3_edge_4 : List UInt8 := [182, 0, 77, 153, 0, 12, 42, 3, 182, 0, 81, 116, 167, 0, 12, 42, 3, 182, 0, 81, 167, 0, 4, 3]
abbrev dktX3_edge_4 : List UInt8 := dkwX3_edge_4 ++ dktX3_edge_5
def dkwX3_edge_3 : List UInt8 := [42, 4, 182, 0, 81, 167, 0, 4, 4, 54, 4, 42, 16, 115, 182, 0, 77, 153, 0, 29, 42, 16, 45]
abbrev dktX3_edge_3 : List UInt8 := dkwX3_edge_3 ++ dktX3_edge_4
def dkwX3_edge_2 : List UInt8 := [182, 0, 67, 116, 167, 0, 10, 42, 3, 16, 99, 182, 0, 67, 62, 42, 16, 116, 182, 0, 77, 153, 0, 11]
abbrev dktX3_edge_2 : List UInt8 := dkwX3_edge_2 ++ dktX3_edge_3
def dkwX3_edge_1 : List UInt8 := [182, 0, 74, 60, 42, 182, 0, 74, 61, 42, 16, 45, 182, 0, 77, 153, 0, 14, 42, 3, 16, 99]
abbrev dktX3_edge_1 : List UInt8 := dkwX3_edge_1 ++ dktX3_edge_2
def dkwX3_edge_0 : List UInt8 := [42, 42, 180, 0, 20, 182, 0, 71, 16, 16, 162, 0, 7, 4, 167, 0, 4, 3, 182, 0, 49, 42]
abbrev dktX3_edge_0 : List UInt8 := dkwX3_edge_0 ++ dktX3_edge_1
theorem dksX3_edge_0 : cX3_edge.data.toList.drop 0 = dktX3_edge_0 := by decide +kernel
theorem dksX3_edge_1 : cX3_edge.data.toList.drop 22 = dktX3_edge_1 := dk_seg dksX3_edge_0 22 rfl rfl
theorem dksX3_edge_2 : cX3_edge.data.toList.drop 44 = dktX3_edge_2 := dk_seg dksX3_edge_1 22 rfl rfl
theorem dksX3_edge_3 : cX3_edge.data.toList.drop 68 = dktX3_edge_3 := dk_seg dksX3_edge_2 24 rfl rfl
theorem dksX3_edge_4 : cX3_edge.data.toList.drop 91 = dktX3_edge_4 := dk_seg dksX3_edge_3 23 rfl rfl
theorem dksX3_edge_5 : cX3_edge.data.toList.drop 115 = dktX3_edge_5 := dk_seg dksX3_edge_4 24 rfl rfl
theorem dksX3_edge_6 : cX3_edge.data.toList.drop 139 = dktX3_edge_6 := dk_seg dksX3_edge_5 24 rfl rfl
theorem dksX3_edge_7 : cX3_edge.data.toList.drop 163 = dktX3_edge_7 := dk_seg dksX3_edge_6 24 rfl rfl
theorem dX3_edge_0 : decode cX3_edge 0 = .ok (.aload_n 0, 1) := dk_42 (dk_at dksX3_edge_0 0 rfl rfl)
theorem dX3_edge_1 : decode cX3_edge 1 = .ok (.aload_n 0, 1) := dk_42 (dk_at dksX3_edge_0 1 rfl rfl)
theorem dX3_edge_2 : decode cX3_edge 2 = .ok (.getfield 20, 3) := dk_180 0 20 (dk_at dksX3_edge_0 2 rfl rfl)
theorem dX3_edge_5 : decode cX3_edge 5 = .ok (.invokevirtual 71, 3) := dk_182 0 71 (dk_at dksX3_edge_0 5 rfl rfl)
theorem dX3_edge_8 : decode cX3_edge 8 = .ok (.bipush 16, 2) := dk_16 16 (dk_at dksX3_edge_0 8 rfl rfl)
theorem dX3_edge_10 : decode cX3_edge 10 = .ok (.if_icmp .ge 7, 3) := dk_162 0 7 (dk_at dksX3_edge_0 10 rfl rfl)
theorem dX3_edge_13 : decode cX3_edge 13 = .ok (.iconst 1, 1) := dk_4 (dk_at dksX3_edge_0 13 rfl rfl)
theorem dX3_edge_14 : decode cX3_edge 14 = .ok (.goto 4, 3) := dk_167 0 4 (dk_at dksX3_edge_0 14 rfl rfl)
theorem dX3_edge_17 : decode cX3_edge 17 = .ok (.iconst 0, 1) := dk_3 (dk_at dksX3_edge_0 17 rfl rfl)
theorem dX3_edge_18 : decode cX3_edge 18 = .ok (.invokevirtual 49, 3) := dk_182 0 49 (dk_at dksX3_edge_0 18 rfl rfl)
theorem dX3_edge_21 : decode cX3_edge 21 = .ok (.aload_n 0, 1) := dk_42 (dk_at dksX3_edge_0 21 rfl rfl)
theorem dX3_edge_22 : decode cX3_edge 22 = .ok (.invokevirtual 74, 3) := dk_182 0 74 (dk_at dksX3_edge_1 0 rfl rfl)
theorem dX3_edge_25 : decode cX3_edge 25 = .ok (.istore_n 1, 1) := dk_60 (dk_at dksX3_edge_1 3 rfl rfl)
theorem dX3_edge_26 : decode cX3_edge 26 = .ok (.aload_n 0, 1) := dk_42 (dk_at dksX3_edge_1 4 rfl rfl)
theorem dX3_edge_27 : decode cX3_edge 27 = .ok (.invokevirtual 74, 3) := dk_182 0 74 (dk_at dksX3_edge_1 5 rfl rfl)
theorem dX3_edge_30 : decode cX3_edge 30 = .ok (.istore_n 2, 1) := dk_61 (dk_at dksX3_edge_1 8 rfl rfl)
theorem dX3_edge_31 : decode cX3_edge 31 = .ok (.aload_n 0, 1) := dk_42 (dk_at dksX3_edge_1 9 rfl rfl)
theorem dX3_edge_32 : decode cX3_edge 32 = .ok (.bipush 45, 2) := dk_16 45 (dk_at dksX3_edge_1 10 rfl rfl)
theorem dX3_edge_34 : decode cX3_edge 34 = .ok (.invokevirtual 77, 3) := dk_182 0 77 (dk_at dksX3_edge_1 12 rfl rfl)
theorem dX3_edge_37 : decode cX3_edge 37 = .ok (.ifCond .eq 14, 3) := dk_153 0 14 (dk_at dksX3_edge_1 15 rfl rfl)
theorem dX3_edge_40 : decode cX3_edge 40 = .ok (.aload_n 0, 1) := dk_42 (dk_at dksX3_edge_1 18 rfl rfl)
theorem dX3_edge_41 : decode cX3_edge 41 = .ok (.iconst 0, 1) := dk_3 (dk_at dksX3_edge_1 19 rfl rfl)
theorem dX3_edge_42 : decode cX3_edge 42 = .ok (.bipush 99, 2) := dk_16 99 (dk_at dksX3_edge_1 20 rfl rfl)
theorem dX3_edge_44 : decode cX3_edge 44 = .ok (.invokevirtual 67, 3) := dk_182 0 67 (dk_at dksX3_edge_2 0 rfl rfl)
theorem dX3_edge_47 : decode cX3_edge 47 = .ok (.ineg, 1) := dk_116 (dk_at dksX3_edge_2 3 rfl rfl)
theorem dX3_edge_48 : decode cX3_edge 48 = .ok (.goto 10, 3) := dk_167 0 10 (dk_at dksX3_edge_2 4 rfl rfl)
theorem dX3_edge_51 : decode cX3_edge 51 = .ok (.aload_n 0, 1) := dk_42 (dk_at dksX3_edge_2 7 rfl rfl)
theorem dX3_edge_52 : decode cX3_edge 52 = .ok (.iconst 0, 1) := dk_3 (dk_at dksX3_edge_2 8 rfl rfl)
theorem dX3_edge_53 : decode cX3_edge 53 = .ok (.bipush 99, 2) := dk_16 99 (dk_at dksX3_edge_2 9 rfl rfl)
theorem dX3_edge_55 : decode cX3_edge 55 = .ok (.invokevirtual 67, 3) := dk_182 0 67 (dk_at dksX3_edge_2 11 rfl rfl)
theorem dX3_edge_58 : decode cX3_edge 58 = .ok (.istore_n 3, 1) := dk_62 (dk_at dksX3_edge_2 14 rfl rfl)
theorem dX3_edge_59 : decode cX3_edge 59 = .ok (.aload_n 0, 1) := dk_42 (dk_at dksX3_edge_2 15 rfl rfl)
theorem dX3_edge_60 : decode cX3_edge 60 = .ok (.bipush 116, 2) := dk_16 116 (dk_at dksX3_edge_2 16 rfl rfl)
theorem dX3_edge_62 : decode cX3_edge 62 = .ok (.invokevirtual 77, 3) := dk_182 0 77 (dk_at dksX3_edge_2 18 rfl rfl)
theorem dX3_edge_65 : decode cX3_edge 65 = .ok (.ifCond .eq 11, 3) := dk_153 0 11 (dk_at dksX3_edge_2 21 rfl rfl)
theorem dX3_edge_68 : decode cX3_edge 68 = .ok (.aload_n 0, 1) := dk_42 (dk_at dksX3_edge_3 0 rfl rfl)
theorem dX3_edge_69 : decode cX3_edge 69 = .ok (.iconst 1, 1) := dk_4 (dk_at dksX3_edge_3 1 rfl rfl)
theorem dX3_edge_70 : decode cX3_edge 70 = .ok (.invokevirtual 81, 3) := dk_182 0 81 (dk_at dksX3_edge_3 2 rfl rfl)
theorem dX3_edge_73 : decode cX3_edge 73 = .ok (.goto 4, 3) := dk_167 0 4 (dk_at dksX3_edge_3 5 rfl rfl)
theorem dX3_edge_76 : decode cX3_edge 76 = .ok (.iconst 1, 1) := dk_4 (dk_at dksX3_edge_3 8 rfl rfl)
theorem dX3_edge_77 : decode cX3_edge 77 = .ok (.istore 4, 2) := dk_54 4 (dk_at dksX3_edge_3 9 rfl rfl)
theorem dX3_edge_79 : decode cX3_edge 79 = .ok (.aload_n 0, 1) := dk_42 (dk_at dksX3_edge_3 11 rfl rfl)
theorem dX3_edge_80 : decode cX3_edge 80 = .ok (.bipush 115, 2) := dk_16 115 (dk_at dksX3_edge_3 12 rfl rfl)
theorem dX3_edge_82 : decode cX3_edge 82 = .ok (.invokevirtual 77, 3) := dk_182 0 77 (dk_at dksX3_edge_3 14 rfl rfl)
theorem dX3_edge_85 : decode cX3_edge 85 = .ok (.ifCond .eq 29, 3) := dk_153 0 29 (dk_at dksX3_edge_3 17 rfl rfl)
theorem dX3_edge_88 : decode cX3_edge 88 = .ok (.aload_n 0, 1) := dk_42 (dk_at dksX3_edge_3 20 rfl rfl)
theorem dX3_edge_89 : decode cX3_edge 89 = .ok (.bipush 45, 2) := dk_16 45 (dk_at dksX3_edge_3 21 rfl rfl)
theorem dX3_edge_91 : decode cX3_edge 91 = .ok (.invokevirtual 77, 3) := dk_182 0 77 (dk_at dksX3_edge_4 0 rfl rfl)
theorem dX3_edge_94 : decode cX3_edge 94 = .ok (.ifCond .eq 12, 3) := dk_153 0 12 (dk_at dksX3_edge_4 3 rfl rfl)
theorem dX3_edge_97 : decode cX3_edge 97 = .ok (.aload_n 0, 1) := dk_42 (dk_at dksX3_edge_4 6 rfl rfl)
theorem dX3_edge_98 : decode cX3_edge 98 = .ok (.iconst 0, 1) := dk_3 (dk_at dksX3_edge_4 7 rfl rfl)
theorem dX3_edge_99 : decode cX3_edge 99 = .ok (.invokevirtual 81, 3) := dk_182 0 81 (dk_at dksX3_edge_4 8 rfl rfl)
theorem dX3_edge_102 : decode cX3_edge 102 = .ok (.ineg, 1) := dk_116 (dk_at dksX3_edge_4 11 rfl rfl)
theorem dX3_edge_103 : decode cX3_edge 103 = .ok (.goto 12, 3) := dk_167 0 12 (dk_at dksX3_edge_4 12 rfl rfl)
theorem dX3_edge_106 : decode cX3_edge 106 = .ok (.aload_n 0, 1) := dk_42 (dk_at dksX3_edge_4 15 rfl rfl)
theorem dX3_edge_107 : decode cX3_edge 107 = .ok (.iconst 0, 1) := dk_3 (dk_at dksX3_edge_4 16 rfl rfl)
theorem dX3_edge_108 : decode cX3_edge 108 = .ok (.invokevirtual 81, 3) := dk_182 0 81 (dk_at dksX3_edge_4 17 rfl rfl)
theorem dX3_edge_111 : decode cX3_edge 111 = .ok (.goto 4, 3) := dk_167 0 4 (dk_at dksX3_edge_4 20 rfl rfl)
theorem dX3_edge_114 : decode cX3_edge 114 = .ok (.iconst 0, 1) := dk_3 (dk_at dksX3_edge_4 23 rfl rfl)
theorem dX3_edge_115 : decode cX3_edge 115 = .ok (.istore 5, 2) := dk_54 5 (dk_at dksX3_edge_5 0 rfl rfl)
theorem dX3_edge_117 : decode cX3_edge 117 = .ok (.new 85, 3) := dk_187 0 85 (dk_at dksX3_edge_5 2 rfl rfl)
theorem dX3_edge_120 : decode cX3_edge 120 = .ok (.dup, 1) := dk_89 (dk_at dksX3_edge_5 5 rfl rfl)
theorem dX3_edge_121 : decode cX3_edge 121 = .ok (.iload_n 1, 1) := dk_27 (dk_at dksX3_edge_5 6 rfl rfl)
theorem dX3_edge_122 : decode cX3_edge 122 = .ok (.iload_n 2, 1) := dk_28 (dk_at dksX3_edge_5 7 rfl rfl)
theorem dX3_edge_123 : decode cX3_edge 123 = .ok (.iload_n 3, 1) := dk_29 (dk_at dksX3_edge_5 8 rfl rfl)
theorem dX3_edge_124 : decode cX3_edge 124 = .ok (.iload 5, 2) := dk_21 5 (dk_at dksX3_edge_5 9 rfl rfl)
theorem dX3_edge_126 : decode cX3_edge 126 = .ok (.iload 4, 2) := dk_21 4 (dk_at dksX3_edge_5 11 rfl rfl)
theorem dX3_edge_128 : decode cX3_edge 128 = .ok (.invokespecial 87, 3) := dk_183 0 87 (dk_at dksX3_edge_5 13 rfl rfl)
theorem dX3_edge_131 : decode cX3_edge 131 = .ok (.astore 6, 2) := dk_58 6 (dk_at dksX3_edge_5 16 rfl rfl)
theorem dX3_edge_133 : decode cX3_edge 133 = .ok (.aload_n 0, 1) := dk_42 (dk_at dksX3_edge_5 18 rfl rfl)
theorem dX3_edge_134 : decode cX3_edge 134 = .ok (.bipush 114, 2) := dk_16 114 (dk_at dksX3_edge_5 19 rfl rfl)
theorem dX3_edge_136 : decode cX3_edge 136 = .ok (.invokevirtual 77, 3) := dk_182 0 77 (dk_at dksX3_edge_5 21 rfl rfl)
theorem dX3_edge_139 : decode cX3_edge 139 = .ok (.ifCond .eq 32, 3) := dk_153 0 32 (dk_at dksX3_edge_6 0 rfl rfl)
theorem dX3_edge_142 : decode cX3_edge 142 = .ok (.aload_n 0, 1) := dk_42 (dk_at dksX3_edge_6 3 rfl rfl)
theorem dX3_edge_143 : decode cX3_edge 143 = .ok (.invokevirtual 90, 3) := dk_182 0 90 (dk_at dksX3_edge_6 4 rfl rfl)
theorem dX3_edge_146 : decode cX3_edge 146 = .ok (.istore 7, 2) := dk_54 7 (dk_at dksX3_edge_6 7 rfl rfl)
theorem dX3_edge_148 : decode cX3_edge 148 = .ok (.aload_n 0, 1) := dk_42 (dk_at dksX3_edge_6 9 rfl rfl)
theorem dX3_edge_149 : decode cX3_edge 149 = .ok (.aload_n 0, 1) := dk_42 (dk_at dksX3_edge_6 10 rfl rfl)
theorem dX3_edge_150 : decode cX3_edge 150 = .ok (.bipush 47, 2) := dk_16 47 (dk_at dksX3_edge_6 11 rfl rfl)
theorem dX3_edge_152 : decode cX3_edge 152 = .ok (.invokevirtual 77, 3) := dk_182 0 77 (dk_at dksX3_edge_6 13 rfl rfl)
theorem dX3_edge_155 : decode cX3_edge 155 = .ok (.invokevirtual 49, 3) := dk_182 0 49 (dk_at dksX3_edge_6 16 rfl rfl)
theorem dX3_edge_158 : decode cX3_edge 158 = .ok (.aload 6, 2) := dk_25 6 (dk_at dksX3_edge_6 19 rfl rfl)
theorem dX3_edge_160 : decode cX3_edge 160 = .ok (.iload 7, 2) := dk_21 7 (dk_at dksX3_edge_6 21 rfl rfl)
theorem dX3_edge_162 : decode cX3_edge 162 = .ok (.aload_n 0, 1) := dk_42 (dk_at dksX3_edge_6 23 rfl rfl)
theorem dX3_edge_163 : decode cX3_edge 163 = .ok (.invokevirtual 90, 3) := dk_182 0 90 (dk_at dksX3_edge_7 0 rfl rfl)
theorem dX3_edge_166 : decode cX3_edge 166 = .ok (.invokevirtual 93, 3) := dk_182 0 93 (dk_at dksX3_edge_7 3 rfl rfl)
theorem dX3_edge_169 : decode cX3_edge 169 = .ok (.astore 6, 2) := dk_58 6 (dk_at dksX3_edge_7 6 rfl rfl)
theorem dX3_edge_171 : decode cX3_edge 171 = .ok (.aload_n 0, 1) := dk_42 (dk_at dksX3_edge_7 8 rfl rfl)
theorem dX3_edge_172 : decode cX3_edge 172 = .ok (.aload_n 0, 1) := dk_42 (dk_at dksX3_edge_7 9 rfl rfl)
theorem dX3_edge_173 : decode cX3_edge 173 = .ok (.bipush 59, 2) := dk_16 59 (dk_at dksX3_edge_7 10 rfl rfl)
theorem dX3_edge_175 : decode cX3_edge 175 = .ok (.invokevirtual 77, 3) := dk_182 0 77 (dk_at dksX3_edge_7 12 rfl rfl)
theorem dX3_edge_178 : decode cX3_edge 178 = .ok (.invokevirtual 49, 3) := dk_182 0 49 (dk_at dksX3_edge_7 15 rfl rfl)
theorem dX3_edge_181 : decode cX3_edge 181 = .ok (.aload 6, 2) := dk_25 6 (dk_at dksX3_edge_7 18 rfl rfl)
theorem dX3_edge_183 : decode cX3_edge 183 = .ok (.areturn, 1) := dk_176 (dk_at dksX3_edge_7 20 rfl rfl)
abbrev cX3_expect : ByteArray := prog_11_method_4_code
def yX3_expect : MethodName := ⟨RX3, "expect", "(Z)V"⟩
def dkwX3_expect_0 : List UInt8 := [27, 154, 0, 15, 187, 0, 42, 89, 42, 180, 0, 27, 183, 0, 44, 191, 177]
abbrev dktX3_expect_0 : List UInt8 := dkwX3_expect_0 ++ []
theorem dksX3_expect_0 : cX3_expect.data.toList.drop 0 = dktX3_expect_0 := by decide +kernel
theorem dX3_expect_0 : decode cX3_expect 0 = .ok (.iload_n 1, 1) := dk_27 (dk_at dksX3_expect_0 0 rfl rfl)
theorem dX3_expect_1 : decode cX3_expect 1 = .ok (.ifCond .ne 15, 3) := dk_154 0 15 (dk_at dksX3_expect_0 1 rfl rfl)
theorem dX3_expect_4 : decode cX3_expect 4 = .ok (.new 42, 3) := dk_187 0 42 (dk_at dksX3_expect_0 4 rfl rfl)
theorem dX3_expect_7 : decode cX3_expect 7 = .ok (.dup, 1) := dk_89 (dk_at dksX3_expect_0 7 rfl rfl)
theorem dX3_expect_8 : decode cX3_expect 8 = .ok (.aload_n 0, 1) := dk_42 (dk_at dksX3_expect_0 8 rfl rfl)
theorem dX3_expect_9 : decode cX3_expect 9 = .ok (.getfield 27, 3) := dk_180 0 27 (dk_at dksX3_expect_0 9 rfl rfl)
theorem dX3_expect_12 : decode cX3_expect 12 = .ok (.invokespecial 44, 3) := dk_183 0 44 (dk_at dksX3_expect_0 12 rfl rfl)
theorem dX3_expect_15 : decode cX3_expect 15 = .ok (.athrow, 1) := dk_191 (dk_at dksX3_expect_0 15 rfl rfl)
theorem dX3_expect_16 : decode cX3_expect 16 = .ok (.return_, 1) := dk_177 (dk_at dksX3_expect_0 16 rfl rfl)
abbrev cX3_node : ByteArray := prog_11_method_6_code
def yX3_node : MethodName := ⟨RX3, "node", "()I"⟩
def dkwX3_node_1 : List UInt8 := [180, 0, 27, 4, 96, 181, 0, 27, 42, 182, 0, 24, 27, 172]
abbrev dktX3_node_1 : List UInt8 := dkwX3_node_1 ++ []
def dkwX3_node_0 : List UInt8 := [42, 182, 0, 38, 16, 97, 100, 60, 42, 4, 188, 10, 89, 3, 27, 79, 184, 0, 45, 182, 0, 49, 42, 89]
abbrev dktX3_node_0 : List UInt8 := dkwX3_node_0 ++ dktX3_node_1
theorem dksX3_node_0 : cX3_node.data.toList.drop 0 = dktX3_node_0 := by decide +kernel
theorem dksX3_node_1 : cX3_node.data.toList.drop 24 = dktX3_node_1 := dk_seg dksX3_node_0 24 rfl rfl
theorem dX3_node_0 : decode cX3_node 0 = .ok (.aload_n 0, 1) := dk_42 (dk_at dksX3_node_0 0 rfl rfl)
theorem dX3_node_1 : decode cX3_node 1 = .ok (.invokevirtual 38, 3) := dk_182 0 38 (dk_at dksX3_node_0 1 rfl rfl)
theorem dX3_node_4 : decode cX3_node 4 = .ok (.bipush 97, 2) := dk_16 97 (dk_at dksX3_node_0 4 rfl rfl)
theorem dX3_node_6 : decode cX3_node 6 = .ok (.isub, 1) := dk_100 (dk_at dksX3_node_0 6 rfl rfl)
theorem dX3_node_7 : decode cX3_node 7 = .ok (.istore_n 1, 1) := dk_60 (dk_at dksX3_node_0 7 rfl rfl)
theorem dX3_node_8 : decode cX3_node 8 = .ok (.aload_n 0, 1) := dk_42 (dk_at dksX3_node_0 8 rfl rfl)
theorem dX3_node_9 : decode cX3_node 9 = .ok (.iconst 1, 1) := dk_4 (dk_at dksX3_node_0 9 rfl rfl)
theorem dX3_node_10 : decode cX3_node 10 = .ok (.newarray .int, 2) := dk_188_10 (dk_at dksX3_node_0 10 rfl rfl)
theorem dX3_node_12 : decode cX3_node 12 = .ok (.dup, 1) := dk_89 (dk_at dksX3_node_0 12 rfl rfl)
theorem dX3_node_13 : decode cX3_node 13 = .ok (.iconst 0, 1) := dk_3 (dk_at dksX3_node_0 13 rfl rfl)
theorem dX3_node_14 : decode cX3_node 14 = .ok (.iload_n 1, 1) := dk_27 (dk_at dksX3_node_0 14 rfl rfl)
theorem dX3_node_15 : decode cX3_node 15 = .ok (.iastore, 1) := dk_79 (dk_at dksX3_node_0 15 rfl rfl)
theorem dX3_node_16 : decode cX3_node 16 = .ok (.invokestatic 45, 3) := dk_184 0 45 (dk_at dksX3_node_0 16 rfl rfl)
theorem dX3_node_19 : decode cX3_node 19 = .ok (.invokevirtual 49, 3) := dk_182 0 49 (dk_at dksX3_node_0 19 rfl rfl)
theorem dX3_node_22 : decode cX3_node 22 = .ok (.aload_n 0, 1) := dk_42 (dk_at dksX3_node_0 22 rfl rfl)
theorem dX3_node_23 : decode cX3_node 23 = .ok (.dup, 1) := dk_89 (dk_at dksX3_node_0 23 rfl rfl)
theorem dX3_node_24 : decode cX3_node 24 = .ok (.getfield 27, 3) := dk_180 0 27 (dk_at dksX3_node_1 0 rfl rfl)
theorem dX3_node_27 : decode cX3_node 27 = .ok (.iconst 1, 1) := dk_4 (dk_at dksX3_node_1 3 rfl rfl)
theorem dX3_node_28 : decode cX3_node 28 = .ok (.iadd, 1) := dk_96 (dk_at dksX3_node_1 4 rfl rfl)
theorem dX3_node_29 : decode cX3_node 29 = .ok (.putfield 27, 3) := dk_181 0 27 (dk_at dksX3_node_1 5 rfl rfl)
theorem dX3_node_32 : decode cX3_node 32 = .ok (.aload_n 0, 1) := dk_42 (dk_at dksX3_node_1 8 rfl rfl)
theorem dX3_node_33 : decode cX3_node 33 = .ok (.invokevirtual 24, 3) := dk_182 0 24 (dk_at dksX3_node_1 9 rfl rfl)
theorem dX3_node_36 : decode cX3_node 36 = .ok (.iload_n 1, 1) := dk_27 (dk_at dksX3_node_1 12 rfl rfl)
theorem dX3_node_37 : decode cX3_node 37 = .ok (.ireturn, 1) := dk_172 (dk_at dksX3_node_1 13 rfl rfl)
abbrev cX3_takes : ByteArray := prog_11_method_5_code
def yX3_takes : MethodName := ⟨RX3, "takes", "(I)Z"⟩
def dkwX3_takes_1 : List UInt8 := [96, 181, 0, 27, 42, 182, 0, 24, 28, 172]
abbrev dktX3_takes_1 : List UInt8 := dkwX3_takes_1 ++ []
def dkwX3_takes_0 : List UInt8 := [42, 182, 0, 38, 27, 160, 0, 7, 4, 167, 0, 4, 3, 61, 28, 153, 0, 17, 42, 89, 180, 0, 27, 4]
abbrev dktX3_takes_0 : List UInt8 := dkwX3_takes_0 ++ dktX3_takes_1
theorem dksX3_takes_0 : cX3_takes.data.toList.drop 0 = dktX3_takes_0 := by decide +kernel
theorem dksX3_takes_1 : cX3_takes.data.toList.drop 24 = dktX3_takes_1 := dk_seg dksX3_takes_0 24 rfl rfl
theorem dX3_takes_0 : decode cX3_takes 0 = .ok (.aload_n 0, 1) := dk_42 (dk_at dksX3_takes_0 0 rfl rfl)
theorem dX3_takes_1 : decode cX3_takes 1 = .ok (.invokevirtual 38, 3) := dk_182 0 38 (dk_at dksX3_takes_0 1 rfl rfl)
theorem dX3_takes_4 : decode cX3_takes 4 = .ok (.iload_n 1, 1) := dk_27 (dk_at dksX3_takes_0 4 rfl rfl)
theorem dX3_takes_5 : decode cX3_takes 5 = .ok (.if_icmp .ne 7, 3) := dk_160 0 7 (dk_at dksX3_takes_0 5 rfl rfl)
theorem dX3_takes_8 : decode cX3_takes 8 = .ok (.iconst 1, 1) := dk_4 (dk_at dksX3_takes_0 8 rfl rfl)
theorem dX3_takes_9 : decode cX3_takes 9 = .ok (.goto 4, 3) := dk_167 0 4 (dk_at dksX3_takes_0 9 rfl rfl)
theorem dX3_takes_12 : decode cX3_takes 12 = .ok (.iconst 0, 1) := dk_3 (dk_at dksX3_takes_0 12 rfl rfl)
theorem dX3_takes_13 : decode cX3_takes 13 = .ok (.istore_n 2, 1) := dk_61 (dk_at dksX3_takes_0 13 rfl rfl)
theorem dX3_takes_14 : decode cX3_takes 14 = .ok (.iload_n 2, 1) := dk_28 (dk_at dksX3_takes_0 14 rfl rfl)
theorem dX3_takes_15 : decode cX3_takes 15 = .ok (.ifCond .eq 17, 3) := dk_153 0 17 (dk_at dksX3_takes_0 15 rfl rfl)
theorem dX3_takes_18 : decode cX3_takes 18 = .ok (.aload_n 0, 1) := dk_42 (dk_at dksX3_takes_0 18 rfl rfl)
theorem dX3_takes_19 : decode cX3_takes 19 = .ok (.dup, 1) := dk_89 (dk_at dksX3_takes_0 19 rfl rfl)
theorem dX3_takes_20 : decode cX3_takes 20 = .ok (.getfield 27, 3) := dk_180 0 27 (dk_at dksX3_takes_0 20 rfl rfl)
theorem dX3_takes_23 : decode cX3_takes 23 = .ok (.iconst 1, 1) := dk_4 (dk_at dksX3_takes_0 23 rfl rfl)
theorem dX3_takes_24 : decode cX3_takes 24 = .ok (.iadd, 1) := dk_96 (dk_at dksX3_takes_1 0 rfl rfl)
theorem dX3_takes_25 : decode cX3_takes 25 = .ok (.putfield 27, 3) := dk_181 0 27 (dk_at dksX3_takes_1 1 rfl rfl)
theorem dX3_takes_28 : decode cX3_takes 28 = .ok (.aload_n 0, 1) := dk_42 (dk_at dksX3_takes_1 4 rfl rfl)
theorem dX3_takes_29 : decode cX3_takes 29 = .ok (.invokevirtual 24, 3) := dk_182 0 24 (dk_at dksX3_takes_1 5 rfl rfl)
theorem dX3_takes_32 : decode cX3_takes 32 = .ok (.iload_n 2, 1) := dk_28 (dk_at dksX3_takes_1 8 rfl rfl)
theorem dX3_takes_33 : decode cX3_takes 33 = .ok (.ireturn, 1) := dk_172 (dk_at dksX3_takes_1 9 rfl rfl)
abbrev cX3_number : ByteArray := prog_11_method_8_code
def yX3_number : MethodName := ⟨RX3, "number", "(II)I"⟩
def dkwX3_number_4 : List UInt8 := [167, 0, 4, 3, 182, 0, 49, 42, 182, 0, 24, 21, 4, 172]
abbrev dktX3_number_4 : List UInt8 := dkwX3_number_4 ++ []
def dkwX3_number_3 : List UInt8 := [184, 0, 57, 154, 0, 12, 187, 0, 42, 89, 29, 183, 0, 44, 191, 42, 42, 182, 0, 61, 154, 0, 7, 4]
abbrev dktX3_number_3 : List UInt8 := dkwX3_number_3 ++ dktX3_number_4
def dkwX3_number_2 : List UInt8 := [96, 16, 48, 100, 54, 4, 42, 89, 180, 0, 27, 4, 96, 181, 0, 27, 21, 4, 133, 27, 133, 28, 133]
abbrev dktX3_number_2 : List UInt8 := dkwX3_number_2 ++ dktX3_number_3
def dkwX3_number_1 : List UInt8 := [180, 0, 27, 4, 96, 181, 0, 27, 42, 182, 0, 61, 153, 0, 28, 16, 10, 21, 4, 104, 42, 182, 0, 38]
abbrev dktX3_number_1 : List UInt8 := dkwX3_number_1 ++ dktX3_number_2
def dkwX3_number_0 : List UInt8 := [42, 180, 0, 27, 62, 42, 42, 182, 0, 61, 182, 0, 49, 42, 182, 0, 38, 16, 48, 100, 54, 4, 42, 89]
abbrev dktX3_number_0 : List UInt8 := dkwX3_number_0 ++ dktX3_number_1
theorem dksX3_number_0 : cX3_number.data.toList.drop 0 = dktX3_number_0 := by decide +kernel
theorem dksX3_number_1 : cX3_number.data.toList.drop 24 = dktX3_number_1 := dk_seg dksX3_number_0 24 rfl rfl
theorem dksX3_number_2 : cX3_number.data.toList.drop 48 = dktX3_number_2 := dk_seg dksX3_number_1 24 rfl rfl
theorem dksX3_number_3 : cX3_number.data.toList.drop 71 = dktX3_number_3 := dk_seg dksX3_number_2 23 rfl rfl
theorem dksX3_number_4 : cX3_number.data.toList.drop 95 = dktX3_number_4 := dk_seg dksX3_number_3 24 rfl rfl
theorem dX3_number_0 : decode cX3_number 0 = .ok (.aload_n 0, 1) := dk_42 (dk_at dksX3_number_0 0 rfl rfl)
theorem dX3_number_1 : decode cX3_number 1 = .ok (.getfield 27, 3) := dk_180 0 27 (dk_at dksX3_number_0 1 rfl rfl)
theorem dX3_number_4 : decode cX3_number 4 = .ok (.istore_n 3, 1) := dk_62 (dk_at dksX3_number_0 4 rfl rfl)
theorem dX3_number_5 : decode cX3_number 5 = .ok (.aload_n 0, 1) := dk_42 (dk_at dksX3_number_0 5 rfl rfl)
theorem dX3_number_6 : decode cX3_number 6 = .ok (.aload_n 0, 1) := dk_42 (dk_at dksX3_number_0 6 rfl rfl)
theorem dX3_number_7 : decode cX3_number 7 = .ok (.invokevirtual 61, 3) := dk_182 0 61 (dk_at dksX3_number_0 7 rfl rfl)
theorem dX3_number_10 : decode cX3_number 10 = .ok (.invokevirtual 49, 3) := dk_182 0 49 (dk_at dksX3_number_0 10 rfl rfl)
theorem dX3_number_13 : decode cX3_number 13 = .ok (.aload_n 0, 1) := dk_42 (dk_at dksX3_number_0 13 rfl rfl)
theorem dX3_number_14 : decode cX3_number 14 = .ok (.invokevirtual 38, 3) := dk_182 0 38 (dk_at dksX3_number_0 14 rfl rfl)
theorem dX3_number_17 : decode cX3_number 17 = .ok (.bipush 48, 2) := dk_16 48 (dk_at dksX3_number_0 17 rfl rfl)
theorem dX3_number_19 : decode cX3_number 19 = .ok (.isub, 1) := dk_100 (dk_at dksX3_number_0 19 rfl rfl)
theorem dX3_number_20 : decode cX3_number 20 = .ok (.istore 4, 2) := dk_54 4 (dk_at dksX3_number_0 20 rfl rfl)
theorem dX3_number_22 : decode cX3_number 22 = .ok (.aload_n 0, 1) := dk_42 (dk_at dksX3_number_0 22 rfl rfl)
theorem dX3_number_23 : decode cX3_number 23 = .ok (.dup, 1) := dk_89 (dk_at dksX3_number_0 23 rfl rfl)
theorem dX3_number_24 : decode cX3_number 24 = .ok (.getfield 27, 3) := dk_180 0 27 (dk_at dksX3_number_1 0 rfl rfl)
theorem dX3_number_27 : decode cX3_number 27 = .ok (.iconst 1, 1) := dk_4 (dk_at dksX3_number_1 3 rfl rfl)
theorem dX3_number_28 : decode cX3_number 28 = .ok (.iadd, 1) := dk_96 (dk_at dksX3_number_1 4 rfl rfl)
theorem dX3_number_29 : decode cX3_number 29 = .ok (.putfield 27, 3) := dk_181 0 27 (dk_at dksX3_number_1 5 rfl rfl)
theorem dX3_number_32 : decode cX3_number 32 = .ok (.aload_n 0, 1) := dk_42 (dk_at dksX3_number_1 8 rfl rfl)
theorem dX3_number_33 : decode cX3_number 33 = .ok (.invokevirtual 61, 3) := dk_182 0 61 (dk_at dksX3_number_1 9 rfl rfl)
theorem dX3_number_36 : decode cX3_number 36 = .ok (.ifCond .eq 28, 3) := dk_153 0 28 (dk_at dksX3_number_1 12 rfl rfl)
theorem dX3_number_39 : decode cX3_number 39 = .ok (.bipush 10, 2) := dk_16 10 (dk_at dksX3_number_1 15 rfl rfl)
theorem dX3_number_41 : decode cX3_number 41 = .ok (.iload 4, 2) := dk_21 4 (dk_at dksX3_number_1 17 rfl rfl)
theorem dX3_number_43 : decode cX3_number 43 = .ok (.imul, 1) := dk_104 (dk_at dksX3_number_1 19 rfl rfl)
theorem dX3_number_44 : decode cX3_number 44 = .ok (.aload_n 0, 1) := dk_42 (dk_at dksX3_number_1 20 rfl rfl)
theorem dX3_number_45 : decode cX3_number 45 = .ok (.invokevirtual 38, 3) := dk_182 0 38 (dk_at dksX3_number_1 21 rfl rfl)
theorem dX3_number_48 : decode cX3_number 48 = .ok (.iadd, 1) := dk_96 (dk_at dksX3_number_2 0 rfl rfl)
theorem dX3_number_49 : decode cX3_number 49 = .ok (.bipush 48, 2) := dk_16 48 (dk_at dksX3_number_2 1 rfl rfl)
theorem dX3_number_51 : decode cX3_number 51 = .ok (.isub, 1) := dk_100 (dk_at dksX3_number_2 3 rfl rfl)
theorem dX3_number_52 : decode cX3_number 52 = .ok (.istore 4, 2) := dk_54 4 (dk_at dksX3_number_2 4 rfl rfl)
theorem dX3_number_54 : decode cX3_number 54 = .ok (.aload_n 0, 1) := dk_42 (dk_at dksX3_number_2 6 rfl rfl)
theorem dX3_number_55 : decode cX3_number 55 = .ok (.dup, 1) := dk_89 (dk_at dksX3_number_2 7 rfl rfl)
theorem dX3_number_56 : decode cX3_number 56 = .ok (.getfield 27, 3) := dk_180 0 27 (dk_at dksX3_number_2 8 rfl rfl)
theorem dX3_number_59 : decode cX3_number 59 = .ok (.iconst 1, 1) := dk_4 (dk_at dksX3_number_2 11 rfl rfl)
theorem dX3_number_60 : decode cX3_number 60 = .ok (.iadd, 1) := dk_96 (dk_at dksX3_number_2 12 rfl rfl)
theorem dX3_number_61 : decode cX3_number 61 = .ok (.putfield 27, 3) := dk_181 0 27 (dk_at dksX3_number_2 13 rfl rfl)
theorem dX3_number_64 : decode cX3_number 64 = .ok (.iload 4, 2) := dk_21 4 (dk_at dksX3_number_2 16 rfl rfl)
theorem dX3_number_66 : decode cX3_number 66 = .ok (.i2l, 1) := dk_133 (dk_at dksX3_number_2 18 rfl rfl)
theorem dX3_number_67 : decode cX3_number 67 = .ok (.iload_n 1, 1) := dk_27 (dk_at dksX3_number_2 19 rfl rfl)
theorem dX3_number_68 : decode cX3_number 68 = .ok (.i2l, 1) := dk_133 (dk_at dksX3_number_2 20 rfl rfl)
theorem dX3_number_69 : decode cX3_number 69 = .ok (.iload_n 2, 1) := dk_28 (dk_at dksX3_number_2 21 rfl rfl)
theorem dX3_number_70 : decode cX3_number 70 = .ok (.i2l, 1) := dk_133 (dk_at dksX3_number_2 22 rfl rfl)
theorem dX3_number_71 : decode cX3_number 71 = .ok (.invokestatic 57, 3) := dk_184 0 57 (dk_at dksX3_number_3 0 rfl rfl)
theorem dX3_number_74 : decode cX3_number 74 = .ok (.ifCond .ne 12, 3) := dk_154 0 12 (dk_at dksX3_number_3 3 rfl rfl)
theorem dX3_number_77 : decode cX3_number 77 = .ok (.new 42, 3) := dk_187 0 42 (dk_at dksX3_number_3 6 rfl rfl)
theorem dX3_number_80 : decode cX3_number 80 = .ok (.dup, 1) := dk_89 (dk_at dksX3_number_3 9 rfl rfl)
theorem dX3_number_81 : decode cX3_number 81 = .ok (.iload_n 3, 1) := dk_29 (dk_at dksX3_number_3 10 rfl rfl)
theorem dX3_number_82 : decode cX3_number 82 = .ok (.invokespecial 44, 3) := dk_183 0 44 (dk_at dksX3_number_3 11 rfl rfl)
theorem dX3_number_85 : decode cX3_number 85 = .ok (.athrow, 1) := dk_191 (dk_at dksX3_number_3 14 rfl rfl)
theorem dX3_number_86 : decode cX3_number 86 = .ok (.aload_n 0, 1) := dk_42 (dk_at dksX3_number_3 15 rfl rfl)
theorem dX3_number_87 : decode cX3_number 87 = .ok (.aload_n 0, 1) := dk_42 (dk_at dksX3_number_3 16 rfl rfl)
theorem dX3_number_88 : decode cX3_number 88 = .ok (.invokevirtual 61, 3) := dk_182 0 61 (dk_at dksX3_number_3 17 rfl rfl)
theorem dX3_number_91 : decode cX3_number 91 = .ok (.ifCond .ne 7, 3) := dk_154 0 7 (dk_at dksX3_number_3 20 rfl rfl)
theorem dX3_number_94 : decode cX3_number 94 = .ok (.iconst 1, 1) := dk_4 (dk_at dksX3_number_3 23 rfl rfl)
theorem dX3_number_95 : decode cX3_number 95 = .ok (.goto 4, 3) := dk_167 0 4 (dk_at dksX3_number_4 0 rfl rfl)
theorem dX3_number_98 : decode cX3_number 98 = .ok (.iconst 0, 1) := dk_3 (dk_at dksX3_number_4 3 rfl rfl)
theorem dX3_number_99 : decode cX3_number 99 = .ok (.invokevirtual 49, 3) := dk_182 0 49 (dk_at dksX3_number_4 4 rfl rfl)
theorem dX3_number_102 : decode cX3_number 102 = .ok (.aload_n 0, 1) := dk_42 (dk_at dksX3_number_4 7 rfl rfl)
theorem dX3_number_103 : decode cX3_number 103 = .ok (.invokevirtual 24, 3) := dk_182 0 24 (dk_at dksX3_number_4 8 rfl rfl)
theorem dX3_number_106 : decode cX3_number 106 = .ok (.iload 4, 2) := dk_21 4 (dk_at dksX3_number_4 11 rfl rfl)
theorem dX3_number_108 : decode cX3_number 108 = .ok (.ireturn, 1) := dk_172 (dk_at dksX3_number_4 13 rfl rfl)
abbrev cX3_isDigit : ByteArray := prog_11_method_7_code
def yX3_isDigit : MethodName := ⟨RX3, "isDigit", "()Z"⟩
def dkwX3_isDigit_0 : List UInt8 := [42, 182, 0, 38, 133, 20, 0, 53, 20, 0, 55, 184, 0, 57, 172]
abbrev dktX3_isDigit_0 : List UInt8 := dkwX3_isDigit_0 ++ []
theorem dksX3_isDigit_0 : cX3_isDigit.data.toList.drop 0 = dktX3_isDigit_0 := by decide +kernel
theorem dX3_isDigit_0 : decode cX3_isDigit 0 = .ok (.aload_n 0, 1) := dk_42 (dk_at dksX3_isDigit_0 0 rfl rfl)
theorem dX3_isDigit_1 : decode cX3_isDigit 1 = .ok (.invokevirtual 38, 3) := dk_182 0 38 (dk_at dksX3_isDigit_0 1 rfl rfl)
theorem dX3_isDigit_4 : decode cX3_isDigit 4 = .ok (.i2l, 1) := dk_133 (dk_at dksX3_isDigit_0 4 rfl rfl)
theorem dX3_isDigit_5 : decode cX3_isDigit 5 = .ok (.ldc2_w 53, 3) := dk_20 0 53 (dk_at dksX3_isDigit_0 5 rfl rfl)
theorem dX3_isDigit_8 : decode cX3_isDigit 8 = .ok (.ldc2_w 55, 3) := dk_20 0 55 (dk_at dksX3_isDigit_0 8 rfl rfl)
theorem dX3_isDigit_11 : decode cX3_isDigit 11 = .ok (.invokestatic 57, 3) := dk_184 0 57 (dk_at dksX3_isDigit_0 11 rfl rfl)
theorem dX3_isDigit_14 : decode cX3_isDigit 14 = .ok (.ireturn, 1) := dk_172 (dk_at dksX3_isDigit_0 14 rfl rfl)
abbrev cX3_digit : ByteArray := prog_11_method_9_code
def yX3_digit : MethodName := ⟨RX3, "digit", "(I)I"⟩
def dkwX3_digit_2 : List UInt8 := [42, 182, 0, 24, 28, 172]
abbrev dktX3_digit_2 : List UInt8 := dkwX3_digit_2 ++ []
def dkwX3_digit_1 : List UInt8 := [180, 0, 27, 4, 96, 181, 0, 27, 42, 42, 182, 0, 61, 154, 0, 7, 4, 167, 0, 4, 3, 182, 0, 49]
abbrev dktX3_digit_1 : List UInt8 := dkwX3_digit_1 ++ dktX3_digit_2
def dkwX3_digit_0 : List UInt8 := [42, 182, 0, 38, 16, 48, 100, 61, 42, 28, 133, 27, 133, 20, 0, 65, 184, 0, 57, 182, 0, 49, 42, 89]
abbrev dktX3_digit_0 : List UInt8 := dkwX3_digit_0 ++ dktX3_digit_1
theorem dksX3_digit_0 : cX3_digit.data.toList.drop 0 = dktX3_digit_0 := by decide +kernel
theorem dksX3_digit_1 : cX3_digit.data.toList.drop 24 = dktX3_digit_1 := dk_seg dksX3_digit_0 24 rfl rfl
theorem dksX3_digit_2 : cX3_digit.data.toList.drop 48 = dktX3_digit_2 := dk_seg dksX3_digit_1 24 rfl rfl
theorem dX3_digit_0 : decode cX3_digit 0 = .ok (.aload_n 0, 1) := dk_42 (dk_at dksX3_digit_0 0 rfl rfl)
theorem dX3_digit_1 : decode cX3_digit 1 = .ok (.invokevirtual 38, 3) := dk_182 0 38 (dk_at dksX3_digit_0 1 rfl rfl)
theorem dX3_digit_4 : decode cX3_digit 4 = .ok (.bipush 48, 2) := dk_16 48 (dk_at dksX3_digit_0 4 rfl rfl)
theorem dX3_digit_6 : decode cX3_digit 6 = .ok (.isub, 1) := dk_100 (dk_at dksX3_digit_0 6 rfl rfl)
theorem dX3_digit_7 : decode cX3_digit 7 = .ok (.istore_n 2, 1) := dk_61 (dk_at dksX3_digit_0 7 rfl rfl)
theorem dX3_digit_8 : decode cX3_digit 8 = .ok (.aload_n 0, 1) := dk_42 (dk_at dksX3_digit_0 8 rfl rfl)
theorem dX3_digit_9 : decode cX3_digit 9 = .ok (.iload_n 2, 1) := dk_28 (dk_at dksX3_digit_0 9 rfl rfl)
theorem dX3_digit_10 : decode cX3_digit 10 = .ok (.i2l, 1) := dk_133 (dk_at dksX3_digit_0 10 rfl rfl)
theorem dX3_digit_11 : decode cX3_digit 11 = .ok (.iload_n 1, 1) := dk_27 (dk_at dksX3_digit_0 11 rfl rfl)
theorem dX3_digit_12 : decode cX3_digit 12 = .ok (.i2l, 1) := dk_133 (dk_at dksX3_digit_0 12 rfl rfl)
theorem dX3_digit_13 : decode cX3_digit 13 = .ok (.ldc2_w 65, 3) := dk_20 0 65 (dk_at dksX3_digit_0 13 rfl rfl)
theorem dX3_digit_16 : decode cX3_digit 16 = .ok (.invokestatic 57, 3) := dk_184 0 57 (dk_at dksX3_digit_0 16 rfl rfl)
theorem dX3_digit_19 : decode cX3_digit 19 = .ok (.invokevirtual 49, 3) := dk_182 0 49 (dk_at dksX3_digit_0 19 rfl rfl)
theorem dX3_digit_22 : decode cX3_digit 22 = .ok (.aload_n 0, 1) := dk_42 (dk_at dksX3_digit_0 22 rfl rfl)
theorem dX3_digit_23 : decode cX3_digit 23 = .ok (.dup, 1) := dk_89 (dk_at dksX3_digit_0 23 rfl rfl)
theorem dX3_digit_24 : decode cX3_digit 24 = .ok (.getfield 27, 3) := dk_180 0 27 (dk_at dksX3_digit_1 0 rfl rfl)
theorem dX3_digit_27 : decode cX3_digit 27 = .ok (.iconst 1, 1) := dk_4 (dk_at dksX3_digit_1 3 rfl rfl)
theorem dX3_digit_28 : decode cX3_digit 28 = .ok (.iadd, 1) := dk_96 (dk_at dksX3_digit_1 4 rfl rfl)
theorem dX3_digit_29 : decode cX3_digit 29 = .ok (.putfield 27, 3) := dk_181 0 27 (dk_at dksX3_digit_1 5 rfl rfl)
theorem dX3_digit_32 : decode cX3_digit 32 = .ok (.aload_n 0, 1) := dk_42 (dk_at dksX3_digit_1 8 rfl rfl)
theorem dX3_digit_33 : decode cX3_digit 33 = .ok (.aload_n 0, 1) := dk_42 (dk_at dksX3_digit_1 9 rfl rfl)
theorem dX3_digit_34 : decode cX3_digit 34 = .ok (.invokevirtual 61, 3) := dk_182 0 61 (dk_at dksX3_digit_1 10 rfl rfl)
theorem dX3_digit_37 : decode cX3_digit 37 = .ok (.ifCond .ne 7, 3) := dk_154 0 7 (dk_at dksX3_digit_1 13 rfl rfl)
theorem dX3_digit_40 : decode cX3_digit 40 = .ok (.iconst 1, 1) := dk_4 (dk_at dksX3_digit_1 16 rfl rfl)
theorem dX3_digit_41 : decode cX3_digit 41 = .ok (.goto 4, 3) := dk_167 0 4 (dk_at dksX3_digit_1 17 rfl rfl)
theorem dX3_digit_44 : decode cX3_digit 44 = .ok (.iconst 0, 1) := dk_3 (dk_at dksX3_digit_1 20 rfl rfl)
theorem dX3_digit_45 : decode cX3_digit 45 = .ok (.invokevirtual 49, 3) := dk_182 0 49 (dk_at dksX3_digit_1 21 rfl rfl)
theorem dX3_digit_48 : decode cX3_digit 48 = .ok (.aload_n 0, 1) := dk_42 (dk_at dksX3_digit_2 0 rfl rfl)
theorem dX3_digit_49 : decode cX3_digit 49 = .ok (.invokevirtual 24, 3) := dk_182 0 24 (dk_at dksX3_digit_2 1 rfl rfl)
theorem dX3_digit_52 : decode cX3_digit 52 = .ok (.iload_n 2, 1) := dk_28 (dk_at dksX3_digit_2 4 rfl rfl)
theorem dX3_digit_53 : decode cX3_digit 53 = .ok (.ireturn, 1) := dk_172 (dk_at dksX3_digit_2 5 rfl rfl)
abbrev cX3_rate : ByteArray := prog_11_method_10_code
def yX3_rate : MethodName := ⟨RX3, "rate", "()I"⟩
def dkwX3_rate_0 : List UInt8 := [42, 4, 16, 30, 182, 0, 67, 172]
abbrev dktX3_rate_0 : List UInt8 := dkwX3_rate_0 ++ []
theorem dksX3_rate_0 : cX3_rate.data.toList.drop 0 = dktX3_rate_0 := by decide +kernel
theorem dX3_rate_0 : decode cX3_rate 0 = .ok (.aload_n 0, 1) := dk_42 (dk_at dksX3_rate_0 0 rfl rfl)
theorem dX3_rate_1 : decode cX3_rate 1 = .ok (.iconst 1, 1) := dk_4 (dk_at dksX3_rate_0 1 rfl rfl)
theorem dX3_rate_2 : decode cX3_rate 2 = .ok (.bipush 30, 2) := dk_16 30 (dk_at dksX3_rate_0 2 rfl rfl)
theorem dX3_rate_4 : decode cX3_rate 4 = .ok (.invokevirtual 67, 3) := dk_182 0 67 (dk_at dksX3_rate_0 4 rfl rfl)
theorem dX3_rate_7 : decode cX3_rate 7 = .ok (.ireturn, 1) := dk_172 (dk_at dksX3_rate_0 7 rfl rfl)
theorem q80 : (Jvm.Cond.initialized "RatioGraph$GraphReader") ∈ lw_all := lw_g (lw_at lw_m1 16 rfl) rfl
theorem q163 : (Jvm.Cond.fieldLinkNest "RatioGraph$GraphReader" (34 : Nat) "RatioGraph" "text" "[B" "RatioGraph") ∈ lw_tbl := lw_at lw_m1 99 rfl
theorem q165 : (Jvm.Cond.fieldLinkNest "RatioGraph$GraphReader" (31 : Nat) "RatioGraph" "textLength" "I" "RatioGraph") ∈ lw_tbl := lw_at lw_m1 101 rfl
theorem q273 : (Jvm.Cond.selects "RatioGraph$GraphReader" ({ cls := "java/lang/Object", name := "getClass", desc := "()Ljava/lang/Class;" } : Jvm.MethodName) ({ cls := "java/lang/Object", name := "getClass", desc := "()Ljava/lang/Class;" } : Jvm.MethodName)) ∈ lw_all := lw_g (lw_at lw_m1 209 rfl) rfl
theorem q513 : (Jvm.Cond.instantiable "RatioGraph$GraphReader" (3 : Nat)) ∈ lw_all := lw_g (lw_at lw_m2 209 rfl) rfl
theorem q515 : (Jvm.Cond.instanceMethod ({ cls := "RatioGraph$GraphReader", name := "<init>", desc := "(LRatioGraph;)V" } : Jvm.MethodName)) ∈ lw_all := lw_g (lw_at lw_m2 211 rfl) rfl
theorem q516 : (Jvm.Cond.code ({ cls := "RatioGraph$GraphReader", name := "<init>", desc := "(LRatioGraph;)V" } : Jvm.MethodName) prog_11_method_1_code (2 : Nat) (Option.none : Option Jvm.ClassFile.FieldType)) ∈ lw_all := lw_g (lw_at lw_m2 212 rfl) rfl
theorem q517 : (Jvm.Cond.methodLink "RatioGraph$GraphReader" (9 : Nat) ({ cls := "java/lang/Object", name := "<init>", desc := "()V" } : Jvm.MethodName)) ∈ lw_all := lw_g (lw_at lw_m2 213 rfl) rfl
theorem q518 : (Jvm.Cond.classLink "RatioGraph$GraphReader" (15 : Nat) "java/util/ArrayList") ∈ lw_all := lw_g (lw_at lw_m2 214 rfl) rfl
theorem q519 : (Jvm.Cond.methodLink "RatioGraph$GraphReader" (17 : Nat) ({ cls := "java/util/ArrayList", name := "<init>", desc := "(I)V" } : Jvm.MethodName)) ∈ lw_all := lw_g (lw_at lw_m2 215 rfl) rfl
theorem q520 : (Jvm.Cond.methodLink "RatioGraph$GraphReader" (24 : Nat) ({ cls := "RatioGraph$GraphReader", name := "blanks", desc := "()V" } : Jvm.MethodName)) ∈ lw_all := lw_g (lw_at lw_m2 216 rfl) rfl
theorem q521 : (Jvm.Cond.privateMethod ({ cls := "RatioGraph$GraphReader", name := "blanks", desc := "()V" } : Jvm.MethodName)) ∈ lw_tbl := lw_at lw_m2 217 rfl
theorem q522 : (Jvm.Cond.instanceMethod ({ cls := "RatioGraph$GraphReader", name := "blanks", desc := "()V" } : Jvm.MethodName)) ∈ lw_all := lw_g (lw_at lw_m2 218 rfl) rfl
theorem q523 : (Jvm.Cond.code ({ cls := "RatioGraph$GraphReader", name := "blanks", desc := "()V" } : Jvm.MethodName) prog_11_method_3_code (1 : Nat) (Option.none : Option Jvm.ClassFile.FieldType)) ∈ lw_all := lw_g (lw_at lw_m2 219 rfl) rfl
theorem q524 : (Jvm.Cond.methodLink "RatioGraph$GraphReader" (38 : Nat) ({ cls := "RatioGraph$GraphReader", name := "next", desc := "()I" } : Jvm.MethodName)) ∈ lw_all := lw_g (lw_at lw_m2 220 rfl) rfl
theorem q525 : (Jvm.Cond.privateMethod ({ cls := "RatioGraph$GraphReader", name := "next", desc := "()I" } : Jvm.MethodName)) ∈ lw_tbl := lw_at lw_m2 221 rfl
theorem q526 : (Jvm.Cond.instanceMethod ({ cls := "RatioGraph$GraphReader", name := "next", desc := "()I" } : Jvm.MethodName)) ∈ lw_all := lw_g (lw_at lw_m2 222 rfl) rfl
theorem q527 : (Jvm.Cond.code ({ cls := "RatioGraph$GraphReader", name := "next", desc := "()I" } : Jvm.MethodName) prog_11_method_2_code (1 : Nat) (Option.some Jvm.ClassFile.FieldType.int)) ∈ lw_all := lw_g (lw_at lw_m2 223 rfl) rfl
theorem q528 : (Jvm.Cond.fieldLink "RatioGraph$GraphReader" (27 : Nat) "RatioGraph$GraphReader" "at" "I") ∈ lw_all := lw_g (lw_at lw_m2 224 rfl) rfl
theorem q529 : (Jvm.Cond.fieldLink "RatioGraph$GraphReader" (20 : Nat) "RatioGraph$GraphReader" "read" "Ljava/util/ArrayList;") ∈ lw_all := lw_g (lw_at lw_m2 225 rfl) rfl
theorem q530 : (Jvm.Cond.fieldLink "RatioGraph$GraphReader" (3 : Nat) "RatioGraph$GraphReader" "this$0" "LRatioGraph;") ∈ lw_all := lw_g (lw_at lw_m2 226 rfl) rfl
theorem q531 : (Jvm.Cond.lays "RatioGraph$GraphReader" "RatioGraph$GraphReader" "at" "I") ∈ lw_all := lw_g (lw_at lw_m2 227 rfl) rfl
theorem q532 : (Jvm.Cond.soleField "RatioGraph$GraphReader" "at") ∈ lw_all := lw_g (lw_at lw_m2 228 rfl) rfl
theorem q533 : (Jvm.Cond.laysFinal "RatioGraph$GraphReader" "RatioGraph$GraphReader" "read" "Ljava/util/ArrayList;") ∈ lw_all := lw_g (lw_at lw_m2 229 rfl) rfl
theorem q534 : (Jvm.Cond.soleField "RatioGraph$GraphReader" "read") ∈ lw_all := lw_g (lw_at lw_m2 230 rfl) rfl
theorem q535 : (Jvm.Cond.laysFinal "RatioGraph$GraphReader" "RatioGraph$GraphReader" "this$0" "LRatioGraph;") ∈ lw_all := lw_g (lw_at lw_m2 231 rfl) rfl
theorem q536 : (Jvm.Cond.soleField "RatioGraph$GraphReader" "this$0") ∈ lw_all := lw_g (lw_at lw_m2 232 rfl) rfl
theorem q537 : (Jvm.Cond.superclass "RatioGraph$GraphReader" "java/lang/Object") ∈ lw_all := lw_g (lw_at lw_m2 233 rfl) rfl
theorem q539 : (Jvm.Cond.instanceMethod ({ cls := "RatioGraph$GraphReader", name := "read", desc := "()Ljava/util/ArrayList;" } : Jvm.MethodName)) ∈ lw_all := lw_g (lw_at lw_m2 235 rfl) rfl
theorem q540 : (Jvm.Cond.selects "RatioGraph$GraphReader" ({ cls := "RatioGraph$GraphReader", name := "read", desc := "()Ljava/util/ArrayList;" } : Jvm.MethodName) ({ cls := "RatioGraph$GraphReader", name := "read", desc := "()Ljava/util/ArrayList;" } : Jvm.MethodName)) ∈ lw_all := lw_g (lw_at lw_m2 236 rfl) rfl
theorem q541 : (Jvm.Cond.code ({ cls := "RatioGraph$GraphReader", name := "read", desc := "()Ljava/util/ArrayList;" } : Jvm.MethodName) prog_11_method_12_code (1 : Nat) (Option.some (Jvm.ClassFile.FieldType.object "java/util/ArrayList"))) ∈ lw_all := lw_g (lw_at lw_m2 237 rfl) rfl
theorem q542 : (Jvm.Cond.methodLink "RatioGraph$GraphReader" (96 : Nat) ({ cls := "RatioGraph$GraphReader", name := "edge", desc := "()LRatioGraph$Edge;" } : Jvm.MethodName)) ∈ lw_all := lw_g (lw_at lw_m2 238 rfl) rfl
theorem q543 : (Jvm.Cond.privateMethod ({ cls := "RatioGraph$GraphReader", name := "edge", desc := "()LRatioGraph$Edge;" } : Jvm.MethodName)) ∈ lw_tbl := lw_at lw_m2 239 rfl
theorem q544 : (Jvm.Cond.instanceMethod ({ cls := "RatioGraph$GraphReader", name := "edge", desc := "()LRatioGraph$Edge;" } : Jvm.MethodName)) ∈ lw_all := lw_g (lw_at lw_m3 0 rfl) rfl
theorem q545 : (Jvm.Cond.code ({ cls := "RatioGraph$GraphReader", name := "edge", desc := "()LRatioGraph$Edge;" } : Jvm.MethodName) prog_11_method_11_code (8 : Nat) (Option.some (Jvm.ClassFile.FieldType.object "RatioGraph$Edge"))) ∈ lw_all := lw_g (lw_at lw_m3 1 rfl) rfl
theorem q546 : (Jvm.Cond.methodLink "RatioGraph$GraphReader" (71 : Nat) ({ cls := "java/util/ArrayList", name := "size", desc := "()I" } : Jvm.MethodName)) ∈ lw_all := lw_g (lw_at lw_m3 2 rfl) rfl
theorem q547 : (Jvm.Cond.methodLink "RatioGraph$GraphReader" (49 : Nat) ({ cls := "RatioGraph$GraphReader", name := "expect", desc := "(Z)V" } : Jvm.MethodName)) ∈ lw_all := lw_g (lw_at lw_m3 3 rfl) rfl
theorem q548 : (Jvm.Cond.privateMethod ({ cls := "RatioGraph$GraphReader", name := "expect", desc := "(Z)V" } : Jvm.MethodName)) ∈ lw_tbl := lw_at lw_m3 4 rfl
theorem q549 : (Jvm.Cond.instanceMethod ({ cls := "RatioGraph$GraphReader", name := "expect", desc := "(Z)V" } : Jvm.MethodName)) ∈ lw_all := lw_g (lw_at lw_m3 5 rfl) rfl
theorem q550 : (Jvm.Cond.code ({ cls := "RatioGraph$GraphReader", name := "expect", desc := "(Z)V" } : Jvm.MethodName) prog_11_method_4_code (2 : Nat) (Option.none : Option Jvm.ClassFile.FieldType)) ∈ lw_all := lw_g (lw_at lw_m3 6 rfl) rfl
theorem q551 : (Jvm.Cond.classLink "RatioGraph$GraphReader" (42 : Nat) "RatioGraph$TextFault") ∈ lw_all := lw_g (lw_at lw_m3 7 rfl) rfl
theorem q588 : (Jvm.Cond.methodLink "RatioGraph$GraphReader" (44 : Nat) ({ cls := "RatioGraph$TextFault", name := "<init>", desc := "(I)V" } : Jvm.MethodName)) ∈ lw_all := lw_g (lw_at lw_m3 44 rfl) rfl
theorem q614 : (Jvm.Cond.methodLink "RatioGraph$GraphReader" (74 : Nat) ({ cls := "RatioGraph$GraphReader", name := "node", desc := "()I" } : Jvm.MethodName)) ∈ lw_all := lw_g (lw_at lw_m3 70 rfl) rfl
theorem q615 : (Jvm.Cond.privateMethod ({ cls := "RatioGraph$GraphReader", name := "node", desc := "()I" } : Jvm.MethodName)) ∈ lw_tbl := lw_at lw_m3 71 rfl
theorem q616 : (Jvm.Cond.instanceMethod ({ cls := "RatioGraph$GraphReader", name := "node", desc := "()I" } : Jvm.MethodName)) ∈ lw_all := lw_g (lw_at lw_m3 72 rfl) rfl
theorem q617 : (Jvm.Cond.code ({ cls := "RatioGraph$GraphReader", name := "node", desc := "()I" } : Jvm.MethodName) prog_11_method_6_code (2 : Nat) (Option.some Jvm.ClassFile.FieldType.int)) ∈ lw_all := lw_g (lw_at lw_m3 73 rfl) rfl
theorem q618 : (Jvm.Cond.methodLinkNest "RatioGraph$GraphReader" (45 : Nat) ({ cls := "RatioGraph", name := "areNodes", desc := "([I)Z" } : Jvm.MethodName) "RatioGraph") ∈ lw_tbl := lw_at lw_m3 74 rfl
theorem q619 : (Jvm.Cond.methodLink "RatioGraph$GraphReader" (77 : Nat) ({ cls := "RatioGraph$GraphReader", name := "takes", desc := "(I)Z" } : Jvm.MethodName)) ∈ lw_all := lw_g (lw_at lw_m3 75 rfl) rfl
theorem q620 : (Jvm.Cond.privateMethod ({ cls := "RatioGraph$GraphReader", name := "takes", desc := "(I)Z" } : Jvm.MethodName)) ∈ lw_tbl := lw_at lw_m3 76 rfl
theorem q621 : (Jvm.Cond.instanceMethod ({ cls := "RatioGraph$GraphReader", name := "takes", desc := "(I)Z" } : Jvm.MethodName)) ∈ lw_all := lw_g (lw_at lw_m3 77 rfl) rfl
theorem q622 : (Jvm.Cond.code ({ cls := "RatioGraph$GraphReader", name := "takes", desc := "(I)Z" } : Jvm.MethodName) prog_11_method_5_code (3 : Nat) (Option.some Jvm.ClassFile.FieldType.boolean)) ∈ lw_all := lw_g (lw_at lw_m3 78 rfl) rfl
theorem q623 : (Jvm.Cond.methodLink "RatioGraph$GraphReader" (67 : Nat) ({ cls := "RatioGraph$GraphReader", name := "number", desc := "(II)I" } : Jvm.MethodName)) ∈ lw_all := lw_g (lw_at lw_m3 79 rfl) rfl
theorem q624 : (Jvm.Cond.privateMethod ({ cls := "RatioGraph$GraphReader", name := "number", desc := "(II)I" } : Jvm.MethodName)) ∈ lw_tbl := lw_at lw_m3 80 rfl
theorem q625 : (Jvm.Cond.instanceMethod ({ cls := "RatioGraph$GraphReader", name := "number", desc := "(II)I" } : Jvm.MethodName)) ∈ lw_all := lw_g (lw_at lw_m3 81 rfl) rfl
theorem q626 : (Jvm.Cond.code ({ cls := "RatioGraph$GraphReader", name := "number", desc := "(II)I" } : Jvm.MethodName) prog_11_method_8_code (5 : Nat) (Option.some Jvm.ClassFile.FieldType.int)) ∈ lw_all := lw_g (lw_at lw_m3 82 rfl) rfl
theorem q627 : (Jvm.Cond.methodLink "RatioGraph$GraphReader" (61 : Nat) ({ cls := "RatioGraph$GraphReader", name := "isDigit", desc := "()Z" } : Jvm.MethodName)) ∈ lw_all := lw_g (lw_at lw_m3 83 rfl) rfl
theorem q628 : (Jvm.Cond.privateMethod ({ cls := "RatioGraph$GraphReader", name := "isDigit", desc := "()Z" } : Jvm.MethodName)) ∈ lw_tbl := lw_at lw_m3 84 rfl
theorem q629 : (Jvm.Cond.instanceMethod ({ cls := "RatioGraph$GraphReader", name := "isDigit", desc := "()Z" } : Jvm.MethodName)) ∈ lw_all := lw_g (lw_at lw_m3 85 rfl) rfl
theorem q630 : (Jvm.Cond.code ({ cls := "RatioGraph$GraphReader", name := "isDigit", desc := "()Z" } : Jvm.MethodName) prog_11_method_7_code (1 : Nat) (Option.some Jvm.ClassFile.FieldType.boolean)) ∈ lw_all := lw_g (lw_at lw_m3 86 rfl) rfl
theorem q631 : (Jvm.Cond.constantLong "RatioGraph$GraphReader" (53 : Nat) (48 : Int64)) ∈ lw_all := lw_g (lw_at lw_m3 87 rfl) rfl
theorem q632 : (Jvm.Cond.constantLong "RatioGraph$GraphReader" (55 : Nat) (57 : Int64)) ∈ lw_all := lw_g (lw_at lw_m3 88 rfl) rfl
theorem q633 : (Jvm.Cond.methodLinkNest "RatioGraph$GraphReader" (57 : Nat) ({ cls := "RatioGraph", name := "isIn", desc := "(JJJ)Z" } : Jvm.MethodName) "RatioGraph") ∈ lw_tbl := lw_at lw_m3 89 rfl
theorem q634 : (Jvm.Cond.methodLink "RatioGraph$GraphReader" (81 : Nat) ({ cls := "RatioGraph$GraphReader", name := "digit", desc := "(I)I" } : Jvm.MethodName)) ∈ lw_all := lw_g (lw_at lw_m3 90 rfl) rfl
theorem q635 : (Jvm.Cond.privateMethod ({ cls := "RatioGraph$GraphReader", name := "digit", desc := "(I)I" } : Jvm.MethodName)) ∈ lw_tbl := lw_at lw_m3 91 rfl
theorem q636 : (Jvm.Cond.instanceMethod ({ cls := "RatioGraph$GraphReader", name := "digit", desc := "(I)I" } : Jvm.MethodName)) ∈ lw_all := lw_g (lw_at lw_m3 92 rfl) rfl
theorem q637 : (Jvm.Cond.code ({ cls := "RatioGraph$GraphReader", name := "digit", desc := "(I)I" } : Jvm.MethodName) prog_11_method_9_code (3 : Nat) (Option.some Jvm.ClassFile.FieldType.int)) ∈ lw_all := lw_g (lw_at lw_m3 93 rfl) rfl
theorem q638 : (Jvm.Cond.constantLong "RatioGraph$GraphReader" (65 : Nat) (9 : Int64)) ∈ lw_all := lw_g (lw_at lw_m3 94 rfl) rfl
theorem q639 : (Jvm.Cond.classLink "RatioGraph$GraphReader" (85 : Nat) "RatioGraph$Edge") ∈ lw_all := lw_g (lw_at lw_m3 95 rfl) rfl
theorem q640 : (Jvm.Cond.methodLink "RatioGraph$GraphReader" (87 : Nat) ({ cls := "RatioGraph$Edge", name := "<init>", desc := "(IIIII)V" } : Jvm.MethodName)) ∈ lw_all := lw_g (lw_at lw_m3 96 rfl) rfl
theorem q641 : (Jvm.Cond.methodLink "RatioGraph$GraphReader" (90 : Nat) ({ cls := "RatioGraph$GraphReader", name := "rate", desc := "()I" } : Jvm.MethodName)) ∈ lw_all := lw_g (lw_at lw_m3 97 rfl) rfl
theorem q642 : (Jvm.Cond.privateMethod ({ cls := "RatioGraph$GraphReader", name := "rate", desc := "()I" } : Jvm.MethodName)) ∈ lw_tbl := lw_at lw_m3 98 rfl
theorem q643 : (Jvm.Cond.instanceMethod ({ cls := "RatioGraph$GraphReader", name := "rate", desc := "()I" } : Jvm.MethodName)) ∈ lw_all := lw_g (lw_at lw_m3 99 rfl) rfl
theorem q644 : (Jvm.Cond.code ({ cls := "RatioGraph$GraphReader", name := "rate", desc := "()I" } : Jvm.MethodName) prog_11_method_10_code (1 : Nat) (Option.some Jvm.ClassFile.FieldType.int)) ∈ lw_all := lw_g (lw_at lw_m3 100 rfl) rfl
theorem q645 : (Jvm.Cond.methodLink "RatioGraph$GraphReader" (93 : Nat) ({ cls := "RatioGraph$Edge", name := "at", desc := "(II)LRatioGraph$Edge;" } : Jvm.MethodName)) ∈ lw_all := lw_g (lw_at lw_m3 101 rfl) rfl
theorem q646 : (Jvm.Cond.methodLink "RatioGraph$GraphReader" (100 : Nat) ({ cls := "java/util/ArrayList", name := "add", desc := "(Ljava/lang/Object;)Z" } : Jvm.MethodName)) ∈ lw_all := lw_g (lw_at lw_m3 102 rfl) rfl
theorem q1801 : (Jvm.Cond.castable "RatioGraph$GraphReader" "java/lang/Object") ∈ lw_tbl := lw_at lw_m8 57 rfl
theorem in_X3 : ∀ w ∈ wsX30, w ∈ lw_all := lw_in wsX30 [531, 533, 535] (by decide +kernel) (by decide +kernel)

/-! RatioGraph$TextFault -/
set_option maxRecDepth 100000
def RX4 : String := "RatioGraph$TextFault"
def TX4 : u_T := fun k => match k with
  | 0 => ("java/lang/Throwable", "cause", "Ljava/lang/Throwable;", false)
  | 1 => ("java/lang/Throwable", "stackTrace", "[Ljava/lang/StackTraceElement;", false)
  | 2 => ("java/lang/Throwable", "suppressedExceptions", "Ljava/util/List;", false)
  | 3 => ("java/lang/Throwable", "detailMessage", "Ljava/lang/String;", false)
  | 4 => ("java/lang/Throwable", "backtrace", "Ljava/lang/Object;", false)
  | 5 => ("java/lang/Throwable", "depth", "I", false)
  | _ => ("RatioGraph$TextFault", "index", "I", true)
def tyX4 : Nat → FieldType := fun k => match k with
  | 0 => .object "java/lang/Throwable"
  | 1 => .array (.object "java/lang/StackTraceElement")
  | 2 => .object "java/util/List"
  | 3 => .object "java/lang/String"
  | 4 => .object "java/lang/Object"
  | 5 => .int
  | _ => .int
abbrev wsX40 : List Cond := u_ws RX4 TX4 7
theorem nmX4 : ∀ a, a < 7 → ∀ b, b < 7 → a ≠ b → (TX4 a).2.1 ≠ (TX4 b).2.1 := by decide +kernel
theorem tyX4_ok : ∀ k, k < 7 → parseFieldDescriptor (TX4 k).2.2.1 = some (tyX4 k) := by decide +kernel
abbrev cX4_init : ByteArray := prog_17_method_1_code
def yX4_init : MethodName := ⟨RX4, "<init>", "(I)V"⟩
def dkwX4_init_0 : List UInt8 := [42, 1, 1, 3, 3, 183, 0, 1, 42, 27, 181, 0, 7, 177]
abbrev dktX4_init_0 : List UInt8 := dkwX4_init_0 ++ []
theorem dksX4_init_0 : cX4_init.data.toList.drop 0 = dktX4_init_0 := by decide +kernel
theorem dX4_init_0 : decode cX4_init 0 = .ok (.aload_n 0, 1) := dk_42 (dk_at dksX4_init_0 0 rfl rfl)
theorem dX4_init_1 : decode cX4_init 1 = .ok (.aconst_null, 1) := dk_1 (dk_at dksX4_init_0 1 rfl rfl)
theorem dX4_init_2 : decode cX4_init 2 = .ok (.aconst_null, 1) := dk_1 (dk_at dksX4_init_0 2 rfl rfl)
theorem dX4_init_3 : decode cX4_init 3 = .ok (.iconst 0, 1) := dk_3 (dk_at dksX4_init_0 3 rfl rfl)
theorem dX4_init_4 : decode cX4_init 4 = .ok (.iconst 0, 1) := dk_3 (dk_at dksX4_init_0 4 rfl rfl)
theorem dX4_init_5 : decode cX4_init 5 = .ok (.invokespecial 1, 3) := dk_183 0 1 (dk_at dksX4_init_0 5 rfl rfl)
theorem dX4_init_8 : decode cX4_init 8 = .ok (.aload_n 0, 1) := dk_42 (dk_at dksX4_init_0 8 rfl rfl)
theorem dX4_init_9 : decode cX4_init 9 = .ok (.iload_n 1, 1) := dk_27 (dk_at dksX4_init_0 9 rfl rfl)
theorem dX4_init_10 : decode cX4_init 10 = .ok (.putfield 7, 3) := dk_181 0 7 (dk_at dksX4_init_0 10 rfl rfl)
theorem dX4_init_13 : decode cX4_init 13 = .ok (.return_, 1) := dk_177 (dk_at dksX4_init_0 13 rfl rfl)
theorem q83 : (Jvm.Cond.initialized "RatioGraph$TextFault") ∈ lw_all := lw_g (lw_at lw_m1 19 rfl) rfl
theorem q279 : (Jvm.Cond.selects "RatioGraph$TextFault" ({ cls := "java/lang/Object", name := "getClass", desc := "()Ljava/lang/Class;" } : Jvm.MethodName) ({ cls := "java/lang/Object", name := "getClass", desc := "()Ljava/lang/Class;" } : Jvm.MethodName)) ∈ lw_all := lw_g (lw_at lw_m1 215 rfl) rfl
theorem q552 : (Jvm.Cond.instantiable "RatioGraph$TextFault" (7 : Nat)) ∈ lw_all := lw_g (lw_at lw_m3 8 rfl) rfl
theorem q553 : (Jvm.Cond.castable "RatioGraph$TextFault" "RatioGraph$TextFault") ∈ lw_tbl := lw_at lw_m3 9 rfl
theorem q558 : (Jvm.Cond.selects "RatioGraph$TextFault" ({ cls := "java/lang/Throwable", name := "fillInStackTrace", desc := "(I)Ljava/lang/Throwable;" } : Jvm.MethodName) ({ cls := "java/lang/Throwable", name := "fillInStackTrace", desc := "(I)Ljava/lang/Throwable;" } : Jvm.MethodName)) ∈ lw_all := lw_g (lw_at lw_m3 14 rfl) rfl
theorem q559 : (Jvm.Cond.selects "RatioGraph$TextFault" ({ cls := "java/lang/Throwable", name := "fillInStackTrace", desc := "()Ljava/lang/Throwable;" } : Jvm.MethodName) ({ cls := "java/lang/Throwable", name := "fillInStackTrace", desc := "()Ljava/lang/Throwable;" } : Jvm.MethodName)) ∈ lw_all := lw_g (lw_at lw_m3 15 rfl) rfl
theorem q560 : (Jvm.Cond.lays "RatioGraph$TextFault" "java/lang/Throwable" "cause" "Ljava/lang/Throwable;") ∈ lw_all := lw_g (lw_at lw_m3 16 rfl) rfl
theorem q562 : (Jvm.Cond.lays "RatioGraph$TextFault" "java/lang/Throwable" "stackTrace" "[Ljava/lang/StackTraceElement;") ∈ lw_all := lw_g (lw_at lw_m3 18 rfl) rfl
theorem q564 : (Jvm.Cond.lays "RatioGraph$TextFault" "java/lang/Throwable" "suppressedExceptions" "Ljava/util/List;") ∈ lw_all := lw_g (lw_at lw_m3 20 rfl) rfl
theorem q566 : (Jvm.Cond.lays "RatioGraph$TextFault" "java/lang/Throwable" "detailMessage" "Ljava/lang/String;") ∈ lw_all := lw_g (lw_at lw_m3 22 rfl) rfl
theorem q568 : (Jvm.Cond.lays "RatioGraph$TextFault" "java/lang/Throwable" "backtrace" "Ljava/lang/Object;") ∈ lw_all := lw_g (lw_at lw_m3 24 rfl) rfl
theorem q589 : (Jvm.Cond.instanceMethod ({ cls := "RatioGraph$TextFault", name := "<init>", desc := "(I)V" } : Jvm.MethodName)) ∈ lw_all := lw_g (lw_at lw_m3 45 rfl) rfl
theorem q590 : (Jvm.Cond.code ({ cls := "RatioGraph$TextFault", name := "<init>", desc := "(I)V" } : Jvm.MethodName) prog_17_method_1_code (2 : Nat) (Option.none : Option Jvm.ClassFile.FieldType)) ∈ lw_all := lw_g (lw_at lw_m3 46 rfl) rfl
theorem q591 : (Jvm.Cond.methodLink "RatioGraph$TextFault" (1 : Nat) ({ cls := "java/lang/Exception", name := "<init>", desc := "(Ljava/lang/String;Ljava/lang/Throwable;ZZ)V" } : Jvm.MethodName)) ∈ lw_all := lw_g (lw_at lw_m3 47 rfl) rfl
theorem q597 : (Jvm.Cond.fieldLink "RatioGraph$TextFault" (7 : Nat) "RatioGraph$TextFault" "index" "I") ∈ lw_all := lw_g (lw_at lw_m3 53 rfl) rfl
theorem q604 : (Jvm.Cond.laysFinal "RatioGraph$TextFault" "RatioGraph$TextFault" "index" "I") ∈ lw_all := lw_g (lw_at lw_m3 60 rfl) rfl
theorem q605 : (Jvm.Cond.soleField "RatioGraph$TextFault" "index") ∈ lw_all := lw_g (lw_at lw_m3 61 rfl) rfl
theorem q610 : (Jvm.Cond.lays "RatioGraph$TextFault" "java/lang/Throwable" "depth" "I") ∈ lw_all := lw_g (lw_at lw_m3 66 rfl) rfl
theorem q613 : (Jvm.Cond.superclass "RatioGraph$TextFault" "java/lang/Exception") ∈ lw_all := lw_g (lw_at lw_m3 69 rfl) rfl
theorem q1802 : (Jvm.Cond.castable "RatioGraph$TextFault" "java/lang/Object") ∈ lw_tbl := lw_at lw_m8 58 rfl
theorem in_X4 : ∀ w ∈ wsX40, w ∈ lw_all := lw_in wsX40 [560, 562, 564, 566, 568, 610, 604] (by decide +kernel) (by decide +kernel)

/-! RatioGraph$Fraction -/
set_option maxRecDepth 100000
def RX5 : String := "RatioGraph$Fraction"
def TX5 : u_T := fun k => match k with
  | 0 => ("RatioGraph$Fraction", "n", "J", true)
  | _ => ("RatioGraph$Fraction", "d", "J", true)
def tyX5 : Nat → FieldType := fun k => match k with
  | 0 => .long
  | _ => .long
abbrev wsX50 : List Cond := u_ws RX5 TX5 2
theorem nmX5 : ∀ a, a < 2 → ∀ b, b < 2 → a ≠ b → (TX5 a).2.1 ≠ (TX5 b).2.1 := by decide +kernel
theorem tyX5_ok : ∀ k, k < 2 → parseFieldDescriptor (TX5 k).2.2.1 = some (tyX5 k) := by decide +kernel
abbrev cX5_init : ByteArray := prog_9_method_2_code
def yX5_init : MethodName := ⟨RX5, "<init>", "(JJ)V"⟩
def dkwX5_init_1 : List UInt8 := [55, 5, 42, 31, 22, 5, 109, 181, 0, 16, 42, 33, 22, 5, 109, 181, 0, 20, 177]
abbrev dktX5_init_1 : List UInt8 := dkwX5_init_1 ++ []
def dkwX5_init_0 : List UInt8 := [42, 183, 0, 7, 33, 9, 148, 156, 0, 12, 31, 33, 184, 0, 12, 117, 167, 0, 8, 31, 33, 184, 0, 12]
abbrev dktX5_init_0 : List UInt8 := dkwX5_init_0 ++ dktX5_init_1
theorem dksX5_init_0 : cX5_init.data.toList.drop 0 = dktX5_init_0 := by decide +kernel
theorem dksX5_init_1 : cX5_init.data.toList.drop 24 = dktX5_init_1 := dk_seg dksX5_init_0 24 rfl rfl
theorem dX5_init_0 : decode cX5_init 0 = .ok (.aload_n 0, 1) := dk_42 (dk_at dksX5_init_0 0 rfl rfl)
theorem dX5_init_1 : decode cX5_init 1 = .ok (.invokespecial 7, 3) := dk_183 0 7 (dk_at dksX5_init_0 1 rfl rfl)
theorem dX5_init_4 : decode cX5_init 4 = .ok (.lload_n 3, 1) := dk_33 (dk_at dksX5_init_0 4 rfl rfl)
theorem dX5_init_5 : decode cX5_init 5 = .ok (.lconst 0, 1) := dk_9 (dk_at dksX5_init_0 5 rfl rfl)
theorem dX5_init_6 : decode cX5_init 6 = .ok (.lcmp, 1) := dk_148 (dk_at dksX5_init_0 6 rfl rfl)
theorem dX5_init_7 : decode cX5_init 7 = .ok (.ifCond .ge 12, 3) := dk_156 0 12 (dk_at dksX5_init_0 7 rfl rfl)
theorem dX5_init_10 : decode cX5_init 10 = .ok (.lload_n 1, 1) := dk_31 (dk_at dksX5_init_0 10 rfl rfl)
theorem dX5_init_11 : decode cX5_init 11 = .ok (.lload_n 3, 1) := dk_33 (dk_at dksX5_init_0 11 rfl rfl)
theorem dX5_init_12 : decode cX5_init 12 = .ok (.invokestatic 12, 3) := dk_184 0 12 (dk_at dksX5_init_0 12 rfl rfl)
theorem dX5_init_15 : decode cX5_init 15 = .ok (.lneg, 1) := dk_117 (dk_at dksX5_init_0 15 rfl rfl)
theorem dX5_init_16 : decode cX5_init 16 = .ok (.goto 8, 3) := dk_167 0 8 (dk_at dksX5_init_0 16 rfl rfl)
theorem dX5_init_19 : decode cX5_init 19 = .ok (.lload_n 1, 1) := dk_31 (dk_at dksX5_init_0 19 rfl rfl)
theorem dX5_init_20 : decode cX5_init 20 = .ok (.lload_n 3, 1) := dk_33 (dk_at dksX5_init_0 20 rfl rfl)
theorem dX5_init_21 : decode cX5_init 21 = .ok (.invokestatic 12, 3) := dk_184 0 12 (dk_at dksX5_init_0 21 rfl rfl)
theorem dX5_init_24 : decode cX5_init 24 = .ok (.lstore 5, 2) := dk_55 5 (dk_at dksX5_init_1 0 rfl rfl)
theorem dX5_init_26 : decode cX5_init 26 = .ok (.aload_n 0, 1) := dk_42 (dk_at dksX5_init_1 2 rfl rfl)
theorem dX5_init_27 : decode cX5_init 27 = .ok (.lload_n 1, 1) := dk_31 (dk_at dksX5_init_1 3 rfl rfl)
theorem dX5_init_28 : decode cX5_init 28 = .ok (.lload 5, 2) := dk_22 5 (dk_at dksX5_init_1 4 rfl rfl)
theorem dX5_init_30 : decode cX5_init 30 = .ok (.ldiv, 1) := dk_109 (dk_at dksX5_init_1 6 rfl rfl)
theorem dX5_init_31 : decode cX5_init 31 = .ok (.putfield 16, 3) := dk_181 0 16 (dk_at dksX5_init_1 7 rfl rfl)
theorem dX5_init_34 : decode cX5_init 34 = .ok (.aload_n 0, 1) := dk_42 (dk_at dksX5_init_1 10 rfl rfl)
theorem dX5_init_35 : decode cX5_init 35 = .ok (.lload_n 3, 1) := dk_33 (dk_at dksX5_init_1 11 rfl rfl)
theorem dX5_init_36 : decode cX5_init 36 = .ok (.lload 5, 2) := dk_22 5 (dk_at dksX5_init_1 12 rfl rfl)
theorem dX5_init_38 : decode cX5_init 38 = .ok (.ldiv, 1) := dk_109 (dk_at dksX5_init_1 14 rfl rfl)
theorem dX5_init_39 : decode cX5_init 39 = .ok (.putfield 20, 3) := dk_181 0 20 (dk_at dksX5_init_1 15 rfl rfl)
theorem dX5_init_42 : decode cX5_init 42 = .ok (.return_, 1) := dk_177 (dk_at dksX5_init_1 18 rfl rfl)
abbrev cX5_commonDivisor : ByteArray := prog_9_method_3_code
def yX5_commonDivisor : MethodName := ⟨RX5, "commonDivisor", "(JJ)J"⟩
def dkwX5_commonDivisor_1 : List UInt8 := [55, 8, 22, 6, 55, 4, 22, 8, 55, 6, 167, 255, 234, 22, 4, 173]
abbrev dktX5_commonDivisor_1 : List UInt8 := dkwX5_commonDivisor_1 ++ []
def dkwX5_commonDivisor_0 : List UInt8 := [30, 184, 0, 23, 55, 4, 32, 184, 0, 23, 55, 6, 22, 6, 9, 148, 153, 0, 21, 22, 4, 22, 6, 113]
abbrev dktX5_commonDivisor_0 : List UInt8 := dkwX5_commonDivisor_0 ++ dktX5_commonDivisor_1
theorem dksX5_commonDivisor_0 : cX5_commonDivisor.data.toList.drop 0 = dktX5_commonDivisor_0 := by decide +kernel
theorem dksX5_commonDivisor_1 : cX5_commonDivisor.data.toList.drop 24 = dktX5_commonDivisor_1 := dk_seg dksX5_commonDivisor_0 24 rfl rfl
theorem dX5_commonDivisor_0 : decode cX5_commonDivisor 0 = .ok (.lload_n 0, 1) := dk_30 (dk_at dksX5_commonDivisor_0 0 rfl rfl)
theorem dX5_commonDivisor_1 : decode cX5_commonDivisor 1 = .ok (.invokestatic 23, 3) := dk_184 0 23 (dk_at dksX5_commonDivisor_0 1 rfl rfl)
theorem dX5_commonDivisor_4 : decode cX5_commonDivisor 4 = .ok (.lstore 4, 2) := dk_55 4 (dk_at dksX5_commonDivisor_0 4 rfl rfl)
theorem dX5_commonDivisor_6 : decode cX5_commonDivisor 6 = .ok (.lload_n 2, 1) := dk_32 (dk_at dksX5_commonDivisor_0 6 rfl rfl)
theorem dX5_commonDivisor_7 : decode cX5_commonDivisor 7 = .ok (.invokestatic 23, 3) := dk_184 0 23 (dk_at dksX5_commonDivisor_0 7 rfl rfl)
theorem dX5_commonDivisor_10 : decode cX5_commonDivisor 10 = .ok (.lstore 6, 2) := dk_55 6 (dk_at dksX5_commonDivisor_0 10 rfl rfl)
theorem dX5_commonDivisor_12 : decode cX5_commonDivisor 12 = .ok (.lload 6, 2) := dk_22 6 (dk_at dksX5_commonDivisor_0 12 rfl rfl)
theorem dX5_commonDivisor_14 : decode cX5_commonDivisor 14 = .ok (.lconst 0, 1) := dk_9 (dk_at dksX5_commonDivisor_0 14 rfl rfl)
theorem dX5_commonDivisor_15 : decode cX5_commonDivisor 15 = .ok (.lcmp, 1) := dk_148 (dk_at dksX5_commonDivisor_0 15 rfl rfl)
theorem dX5_commonDivisor_16 : decode cX5_commonDivisor 16 = .ok (.ifCond .eq 21, 3) := dk_153 0 21 (dk_at dksX5_commonDivisor_0 16 rfl rfl)
theorem dX5_commonDivisor_19 : decode cX5_commonDivisor 19 = .ok (.lload 4, 2) := dk_22 4 (dk_at dksX5_commonDivisor_0 19 rfl rfl)
theorem dX5_commonDivisor_21 : decode cX5_commonDivisor 21 = .ok (.lload 6, 2) := dk_22 6 (dk_at dksX5_commonDivisor_0 21 rfl rfl)
theorem dX5_commonDivisor_23 : decode cX5_commonDivisor 23 = .ok (.lrem, 1) := dk_113 (dk_at dksX5_commonDivisor_0 23 rfl rfl)
theorem dX5_commonDivisor_24 : decode cX5_commonDivisor 24 = .ok (.lstore 8, 2) := dk_55 8 (dk_at dksX5_commonDivisor_1 0 rfl rfl)
theorem dX5_commonDivisor_26 : decode cX5_commonDivisor 26 = .ok (.lload 6, 2) := dk_22 6 (dk_at dksX5_commonDivisor_1 2 rfl rfl)
theorem dX5_commonDivisor_28 : decode cX5_commonDivisor 28 = .ok (.lstore 4, 2) := dk_55 4 (dk_at dksX5_commonDivisor_1 4 rfl rfl)
theorem dX5_commonDivisor_30 : decode cX5_commonDivisor 30 = .ok (.lload 8, 2) := dk_22 8 (dk_at dksX5_commonDivisor_1 6 rfl rfl)
theorem dX5_commonDivisor_32 : decode cX5_commonDivisor 32 = .ok (.lstore 6, 2) := dk_55 6 (dk_at dksX5_commonDivisor_1 8 rfl rfl)
theorem dX5_commonDivisor_34 : decode cX5_commonDivisor 34 = .ok (.goto (-22), 3) := dk_167 255 234 (dk_at dksX5_commonDivisor_1 10 rfl rfl)
theorem dX5_commonDivisor_37 : decode cX5_commonDivisor 37 = .ok (.lload 4, 2) := dk_22 4 (dk_at dksX5_commonDivisor_1 13 rfl rfl)
theorem dX5_commonDivisor_39 : decode cX5_commonDivisor 39 = .ok (.lreturn, 1) := dk_173 (dk_at dksX5_commonDivisor_1 15 rfl rfl)
abbrev cX5_compareTo : ByteArray := prog_9_method_5_code
def yX5_compareTo : MethodName := ⟨RX5, "compareTo", "(LRatioGraph$Fraction;)I"⟩
def dkwX5_compareTo_6 : List UInt8 := [21, 10, 116, 54, 10, 167, 255, 133]
abbrev dktX5_compareTo_6 : List UInt8 := dkwX5_compareTo_6 ++ []
def dkwX5_compareTo_5 : List UInt8 := [21, 10, 116, 167, 0, 5, 21, 10, 172, 22, 4, 65, 22, 15, 55, 4, 22, 8, 55, 6, 22, 17, 55, 8]
abbrev dktX5_compareTo_5 : List UInt8 := dkwX5_compareTo_5 ++ dktX5_compareTo_6
def dkwX5_compareTo_4 : List UInt8 := [9, 148, 154, 0, 31, 22, 15, 22, 17, 148, 154, 0, 7, 3, 167, 0, 18, 22, 15, 9, 148, 154, 0, 9]
abbrev dktX5_compareTo_4 : List UInt8 := dkwX5_compareTo_4 ++ dktX5_compareTo_5
def dkwX5_compareTo_3 : List UInt8 := [22, 13, 148, 156, 0, 9, 21, 10, 116, 167, 0, 5, 21, 10, 172, 22, 15, 9, 148, 153, 0, 10, 22, 17]
abbrev dktX5_compareTo_3 : List UInt8 := dkwX5_compareTo_3 ++ dktX5_compareTo_4
def dkwX5_compareTo_2 : List UInt8 := [105, 101, 55, 15, 22, 6, 22, 13, 22, 8, 105, 101, 55, 17, 22, 11, 22, 13, 148, 153, 0, 20, 22, 11]
abbrev dktX5_compareTo_2 : List UInt8 := dkwX5_compareTo_2 ++ dktX5_compareTo_3
def dkwX5_compareTo_1 : List UInt8 := [54, 10, 32, 22, 4, 184, 0, 29, 55, 11, 22, 6, 22, 8, 184, 0, 29, 55, 13, 32, 22, 11, 22, 4]
abbrev dktX5_compareTo_1 : List UInt8 := dkwX5_compareTo_1 ++ dktX5_compareTo_2
def dkwX5_compareTo_0 : List UInt8 := [42, 180, 0, 16, 65, 42, 180, 0, 20, 55, 4, 43, 180, 0, 16, 55, 6, 43, 180, 0, 20, 55, 8, 4]
abbrev dktX5_compareTo_0 : List UInt8 := dkwX5_compareTo_0 ++ dktX5_compareTo_1
theorem dksX5_compareTo_0 : cX5_compareTo.data.toList.drop 0 = dktX5_compareTo_0 := by decide +kernel
theorem dksX5_compareTo_1 : cX5_compareTo.data.toList.drop 24 = dktX5_compareTo_1 := dk_seg dksX5_compareTo_0 24 rfl rfl
theorem dksX5_compareTo_2 : cX5_compareTo.data.toList.drop 48 = dktX5_compareTo_2 := dk_seg dksX5_compareTo_1 24 rfl rfl
theorem dksX5_compareTo_3 : cX5_compareTo.data.toList.drop 72 = dktX5_compareTo_3 := dk_seg dksX5_compareTo_2 24 rfl rfl
theorem dksX5_compareTo_4 : cX5_compareTo.data.toList.drop 96 = dktX5_compareTo_4 := dk_seg dksX5_compareTo_3 24 rfl rfl
theorem dksX5_compareTo_5 : cX5_compareTo.data.toList.drop 120 = dktX5_compareTo_5 := dk_seg dksX5_compareTo_4 24 rfl rfl
theorem dksX5_compareTo_6 : cX5_compareTo.data.toList.drop 144 = dktX5_compareTo_6 := dk_seg dksX5_compareTo_5 24 rfl rfl
theorem dX5_compareTo_0 : decode cX5_compareTo 0 = .ok (.aload_n 0, 1) := dk_42 (dk_at dksX5_compareTo_0 0 rfl rfl)
theorem dX5_compareTo_1 : decode cX5_compareTo 1 = .ok (.getfield 16, 3) := dk_180 0 16 (dk_at dksX5_compareTo_0 1 rfl rfl)
theorem dX5_compareTo_4 : decode cX5_compareTo 4 = .ok (.lstore_n 2, 1) := dk_65 (dk_at dksX5_compareTo_0 4 rfl rfl)
theorem dX5_compareTo_5 : decode cX5_compareTo 5 = .ok (.aload_n 0, 1) := dk_42 (dk_at dksX5_compareTo_0 5 rfl rfl)
theorem dX5_compareTo_6 : decode cX5_compareTo 6 = .ok (.getfield 20, 3) := dk_180 0 20 (dk_at dksX5_compareTo_0 6 rfl rfl)
theorem dX5_compareTo_9 : decode cX5_compareTo 9 = .ok (.lstore 4, 2) := dk_55 4 (dk_at dksX5_compareTo_0 9 rfl rfl)
theorem dX5_compareTo_11 : decode cX5_compareTo 11 = .ok (.aload_n 1, 1) := dk_43 (dk_at dksX5_compareTo_0 11 rfl rfl)
theorem dX5_compareTo_12 : decode cX5_compareTo 12 = .ok (.getfield 16, 3) := dk_180 0 16 (dk_at dksX5_compareTo_0 12 rfl rfl)
theorem dX5_compareTo_15 : decode cX5_compareTo 15 = .ok (.lstore 6, 2) := dk_55 6 (dk_at dksX5_compareTo_0 15 rfl rfl)
theorem dX5_compareTo_17 : decode cX5_compareTo 17 = .ok (.aload_n 1, 1) := dk_43 (dk_at dksX5_compareTo_0 17 rfl rfl)
theorem dX5_compareTo_18 : decode cX5_compareTo 18 = .ok (.getfield 20, 3) := dk_180 0 20 (dk_at dksX5_compareTo_0 18 rfl rfl)
theorem dX5_compareTo_21 : decode cX5_compareTo 21 = .ok (.lstore 8, 2) := dk_55 8 (dk_at dksX5_compareTo_0 21 rfl rfl)
theorem dX5_compareTo_23 : decode cX5_compareTo 23 = .ok (.iconst 1, 1) := dk_4 (dk_at dksX5_compareTo_0 23 rfl rfl)
theorem dX5_compareTo_24 : decode cX5_compareTo 24 = .ok (.istore 10, 2) := dk_54 10 (dk_at dksX5_compareTo_1 0 rfl rfl)
theorem dX5_compareTo_26 : decode cX5_compareTo 26 = .ok (.lload_n 2, 1) := dk_32 (dk_at dksX5_compareTo_1 2 rfl rfl)
theorem dX5_compareTo_27 : decode cX5_compareTo 27 = .ok (.lload 4, 2) := dk_22 4 (dk_at dksX5_compareTo_1 3 rfl rfl)
theorem dX5_compareTo_29 : decode cX5_compareTo 29 = .ok (.invokestatic 29, 3) := dk_184 0 29 (dk_at dksX5_compareTo_1 5 rfl rfl)
theorem dX5_compareTo_32 : decode cX5_compareTo 32 = .ok (.lstore 11, 2) := dk_55 11 (dk_at dksX5_compareTo_1 8 rfl rfl)
theorem dX5_compareTo_34 : decode cX5_compareTo 34 = .ok (.lload 6, 2) := dk_22 6 (dk_at dksX5_compareTo_1 10 rfl rfl)
theorem dX5_compareTo_36 : decode cX5_compareTo 36 = .ok (.lload 8, 2) := dk_22 8 (dk_at dksX5_compareTo_1 12 rfl rfl)
theorem dX5_compareTo_38 : decode cX5_compareTo 38 = .ok (.invokestatic 29, 3) := dk_184 0 29 (dk_at dksX5_compareTo_1 14 rfl rfl)
theorem dX5_compareTo_41 : decode cX5_compareTo 41 = .ok (.lstore 13, 2) := dk_55 13 (dk_at dksX5_compareTo_1 17 rfl rfl)
theorem dX5_compareTo_43 : decode cX5_compareTo 43 = .ok (.lload_n 2, 1) := dk_32 (dk_at dksX5_compareTo_1 19 rfl rfl)
theorem dX5_compareTo_44 : decode cX5_compareTo 44 = .ok (.lload 11, 2) := dk_22 11 (dk_at dksX5_compareTo_1 20 rfl rfl)
theorem dX5_compareTo_46 : decode cX5_compareTo 46 = .ok (.lload 4, 2) := dk_22 4 (dk_at dksX5_compareTo_1 22 rfl rfl)
theorem dX5_compareTo_48 : decode cX5_compareTo 48 = .ok (.lmul, 1) := dk_105 (dk_at dksX5_compareTo_2 0 rfl rfl)
theorem dX5_compareTo_49 : decode cX5_compareTo 49 = .ok (.lsub, 1) := dk_101 (dk_at dksX5_compareTo_2 1 rfl rfl)
theorem dX5_compareTo_50 : decode cX5_compareTo 50 = .ok (.lstore 15, 2) := dk_55 15 (dk_at dksX5_compareTo_2 2 rfl rfl)
theorem dX5_compareTo_52 : decode cX5_compareTo 52 = .ok (.lload 6, 2) := dk_22 6 (dk_at dksX5_compareTo_2 4 rfl rfl)
theorem dX5_compareTo_54 : decode cX5_compareTo 54 = .ok (.lload 13, 2) := dk_22 13 (dk_at dksX5_compareTo_2 6 rfl rfl)
theorem dX5_compareTo_56 : decode cX5_compareTo 56 = .ok (.lload 8, 2) := dk_22 8 (dk_at dksX5_compareTo_2 8 rfl rfl)
theorem dX5_compareTo_58 : decode cX5_compareTo 58 = .ok (.lmul, 1) := dk_105 (dk_at dksX5_compareTo_2 10 rfl rfl)
theorem dX5_compareTo_59 : decode cX5_compareTo 59 = .ok (.lsub, 1) := dk_101 (dk_at dksX5_compareTo_2 11 rfl rfl)
theorem dX5_compareTo_60 : decode cX5_compareTo 60 = .ok (.lstore 17, 2) := dk_55 17 (dk_at dksX5_compareTo_2 12 rfl rfl)
theorem dX5_compareTo_62 : decode cX5_compareTo 62 = .ok (.lload 11, 2) := dk_22 11 (dk_at dksX5_compareTo_2 14 rfl rfl)
theorem dX5_compareTo_64 : decode cX5_compareTo 64 = .ok (.lload 13, 2) := dk_22 13 (dk_at dksX5_compareTo_2 16 rfl rfl)
theorem dX5_compareTo_66 : decode cX5_compareTo 66 = .ok (.lcmp, 1) := dk_148 (dk_at dksX5_compareTo_2 18 rfl rfl)
theorem dX5_compareTo_67 : decode cX5_compareTo 67 = .ok (.ifCond .eq 20, 3) := dk_153 0 20 (dk_at dksX5_compareTo_2 19 rfl rfl)
theorem dX5_compareTo_70 : decode cX5_compareTo 70 = .ok (.lload 11, 2) := dk_22 11 (dk_at dksX5_compareTo_2 22 rfl rfl)
theorem dX5_compareTo_72 : decode cX5_compareTo 72 = .ok (.lload 13, 2) := dk_22 13 (dk_at dksX5_compareTo_3 0 rfl rfl)
theorem dX5_compareTo_74 : decode cX5_compareTo 74 = .ok (.lcmp, 1) := dk_148 (dk_at dksX5_compareTo_3 2 rfl rfl)
theorem dX5_compareTo_75 : decode cX5_compareTo 75 = .ok (.ifCond .ge 9, 3) := dk_156 0 9 (dk_at dksX5_compareTo_3 3 rfl rfl)
theorem dX5_compareTo_78 : decode cX5_compareTo 78 = .ok (.iload 10, 2) := dk_21 10 (dk_at dksX5_compareTo_3 6 rfl rfl)
theorem dX5_compareTo_80 : decode cX5_compareTo 80 = .ok (.ineg, 1) := dk_116 (dk_at dksX5_compareTo_3 8 rfl rfl)
theorem dX5_compareTo_81 : decode cX5_compareTo 81 = .ok (.goto 5, 3) := dk_167 0 5 (dk_at dksX5_compareTo_3 9 rfl rfl)
theorem dX5_compareTo_84 : decode cX5_compareTo 84 = .ok (.iload 10, 2) := dk_21 10 (dk_at dksX5_compareTo_3 12 rfl rfl)
theorem dX5_compareTo_86 : decode cX5_compareTo 86 = .ok (.ireturn, 1) := dk_172 (dk_at dksX5_compareTo_3 14 rfl rfl)
theorem dX5_compareTo_87 : decode cX5_compareTo 87 = .ok (.lload 15, 2) := dk_22 15 (dk_at dksX5_compareTo_3 15 rfl rfl)
theorem dX5_compareTo_89 : decode cX5_compareTo 89 = .ok (.lconst 0, 1) := dk_9 (dk_at dksX5_compareTo_3 17 rfl rfl)
theorem dX5_compareTo_90 : decode cX5_compareTo 90 = .ok (.lcmp, 1) := dk_148 (dk_at dksX5_compareTo_3 18 rfl rfl)
theorem dX5_compareTo_91 : decode cX5_compareTo 91 = .ok (.ifCond .eq 10, 3) := dk_153 0 10 (dk_at dksX5_compareTo_3 19 rfl rfl)
theorem dX5_compareTo_94 : decode cX5_compareTo 94 = .ok (.lload 17, 2) := dk_22 17 (dk_at dksX5_compareTo_3 22 rfl rfl)
theorem dX5_compareTo_96 : decode cX5_compareTo 96 = .ok (.lconst 0, 1) := dk_9 (dk_at dksX5_compareTo_4 0 rfl rfl)
theorem dX5_compareTo_97 : decode cX5_compareTo 97 = .ok (.lcmp, 1) := dk_148 (dk_at dksX5_compareTo_4 1 rfl rfl)
theorem dX5_compareTo_98 : decode cX5_compareTo 98 = .ok (.ifCond .ne 31, 3) := dk_154 0 31 (dk_at dksX5_compareTo_4 2 rfl rfl)
theorem dX5_compareTo_101 : decode cX5_compareTo 101 = .ok (.lload 15, 2) := dk_22 15 (dk_at dksX5_compareTo_4 5 rfl rfl)
theorem dX5_compareTo_103 : decode cX5_compareTo 103 = .ok (.lload 17, 2) := dk_22 17 (dk_at dksX5_compareTo_4 7 rfl rfl)
theorem dX5_compareTo_105 : decode cX5_compareTo 105 = .ok (.lcmp, 1) := dk_148 (dk_at dksX5_compareTo_4 9 rfl rfl)
theorem dX5_compareTo_106 : decode cX5_compareTo 106 = .ok (.ifCond .ne 7, 3) := dk_154 0 7 (dk_at dksX5_compareTo_4 10 rfl rfl)
theorem dX5_compareTo_109 : decode cX5_compareTo 109 = .ok (.iconst 0, 1) := dk_3 (dk_at dksX5_compareTo_4 13 rfl rfl)
theorem dX5_compareTo_110 : decode cX5_compareTo 110 = .ok (.goto 18, 3) := dk_167 0 18 (dk_at dksX5_compareTo_4 14 rfl rfl)
theorem dX5_compareTo_113 : decode cX5_compareTo 113 = .ok (.lload 15, 2) := dk_22 15 (dk_at dksX5_compareTo_4 17 rfl rfl)
theorem dX5_compareTo_115 : decode cX5_compareTo 115 = .ok (.lconst 0, 1) := dk_9 (dk_at dksX5_compareTo_4 19 rfl rfl)
theorem dX5_compareTo_116 : decode cX5_compareTo 116 = .ok (.lcmp, 1) := dk_148 (dk_at dksX5_compareTo_4 20 rfl rfl)
theorem dX5_compareTo_117 : decode cX5_compareTo 117 = .ok (.ifCond .ne 9, 3) := dk_154 0 9 (dk_at dksX5_compareTo_4 21 rfl rfl)
theorem dX5_compareTo_120 : decode cX5_compareTo 120 = .ok (.iload 10, 2) := dk_21 10 (dk_at dksX5_compareTo_5 0 rfl rfl)
theorem dX5_compareTo_122 : decode cX5_compareTo 122 = .ok (.ineg, 1) := dk_116 (dk_at dksX5_compareTo_5 2 rfl rfl)
theorem dX5_compareTo_123 : decode cX5_compareTo 123 = .ok (.goto 5, 3) := dk_167 0 5 (dk_at dksX5_compareTo_5 3 rfl rfl)
theorem dX5_compareTo_126 : decode cX5_compareTo 126 = .ok (.iload 10, 2) := dk_21 10 (dk_at dksX5_compareTo_5 6 rfl rfl)
theorem dX5_compareTo_128 : decode cX5_compareTo 128 = .ok (.ireturn, 1) := dk_172 (dk_at dksX5_compareTo_5 8 rfl rfl)
theorem dX5_compareTo_129 : decode cX5_compareTo 129 = .ok (.lload 4, 2) := dk_22 4 (dk_at dksX5_compareTo_5 9 rfl rfl)
theorem dX5_compareTo_131 : decode cX5_compareTo 131 = .ok (.lstore_n 2, 1) := dk_65 (dk_at dksX5_compareTo_5 11 rfl rfl)
theorem dX5_compareTo_132 : decode cX5_compareTo 132 = .ok (.lload 15, 2) := dk_22 15 (dk_at dksX5_compareTo_5 12 rfl rfl)
theorem dX5_compareTo_134 : decode cX5_compareTo 134 = .ok (.lstore 4, 2) := dk_55 4 (dk_at dksX5_compareTo_5 14 rfl rfl)
theorem dX5_compareTo_136 : decode cX5_compareTo 136 = .ok (.lload 8, 2) := dk_22 8 (dk_at dksX5_compareTo_5 16 rfl rfl)
theorem dX5_compareTo_138 : decode cX5_compareTo 138 = .ok (.lstore 6, 2) := dk_55 6 (dk_at dksX5_compareTo_5 18 rfl rfl)
theorem dX5_compareTo_140 : decode cX5_compareTo 140 = .ok (.lload 17, 2) := dk_22 17 (dk_at dksX5_compareTo_5 20 rfl rfl)
theorem dX5_compareTo_142 : decode cX5_compareTo 142 = .ok (.lstore 8, 2) := dk_55 8 (dk_at dksX5_compareTo_5 22 rfl rfl)
theorem dX5_compareTo_144 : decode cX5_compareTo 144 = .ok (.iload 10, 2) := dk_21 10 (dk_at dksX5_compareTo_6 0 rfl rfl)
theorem dX5_compareTo_146 : decode cX5_compareTo 146 = .ok (.ineg, 1) := dk_116 (dk_at dksX5_compareTo_6 2 rfl rfl)
theorem dX5_compareTo_147 : decode cX5_compareTo 147 = .ok (.istore 10, 2) := dk_54 10 (dk_at dksX5_compareTo_6 3 rfl rfl)
theorem dX5_compareTo_149 : decode cX5_compareTo 149 = .ok (.goto (-123), 3) := dk_167 255 133 (dk_at dksX5_compareTo_6 5 rfl rfl)
abbrev cX5_init_2 : ByteArray := prog_9_method_1_code
def yX5_init_2 : MethodName := ⟨RX5, "<init>", "(J)V"⟩
def dkwX5_init_2_0 : List UInt8 := [42, 31, 10, 183, 0, 1, 177]
abbrev dktX5_init_2_0 : List UInt8 := dkwX5_init_2_0 ++ []
theorem dksX5_init_2_0 : cX5_init_2.data.toList.drop 0 = dktX5_init_2_0 := by decide +kernel
theorem dX5_init_2_0 : decode cX5_init_2 0 = .ok (.aload_n 0, 1) := dk_42 (dk_at dksX5_init_2_0 0 rfl rfl)
theorem dX5_init_2_1 : decode cX5_init_2 1 = .ok (.lload_n 1, 1) := dk_31 (dk_at dksX5_init_2_0 1 rfl rfl)
theorem dX5_init_2_2 : decode cX5_init_2 2 = .ok (.lconst 1, 1) := dk_10 (dk_at dksX5_init_2_0 2 rfl rfl)
theorem dX5_init_2_3 : decode cX5_init_2 3 = .ok (.invokespecial 1, 3) := dk_183 0 1 (dk_at dksX5_init_2_0 3 rfl rfl)
theorem dX5_init_2_6 : decode cX5_init_2 6 = .ok (.return_, 1) := dk_177 (dk_at dksX5_init_2_0 6 rfl rfl)
abbrev cX5_times : ByteArray := prog_9_method_4_code
def yX5_times : MethodName := ⟨RX5, "times", "(JJ)LRatioGraph$Fraction;"⟩
def dkwX5_times_0 : List UInt8 := [187, 0, 2, 89, 42, 180, 0, 16, 31, 105, 42, 180, 0, 20, 33, 105, 183, 0, 1, 176]
abbrev dktX5_times_0 : List UInt8 := dkwX5_times_0 ++ []
theorem dksX5_times_0 : cX5_times.data.toList.drop 0 = dktX5_times_0 := by decide +kernel
theorem dX5_times_0 : decode cX5_times 0 = .ok (.new 2, 3) := dk_187 0 2 (dk_at dksX5_times_0 0 rfl rfl)
theorem dX5_times_3 : decode cX5_times 3 = .ok (.dup, 1) := dk_89 (dk_at dksX5_times_0 3 rfl rfl)
theorem dX5_times_4 : decode cX5_times 4 = .ok (.aload_n 0, 1) := dk_42 (dk_at dksX5_times_0 4 rfl rfl)
theorem dX5_times_5 : decode cX5_times 5 = .ok (.getfield 16, 3) := dk_180 0 16 (dk_at dksX5_times_0 5 rfl rfl)
theorem dX5_times_8 : decode cX5_times 8 = .ok (.lload_n 1, 1) := dk_31 (dk_at dksX5_times_0 8 rfl rfl)
theorem dX5_times_9 : decode cX5_times 9 = .ok (.lmul, 1) := dk_105 (dk_at dksX5_times_0 9 rfl rfl)
theorem dX5_times_10 : decode cX5_times 10 = .ok (.aload_n 0, 1) := dk_42 (dk_at dksX5_times_0 10 rfl rfl)
theorem dX5_times_11 : decode cX5_times 11 = .ok (.getfield 20, 3) := dk_180 0 20 (dk_at dksX5_times_0 11 rfl rfl)
theorem dX5_times_14 : decode cX5_times 14 = .ok (.lload_n 3, 1) := dk_33 (dk_at dksX5_times_0 14 rfl rfl)
theorem dX5_times_15 : decode cX5_times 15 = .ok (.lmul, 1) := dk_105 (dk_at dksX5_times_0 15 rfl rfl)
theorem dX5_times_16 : decode cX5_times 16 = .ok (.invokespecial 1, 3) := dk_183 0 1 (dk_at dksX5_times_0 16 rfl rfl)
theorem dX5_times_19 : decode cX5_times 19 = .ok (.areturn, 1) := dk_176 (dk_at dksX5_times_0 19 rfl rfl)
theorem q84 : (Jvm.Cond.initialized "RatioGraph$Fraction") ∈ lw_all := lw_g (lw_at lw_m1 20 rfl) rfl
theorem q271 : (Jvm.Cond.selects "RatioGraph$Fraction" ({ cls := "java/lang/Object", name := "getClass", desc := "()Ljava/lang/Class;" } : Jvm.MethodName) ({ cls := "java/lang/Object", name := "getClass", desc := "()Ljava/lang/Class;" } : Jvm.MethodName)) ∈ lw_all := lw_g (lw_at lw_m1 207 rfl) rfl
theorem q674 : (Jvm.Cond.instantiable "RatioGraph$Fraction" (2 : Nat)) ∈ lw_all := lw_g (lw_at lw_m3 130 rfl) rfl
theorem q676 : (Jvm.Cond.instanceMethod ({ cls := "RatioGraph$Fraction", name := "<init>", desc := "(JJ)V" } : Jvm.MethodName)) ∈ lw_all := lw_g (lw_at lw_m3 132 rfl) rfl
theorem q677 : (Jvm.Cond.code ({ cls := "RatioGraph$Fraction", name := "<init>", desc := "(JJ)V" } : Jvm.MethodName) prog_9_method_2_code (7 : Nat) (Option.none : Option Jvm.ClassFile.FieldType)) ∈ lw_all := lw_g (lw_at lw_m3 133 rfl) rfl
theorem q678 : (Jvm.Cond.methodLink "RatioGraph$Fraction" (7 : Nat) ({ cls := "java/lang/Object", name := "<init>", desc := "()V" } : Jvm.MethodName)) ∈ lw_all := lw_g (lw_at lw_m3 134 rfl) rfl
theorem q679 : (Jvm.Cond.methodLink "RatioGraph$Fraction" (12 : Nat) ({ cls := "RatioGraph$Fraction", name := "commonDivisor", desc := "(JJ)J" } : Jvm.MethodName)) ∈ lw_all := lw_g (lw_at lw_m3 135 rfl) rfl
theorem q680 : (Jvm.Cond.static ({ cls := "RatioGraph$Fraction", name := "commonDivisor", desc := "(JJ)J" } : Jvm.MethodName)) ∈ lw_all := lw_g (lw_at lw_m3 136 rfl) rfl
theorem q681 : (Jvm.Cond.code ({ cls := "RatioGraph$Fraction", name := "commonDivisor", desc := "(JJ)J" } : Jvm.MethodName) prog_9_method_3_code (10 : Nat) (Option.some Jvm.ClassFile.FieldType.long)) ∈ lw_all := lw_g (lw_at lw_m3 137 rfl) rfl
theorem q682 : (Jvm.Cond.methodLink "RatioGraph$Fraction" (23 : Nat) ({ cls := "java/lang/Math", name := "abs", desc := "(J)J" } : Jvm.MethodName)) ∈ lw_all := lw_g (lw_at lw_m3 138 rfl) rfl
theorem q686 : (Jvm.Cond.fieldLink "RatioGraph$Fraction" (16 : Nat) "RatioGraph$Fraction" "n" "J") ∈ lw_all := lw_g (lw_at lw_m3 142 rfl) rfl
theorem q693 : (Jvm.Cond.fieldLink "RatioGraph$Fraction" (20 : Nat) "RatioGraph$Fraction" "d" "J") ∈ lw_all := lw_g (lw_at lw_m3 149 rfl) rfl
theorem q699 : (Jvm.Cond.laysFinal "RatioGraph$Fraction" "RatioGraph$Fraction" "n" "J") ∈ lw_all := lw_g (lw_at lw_m3 155 rfl) rfl
theorem q700 : (Jvm.Cond.soleField "RatioGraph$Fraction" "n") ∈ lw_all := lw_g (lw_at lw_m3 156 rfl) rfl
theorem q701 : (Jvm.Cond.laysFinal "RatioGraph$Fraction" "RatioGraph$Fraction" "d" "J") ∈ lw_all := lw_g (lw_at lw_m3 157 rfl) rfl
theorem q702 : (Jvm.Cond.soleField "RatioGraph$Fraction" "d") ∈ lw_all := lw_g (lw_at lw_m3 158 rfl) rfl
theorem q703 : (Jvm.Cond.superclass "RatioGraph$Fraction" "java/lang/Object") ∈ lw_all := lw_g (lw_at lw_m3 159 rfl) rfl
theorem q706 : (Jvm.Cond.instanceMethod ({ cls := "RatioGraph$Fraction", name := "compareTo", desc := "(LRatioGraph$Fraction;)I" } : Jvm.MethodName)) ∈ lw_all := lw_g (lw_at lw_m3 162 rfl) rfl
theorem q707 : (Jvm.Cond.selects "RatioGraph$Fraction" ({ cls := "RatioGraph$Fraction", name := "compareTo", desc := "(LRatioGraph$Fraction;)I" } : Jvm.MethodName) ({ cls := "RatioGraph$Fraction", name := "compareTo", desc := "(LRatioGraph$Fraction;)I" } : Jvm.MethodName)) ∈ lw_all := lw_g (lw_at lw_m3 163 rfl) rfl
theorem q708 : (Jvm.Cond.code ({ cls := "RatioGraph$Fraction", name := "compareTo", desc := "(LRatioGraph$Fraction;)I" } : Jvm.MethodName) prog_9_method_5_code (19 : Nat) (Option.some Jvm.ClassFile.FieldType.int)) ∈ lw_all := lw_g (lw_at lw_m3 164 rfl) rfl
theorem q709 : (Jvm.Cond.methodLink "RatioGraph$Fraction" (29 : Nat) ({ cls := "java/lang/Math", name := "floorDiv", desc := "(JJ)J" } : Jvm.MethodName)) ∈ lw_all := lw_g (lw_at lw_m3 165 rfl) rfl
theorem q879 : (Jvm.Cond.instanceMethod ({ cls := "RatioGraph$Fraction", name := "<init>", desc := "(J)V" } : Jvm.MethodName)) ∈ lw_all := lw_g (lw_at lw_m4 95 rfl) rfl
theorem q880 : (Jvm.Cond.code ({ cls := "RatioGraph$Fraction", name := "<init>", desc := "(J)V" } : Jvm.MethodName) prog_9_method_1_code (3 : Nat) (Option.none : Option Jvm.ClassFile.FieldType)) ∈ lw_all := lw_g (lw_at lw_m4 96 rfl) rfl
theorem q881 : (Jvm.Cond.methodLink "RatioGraph$Fraction" (1 : Nat) ({ cls := "RatioGraph$Fraction", name := "<init>", desc := "(JJ)V" } : Jvm.MethodName)) ∈ lw_all := lw_g (lw_at lw_m4 97 rfl) rfl
theorem q883 : (Jvm.Cond.instanceMethod ({ cls := "RatioGraph$Fraction", name := "times", desc := "(JJ)LRatioGraph$Fraction;" } : Jvm.MethodName)) ∈ lw_all := lw_g (lw_at lw_m4 99 rfl) rfl
theorem q884 : (Jvm.Cond.selects "RatioGraph$Fraction" ({ cls := "RatioGraph$Fraction", name := "times", desc := "(JJ)LRatioGraph$Fraction;" } : Jvm.MethodName) ({ cls := "RatioGraph$Fraction", name := "times", desc := "(JJ)LRatioGraph$Fraction;" } : Jvm.MethodName)) ∈ lw_all := lw_g (lw_at lw_m4 100 rfl) rfl
theorem q885 : (Jvm.Cond.code ({ cls := "RatioGraph$Fraction", name := "times", desc := "(JJ)LRatioGraph$Fraction;" } : Jvm.MethodName) prog_9_method_4_code (5 : Nat) (Option.some (Jvm.ClassFile.FieldType.object "RatioGraph$Fraction"))) ∈ lw_all := lw_g (lw_at lw_m4 101 rfl) rfl
theorem q886 : (Jvm.Cond.classLink "RatioGraph$Fraction" (2 : Nat) "RatioGraph$Fraction") ∈ lw_all := lw_g (lw_at lw_m4 102 rfl) rfl
theorem q1803 : (Jvm.Cond.castable "RatioGraph$Fraction" "java/lang/Object") ∈ lw_tbl := lw_at lw_m8 59 rfl
theorem in_X5 : ∀ w ∈ wsX50, w ∈ lw_all := lw_in wsX50 [699, 701] (by decide +kernel) (by decide +kernel)

/-! RatioGraph$Potentials -/
set_option maxRecDepth 100000
def RX6 : String := "RatioGraph$Potentials"
def TX6 : u_T := fun k => match k with
  | 0 => ("RatioGraph$Potentials", "sums", "[J", true)
  | 1 => ("RatioGraph$Potentials", "value", "LRatioGraph$Fraction;", true)
  | 2 => ("RatioGraph$Potentials", "byTime", "Z", true)
  | _ => ("RatioGraph$Potentials", "this$0", "LRatioGraph;", true)
def tyX6 : Nat → FieldType := fun k => match k with
  | 0 => .array .long
  | 1 => .object "RatioGraph$Fraction"
  | 2 => .boolean
  | _ => .object "RatioGraph"
abbrev wsX60 : List Cond := u_ws RX6 TX6 4
theorem nmX6 : ∀ a, a < 4 → ∀ b, b < 4 → a ≠ b → (TX6 a).2.1 ≠ (TX6 b).2.1 := by decide +kernel
theorem tyX6_ok : ∀ k, k < 4 → parseFieldDescriptor (TX6 k).2.2.1 = some (tyX6 k) := by decide +kernel
abbrev cX6_init : ByteArray := prog_15_method_1_code
def yX6_init : MethodName := ⟨RX6, "<init>", "(LRatioGraph;LRatioGraph$Fraction;Z)V"⟩
def dkwX6_init_1 : List UInt8 := [181, 0, 23, 177]
abbrev dktX6_init_1 : List UInt8 := dkwX6_init_1 ++ []
def dkwX6_init_0 : List UInt8 := [42, 43, 181, 0, 3, 42, 183, 0, 9, 42, 16, 8, 188, 11, 181, 0, 15, 42, 44, 181, 0, 19, 42, 29]
abbrev dktX6_init_0 : List UInt8 := dkwX6_init_0 ++ dktX6_init_1
theorem dksX6_init_0 : cX6_init.data.toList.drop 0 = dktX6_init_0 := by decide +kernel
theorem dksX6_init_1 : cX6_init.data.toList.drop 24 = dktX6_init_1 := dk_seg dksX6_init_0 24 rfl rfl
theorem dX6_init_0 : decode cX6_init 0 = .ok (.aload_n 0, 1) := dk_42 (dk_at dksX6_init_0 0 rfl rfl)
theorem dX6_init_1 : decode cX6_init 1 = .ok (.aload_n 1, 1) := dk_43 (dk_at dksX6_init_0 1 rfl rfl)
theorem dX6_init_2 : decode cX6_init 2 = .ok (.putfield 3, 3) := dk_181 0 3 (dk_at dksX6_init_0 2 rfl rfl)
theorem dX6_init_5 : decode cX6_init 5 = .ok (.aload_n 0, 1) := dk_42 (dk_at dksX6_init_0 5 rfl rfl)
theorem dX6_init_6 : decode cX6_init 6 = .ok (.invokespecial 9, 3) := dk_183 0 9 (dk_at dksX6_init_0 6 rfl rfl)
theorem dX6_init_9 : decode cX6_init 9 = .ok (.aload_n 0, 1) := dk_42 (dk_at dksX6_init_0 9 rfl rfl)
theorem dX6_init_10 : decode cX6_init 10 = .ok (.bipush 8, 2) := dk_16 8 (dk_at dksX6_init_0 10 rfl rfl)
theorem dX6_init_12 : decode cX6_init 12 = .ok (.newarray .long, 2) := dk_188_11 (dk_at dksX6_init_0 12 rfl rfl)
theorem dX6_init_14 : decode cX6_init 14 = .ok (.putfield 15, 3) := dk_181 0 15 (dk_at dksX6_init_0 14 rfl rfl)
theorem dX6_init_17 : decode cX6_init 17 = .ok (.aload_n 0, 1) := dk_42 (dk_at dksX6_init_0 17 rfl rfl)
theorem dX6_init_18 : decode cX6_init 18 = .ok (.aload_n 2, 1) := dk_44 (dk_at dksX6_init_0 18 rfl rfl)
theorem dX6_init_19 : decode cX6_init 19 = .ok (.putfield 19, 3) := dk_181 0 19 (dk_at dksX6_init_0 19 rfl rfl)
theorem dX6_init_22 : decode cX6_init 22 = .ok (.aload_n 0, 1) := dk_42 (dk_at dksX6_init_0 22 rfl rfl)
theorem dX6_init_23 : decode cX6_init 23 = .ok (.iload_n 3, 1) := dk_29 (dk_at dksX6_init_0 23 rfl rfl)
theorem dX6_init_24 : decode cX6_init 24 = .ok (.putfield 23, 3) := dk_181 0 23 (dk_at dksX6_init_1 0 rfl rfl)
theorem dX6_init_27 : decode cX6_init 27 = .ok (.return_, 1) := dk_177 (dk_at dksX6_init_1 3 rfl rfl)
abbrev cX6_settle : ByteArray := prog_15_method_4_code
def yX6_settle : MethodName := ⟨RX6, "settle", "()Z"⟩
def dkwX6_settle_1 : List UInt8 := [167, 255, 238, 27, 154, 0, 7, 4, 167, 0, 4, 3, 172]
abbrev dktX6_settle_1 : List UInt8 := dkwX6_settle_1 ++ []
def dkwX6_settle_0 : List UInt8 := [4, 60, 3, 61, 28, 16, 8, 163, 0, 18, 27, 153, 0, 14, 42, 182, 0, 75, 60, 132, 2, 1]
abbrev dktX6_settle_0 : List UInt8 := dkwX6_settle_0 ++ dktX6_settle_1
theorem dksX6_settle_0 : cX6_settle.data.toList.drop 0 = dktX6_settle_0 := by decide +kernel
theorem dksX6_settle_1 : cX6_settle.data.toList.drop 22 = dktX6_settle_1 := dk_seg dksX6_settle_0 22 rfl rfl
theorem dX6_settle_0 : decode cX6_settle 0 = .ok (.iconst 1, 1) := dk_4 (dk_at dksX6_settle_0 0 rfl rfl)
theorem dX6_settle_1 : decode cX6_settle 1 = .ok (.istore_n 1, 1) := dk_60 (dk_at dksX6_settle_0 1 rfl rfl)
theorem dX6_settle_2 : decode cX6_settle 2 = .ok (.iconst 0, 1) := dk_3 (dk_at dksX6_settle_0 2 rfl rfl)
theorem dX6_settle_3 : decode cX6_settle 3 = .ok (.istore_n 2, 1) := dk_61 (dk_at dksX6_settle_0 3 rfl rfl)
theorem dX6_settle_4 : decode cX6_settle 4 = .ok (.iload_n 2, 1) := dk_28 (dk_at dksX6_settle_0 4 rfl rfl)
theorem dX6_settle_5 : decode cX6_settle 5 = .ok (.bipush 8, 2) := dk_16 8 (dk_at dksX6_settle_0 5 rfl rfl)
theorem dX6_settle_7 : decode cX6_settle 7 = .ok (.if_icmp .gt 18, 3) := dk_163 0 18 (dk_at dksX6_settle_0 7 rfl rfl)
theorem dX6_settle_10 : decode cX6_settle 10 = .ok (.iload_n 1, 1) := dk_27 (dk_at dksX6_settle_0 10 rfl rfl)
theorem dX6_settle_11 : decode cX6_settle 11 = .ok (.ifCond .eq 14, 3) := dk_153 0 14 (dk_at dksX6_settle_0 11 rfl rfl)
theorem dX6_settle_14 : decode cX6_settle 14 = .ok (.aload_n 0, 1) := dk_42 (dk_at dksX6_settle_0 14 rfl rfl)
theorem dX6_settle_15 : decode cX6_settle 15 = .ok (.invokevirtual 75, 3) := dk_182 0 75 (dk_at dksX6_settle_0 15 rfl rfl)
theorem dX6_settle_18 : decode cX6_settle 18 = .ok (.istore_n 1, 1) := dk_60 (dk_at dksX6_settle_0 18 rfl rfl)
theorem dX6_settle_19 : decode cX6_settle 19 = .ok (.iinc 2 1, 3) := dk_132 2 1 (dk_at dksX6_settle_0 19 rfl rfl)
theorem dX6_settle_22 : decode cX6_settle 22 = .ok (.goto (-18), 3) := dk_167 255 238 (dk_at dksX6_settle_1 0 rfl rfl)
theorem dX6_settle_25 : decode cX6_settle 25 = .ok (.iload_n 1, 1) := dk_27 (dk_at dksX6_settle_1 3 rfl rfl)
theorem dX6_settle_26 : decode cX6_settle 26 = .ok (.ifCond .ne 7, 3) := dk_154 0 7 (dk_at dksX6_settle_1 4 rfl rfl)
theorem dX6_settle_29 : decode cX6_settle 29 = .ok (.iconst 1, 1) := dk_4 (dk_at dksX6_settle_1 7 rfl rfl)
theorem dX6_settle_30 : decode cX6_settle 30 = .ok (.goto 4, 3) := dk_167 0 4 (dk_at dksX6_settle_1 8 rfl rfl)
theorem dX6_settle_33 : decode cX6_settle 33 = .ok (.iconst 0, 1) := dk_3 (dk_at dksX6_settle_1 11 rfl rfl)
theorem dX6_settle_34 : decode cX6_settle 34 = .ok (.ireturn, 1) := dk_172 (dk_at dksX6_settle_1 12 rfl rfl)
abbrev cX6_relax : ByteArray := prog_15_method_3_code
def yX6_relax : MethodName := ⟨RX6, "relax", "()Z"⟩
def dkwX6_relax_4 : List UInt8 := [22, 4, 184, 0, 69, 80, 132, 2, 1, 167, 255, 161, 27, 172]
abbrev dktX6_relax_4 : List UInt8 := dkwX6_relax_4 ++ []
def dkwX6_relax_3 : List UInt8 := [167, 0, 4, 3, 128, 60, 42, 180, 0, 15, 45, 180, 0, 66, 42, 180, 0, 15, 45, 180, 0, 66, 47]
abbrev dktX6_relax_3 : List UInt8 := dkwX6_relax_3 ++ dktX6_relax_4
def dkwX6_relax_2 : List UInt8 := [182, 0, 62, 97, 55, 4, 27, 22, 4, 42, 180, 0, 15, 45, 180, 0, 66, 47, 148, 156, 0, 7, 4]
abbrev dktX6_relax_2 : List UInt8 := dkwX6_relax_2 ++ dktX6_relax_3
def dkwX6_relax_1 : List UInt8 := [180, 0, 45, 28, 182, 0, 55, 192, 0, 34, 78, 42, 180, 0, 15, 45, 180, 0, 59, 47, 42, 45]
abbrev dktX6_relax_1 : List UInt8 := dkwX6_relax_1 ++ dktX6_relax_2
def dkwX6_relax_0 : List UInt8 := [3, 60, 3, 61, 28, 42, 180, 0, 3, 180, 0, 45, 182, 0, 49, 162, 0, 87, 42, 180, 0, 3]
abbrev dktX6_relax_0 : List UInt8 := dkwX6_relax_0 ++ dktX6_relax_1
theorem dksX6_relax_0 : cX6_relax.data.toList.drop 0 = dktX6_relax_0 := by decide +kernel
theorem dksX6_relax_1 : cX6_relax.data.toList.drop 22 = dktX6_relax_1 := dk_seg dksX6_relax_0 22 rfl rfl
theorem dksX6_relax_2 : cX6_relax.data.toList.drop 44 = dktX6_relax_2 := dk_seg dksX6_relax_1 22 rfl rfl
theorem dksX6_relax_3 : cX6_relax.data.toList.drop 67 = dktX6_relax_3 := dk_seg dksX6_relax_2 23 rfl rfl
theorem dksX6_relax_4 : cX6_relax.data.toList.drop 90 = dktX6_relax_4 := dk_seg dksX6_relax_3 23 rfl rfl
theorem dX6_relax_0 : decode cX6_relax 0 = .ok (.iconst 0, 1) := dk_3 (dk_at dksX6_relax_0 0 rfl rfl)
theorem dX6_relax_1 : decode cX6_relax 1 = .ok (.istore_n 1, 1) := dk_60 (dk_at dksX6_relax_0 1 rfl rfl)
theorem dX6_relax_2 : decode cX6_relax 2 = .ok (.iconst 0, 1) := dk_3 (dk_at dksX6_relax_0 2 rfl rfl)
theorem dX6_relax_3 : decode cX6_relax 3 = .ok (.istore_n 2, 1) := dk_61 (dk_at dksX6_relax_0 3 rfl rfl)
theorem dX6_relax_4 : decode cX6_relax 4 = .ok (.iload_n 2, 1) := dk_28 (dk_at dksX6_relax_0 4 rfl rfl)
theorem dX6_relax_5 : decode cX6_relax 5 = .ok (.aload_n 0, 1) := dk_42 (dk_at dksX6_relax_0 5 rfl rfl)
theorem dX6_relax_6 : decode cX6_relax 6 = .ok (.getfield 3, 3) := dk_180 0 3 (dk_at dksX6_relax_0 6 rfl rfl)
theorem dX6_relax_9 : decode cX6_relax 9 = .ok (.getfield 45, 3) := dk_180 0 45 (dk_at dksX6_relax_0 9 rfl rfl)
theorem dX6_relax_12 : decode cX6_relax 12 = .ok (.invokevirtual 49, 3) := dk_182 0 49 (dk_at dksX6_relax_0 12 rfl rfl)
theorem dX6_relax_15 : decode cX6_relax 15 = .ok (.if_icmp .ge 87, 3) := dk_162 0 87 (dk_at dksX6_relax_0 15 rfl rfl)
theorem dX6_relax_18 : decode cX6_relax 18 = .ok (.aload_n 0, 1) := dk_42 (dk_at dksX6_relax_0 18 rfl rfl)
theorem dX6_relax_19 : decode cX6_relax 19 = .ok (.getfield 3, 3) := dk_180 0 3 (dk_at dksX6_relax_0 19 rfl rfl)
theorem dX6_relax_22 : decode cX6_relax 22 = .ok (.getfield 45, 3) := dk_180 0 45 (dk_at dksX6_relax_1 0 rfl rfl)
theorem dX6_relax_25 : decode cX6_relax 25 = .ok (.iload_n 2, 1) := dk_28 (dk_at dksX6_relax_1 3 rfl rfl)
theorem dX6_relax_26 : decode cX6_relax 26 = .ok (.invokevirtual 55, 3) := dk_182 0 55 (dk_at dksX6_relax_1 4 rfl rfl)
theorem dX6_relax_29 : decode cX6_relax 29 = .ok (.checkcast 34, 3) := dk_192 0 34 (dk_at dksX6_relax_1 7 rfl rfl)
theorem dX6_relax_32 : decode cX6_relax 32 = .ok (.astore_n 3, 1) := dk_78 (dk_at dksX6_relax_1 10 rfl rfl)
theorem dX6_relax_33 : decode cX6_relax 33 = .ok (.aload_n 0, 1) := dk_42 (dk_at dksX6_relax_1 11 rfl rfl)
theorem dX6_relax_34 : decode cX6_relax 34 = .ok (.getfield 15, 3) := dk_180 0 15 (dk_at dksX6_relax_1 12 rfl rfl)
theorem dX6_relax_37 : decode cX6_relax 37 = .ok (.aload_n 3, 1) := dk_45 (dk_at dksX6_relax_1 15 rfl rfl)
theorem dX6_relax_38 : decode cX6_relax 38 = .ok (.getfield 59, 3) := dk_180 0 59 (dk_at dksX6_relax_1 16 rfl rfl)
theorem dX6_relax_41 : decode cX6_relax 41 = .ok (.laload, 1) := dk_47 (dk_at dksX6_relax_1 19 rfl rfl)
theorem dX6_relax_42 : decode cX6_relax 42 = .ok (.aload_n 0, 1) := dk_42 (dk_at dksX6_relax_1 20 rfl rfl)
theorem dX6_relax_43 : decode cX6_relax 43 = .ok (.aload_n 3, 1) := dk_45 (dk_at dksX6_relax_1 21 rfl rfl)
theorem dX6_relax_44 : decode cX6_relax 44 = .ok (.invokevirtual 62, 3) := dk_182 0 62 (dk_at dksX6_relax_2 0 rfl rfl)
theorem dX6_relax_47 : decode cX6_relax 47 = .ok (.ladd, 1) := dk_97 (dk_at dksX6_relax_2 3 rfl rfl)
theorem dX6_relax_48 : decode cX6_relax 48 = .ok (.lstore 4, 2) := dk_55 4 (dk_at dksX6_relax_2 4 rfl rfl)
theorem dX6_relax_50 : decode cX6_relax 50 = .ok (.iload_n 1, 1) := dk_27 (dk_at dksX6_relax_2 6 rfl rfl)
theorem dX6_relax_51 : decode cX6_relax 51 = .ok (.lload 4, 2) := dk_22 4 (dk_at dksX6_relax_2 7 rfl rfl)
theorem dX6_relax_53 : decode cX6_relax 53 = .ok (.aload_n 0, 1) := dk_42 (dk_at dksX6_relax_2 9 rfl rfl)
theorem dX6_relax_54 : decode cX6_relax 54 = .ok (.getfield 15, 3) := dk_180 0 15 (dk_at dksX6_relax_2 10 rfl rfl)
theorem dX6_relax_57 : decode cX6_relax 57 = .ok (.aload_n 3, 1) := dk_45 (dk_at dksX6_relax_2 13 rfl rfl)
theorem dX6_relax_58 : decode cX6_relax 58 = .ok (.getfield 66, 3) := dk_180 0 66 (dk_at dksX6_relax_2 14 rfl rfl)
theorem dX6_relax_61 : decode cX6_relax 61 = .ok (.laload, 1) := dk_47 (dk_at dksX6_relax_2 17 rfl rfl)
theorem dX6_relax_62 : decode cX6_relax 62 = .ok (.lcmp, 1) := dk_148 (dk_at dksX6_relax_2 18 rfl rfl)
theorem dX6_relax_63 : decode cX6_relax 63 = .ok (.ifCond .ge 7, 3) := dk_156 0 7 (dk_at dksX6_relax_2 19 rfl rfl)
theorem dX6_relax_66 : decode cX6_relax 66 = .ok (.iconst 1, 1) := dk_4 (dk_at dksX6_relax_2 22 rfl rfl)
theorem dX6_relax_67 : decode cX6_relax 67 = .ok (.goto 4, 3) := dk_167 0 4 (dk_at dksX6_relax_3 0 rfl rfl)
theorem dX6_relax_70 : decode cX6_relax 70 = .ok (.iconst 0, 1) := dk_3 (dk_at dksX6_relax_3 3 rfl rfl)
theorem dX6_relax_71 : decode cX6_relax 71 = .ok (.ior, 1) := dk_128 (dk_at dksX6_relax_3 4 rfl rfl)
theorem dX6_relax_72 : decode cX6_relax 72 = .ok (.istore_n 1, 1) := dk_60 (dk_at dksX6_relax_3 5 rfl rfl)
theorem dX6_relax_73 : decode cX6_relax 73 = .ok (.aload_n 0, 1) := dk_42 (dk_at dksX6_relax_3 6 rfl rfl)
theorem dX6_relax_74 : decode cX6_relax 74 = .ok (.getfield 15, 3) := dk_180 0 15 (dk_at dksX6_relax_3 7 rfl rfl)
theorem dX6_relax_77 : decode cX6_relax 77 = .ok (.aload_n 3, 1) := dk_45 (dk_at dksX6_relax_3 10 rfl rfl)
theorem dX6_relax_78 : decode cX6_relax 78 = .ok (.getfield 66, 3) := dk_180 0 66 (dk_at dksX6_relax_3 11 rfl rfl)
theorem dX6_relax_81 : decode cX6_relax 81 = .ok (.aload_n 0, 1) := dk_42 (dk_at dksX6_relax_3 14 rfl rfl)
theorem dX6_relax_82 : decode cX6_relax 82 = .ok (.getfield 15, 3) := dk_180 0 15 (dk_at dksX6_relax_3 15 rfl rfl)
theorem dX6_relax_85 : decode cX6_relax 85 = .ok (.aload_n 3, 1) := dk_45 (dk_at dksX6_relax_3 18 rfl rfl)
theorem dX6_relax_86 : decode cX6_relax 86 = .ok (.getfield 66, 3) := dk_180 0 66 (dk_at dksX6_relax_3 19 rfl rfl)
theorem dX6_relax_89 : decode cX6_relax 89 = .ok (.laload, 1) := dk_47 (dk_at dksX6_relax_3 22 rfl rfl)
theorem dX6_relax_90 : decode cX6_relax 90 = .ok (.lload 4, 2) := dk_22 4 (dk_at dksX6_relax_4 0 rfl rfl)
theorem dX6_relax_92 : decode cX6_relax 92 = .ok (.invokestatic 69, 3) := dk_184 0 69 (dk_at dksX6_relax_4 2 rfl rfl)
theorem dX6_relax_95 : decode cX6_relax 95 = .ok (.lastore, 1) := dk_80 (dk_at dksX6_relax_4 5 rfl rfl)
theorem dX6_relax_96 : decode cX6_relax 96 = .ok (.iinc 2 1, 3) := dk_132 2 1 (dk_at dksX6_relax_4 6 rfl rfl)
theorem dX6_relax_99 : decode cX6_relax 99 = .ok (.goto (-95), 3) := dk_167 255 161 (dk_at dksX6_relax_4 9 rfl rfl)
theorem dX6_relax_102 : decode cX6_relax 102 = .ok (.iload_n 1, 1) := dk_27 (dk_at dksX6_relax_4 12 rfl rfl)
theorem dX6_relax_103 : decode cX6_relax 103 = .ok (.ireturn, 1) := dk_172 (dk_at dksX6_relax_4 13 rfl rfl)
abbrev cX6_cost : ByteArray := prog_15_method_2_code
def yX6_cost : MethodName := ⟨RX6, "cost", "(LRatioGraph$Edge;)J"⟩
def dkwX6_cost_1 : List UInt8 := [153, 0, 10, 43, 180, 0, 42, 167, 0, 4, 4, 133, 105, 101, 173]
abbrev dktX6_cost_1 : List UInt8 := dkwX6_cost_1 ++ []
def dkwX6_cost_0 : List UInt8 := [42, 180, 0, 19, 180, 0, 27, 43, 180, 0, 33, 133, 105, 42, 180, 0, 19, 180, 0, 39, 42, 180, 0, 23]
abbrev dktX6_cost_0 : List UInt8 := dkwX6_cost_0 ++ dktX6_cost_1
theorem dksX6_cost_0 : cX6_cost.data.toList.drop 0 = dktX6_cost_0 := by decide +kernel
theorem dksX6_cost_1 : cX6_cost.data.toList.drop 24 = dktX6_cost_1 := dk_seg dksX6_cost_0 24 rfl rfl
theorem dX6_cost_0 : decode cX6_cost 0 = .ok (.aload_n 0, 1) := dk_42 (dk_at dksX6_cost_0 0 rfl rfl)
theorem dX6_cost_1 : decode cX6_cost 1 = .ok (.getfield 19, 3) := dk_180 0 19 (dk_at dksX6_cost_0 1 rfl rfl)
theorem dX6_cost_4 : decode cX6_cost 4 = .ok (.getfield 27, 3) := dk_180 0 27 (dk_at dksX6_cost_0 4 rfl rfl)
theorem dX6_cost_7 : decode cX6_cost 7 = .ok (.aload_n 1, 1) := dk_43 (dk_at dksX6_cost_0 7 rfl rfl)
theorem dX6_cost_8 : decode cX6_cost 8 = .ok (.getfield 33, 3) := dk_180 0 33 (dk_at dksX6_cost_0 8 rfl rfl)
theorem dX6_cost_11 : decode cX6_cost 11 = .ok (.i2l, 1) := dk_133 (dk_at dksX6_cost_0 11 rfl rfl)
theorem dX6_cost_12 : decode cX6_cost 12 = .ok (.lmul, 1) := dk_105 (dk_at dksX6_cost_0 12 rfl rfl)
theorem dX6_cost_13 : decode cX6_cost 13 = .ok (.aload_n 0, 1) := dk_42 (dk_at dksX6_cost_0 13 rfl rfl)
theorem dX6_cost_14 : decode cX6_cost 14 = .ok (.getfield 19, 3) := dk_180 0 19 (dk_at dksX6_cost_0 14 rfl rfl)
theorem dX6_cost_17 : decode cX6_cost 17 = .ok (.getfield 39, 3) := dk_180 0 39 (dk_at dksX6_cost_0 17 rfl rfl)
theorem dX6_cost_20 : decode cX6_cost 20 = .ok (.aload_n 0, 1) := dk_42 (dk_at dksX6_cost_0 20 rfl rfl)
theorem dX6_cost_21 : decode cX6_cost 21 = .ok (.getfield 23, 3) := dk_180 0 23 (dk_at dksX6_cost_0 21 rfl rfl)
theorem dX6_cost_24 : decode cX6_cost 24 = .ok (.ifCond .eq 10, 3) := dk_153 0 10 (dk_at dksX6_cost_1 0 rfl rfl)
theorem dX6_cost_27 : decode cX6_cost 27 = .ok (.aload_n 1, 1) := dk_43 (dk_at dksX6_cost_1 3 rfl rfl)
theorem dX6_cost_28 : decode cX6_cost 28 = .ok (.getfield 42, 3) := dk_180 0 42 (dk_at dksX6_cost_1 4 rfl rfl)
theorem dX6_cost_31 : decode cX6_cost 31 = .ok (.goto 4, 3) := dk_167 0 4 (dk_at dksX6_cost_1 7 rfl rfl)
theorem dX6_cost_34 : decode cX6_cost 34 = .ok (.iconst 1, 1) := dk_4 (dk_at dksX6_cost_1 10 rfl rfl)
theorem dX6_cost_35 : decode cX6_cost 35 = .ok (.i2l, 1) := dk_133 (dk_at dksX6_cost_1 11 rfl rfl)
theorem dX6_cost_36 : decode cX6_cost 36 = .ok (.lmul, 1) := dk_105 (dk_at dksX6_cost_1 12 rfl rfl)
theorem dX6_cost_37 : decode cX6_cost 37 = .ok (.lsub, 1) := dk_101 (dk_at dksX6_cost_1 13 rfl rfl)
theorem dX6_cost_38 : decode cX6_cost 38 = .ok (.lreturn, 1) := dk_173 (dk_at dksX6_cost_1 14 rfl rfl)
abbrev cX6_tight : ByteArray := prog_15_method_5_code
def yX6_tight : MethodName := ⟨RX6, "tight", "()I"⟩
def dkwX6_tight_3 : List UInt8 := [128, 60, 132, 2, 1, 167, 255, 186, 27, 172]
abbrev dktX6_tight_3 : List UInt8 := dkwX6_tight_3 ++ []
def dkwX6_tight_2 : List UInt8 := [182, 0, 62, 97, 42, 180, 0, 15, 45, 180, 0, 66, 47, 148, 154, 0, 9, 4, 28, 120, 167, 0, 4, 3]
abbrev dktX6_tight_2 : List UInt8 := dkwX6_tight_2 ++ dktX6_tight_3
def dkwX6_tight_1 : List UInt8 := [180, 0, 45, 28, 182, 0, 55, 192, 0, 34, 78, 27, 42, 180, 0, 15, 45, 180, 0, 59, 47, 42, 45]
abbrev dktX6_tight_1 : List UInt8 := dkwX6_tight_1 ++ dktX6_tight_2
def dkwX6_tight_0 : List UInt8 := [3, 60, 3, 61, 28, 42, 180, 0, 3, 180, 0, 45, 182, 0, 49, 162, 0, 62, 42, 180, 0, 3]
abbrev dktX6_tight_0 : List UInt8 := dkwX6_tight_0 ++ dktX6_tight_1
theorem dksX6_tight_0 : cX6_tight.data.toList.drop 0 = dktX6_tight_0 := by decide +kernel
theorem dksX6_tight_1 : cX6_tight.data.toList.drop 22 = dktX6_tight_1 := dk_seg dksX6_tight_0 22 rfl rfl
theorem dksX6_tight_2 : cX6_tight.data.toList.drop 45 = dktX6_tight_2 := dk_seg dksX6_tight_1 23 rfl rfl
theorem dksX6_tight_3 : cX6_tight.data.toList.drop 69 = dktX6_tight_3 := dk_seg dksX6_tight_2 24 rfl rfl
theorem dX6_tight_0 : decode cX6_tight 0 = .ok (.iconst 0, 1) := dk_3 (dk_at dksX6_tight_0 0 rfl rfl)
theorem dX6_tight_1 : decode cX6_tight 1 = .ok (.istore_n 1, 1) := dk_60 (dk_at dksX6_tight_0 1 rfl rfl)
theorem dX6_tight_2 : decode cX6_tight 2 = .ok (.iconst 0, 1) := dk_3 (dk_at dksX6_tight_0 2 rfl rfl)
theorem dX6_tight_3 : decode cX6_tight 3 = .ok (.istore_n 2, 1) := dk_61 (dk_at dksX6_tight_0 3 rfl rfl)
theorem dX6_tight_4 : decode cX6_tight 4 = .ok (.iload_n 2, 1) := dk_28 (dk_at dksX6_tight_0 4 rfl rfl)
theorem dX6_tight_5 : decode cX6_tight 5 = .ok (.aload_n 0, 1) := dk_42 (dk_at dksX6_tight_0 5 rfl rfl)
theorem dX6_tight_6 : decode cX6_tight 6 = .ok (.getfield 3, 3) := dk_180 0 3 (dk_at dksX6_tight_0 6 rfl rfl)
theorem dX6_tight_9 : decode cX6_tight 9 = .ok (.getfield 45, 3) := dk_180 0 45 (dk_at dksX6_tight_0 9 rfl rfl)
theorem dX6_tight_12 : decode cX6_tight 12 = .ok (.invokevirtual 49, 3) := dk_182 0 49 (dk_at dksX6_tight_0 12 rfl rfl)
theorem dX6_tight_15 : decode cX6_tight 15 = .ok (.if_icmp .ge 62, 3) := dk_162 0 62 (dk_at dksX6_tight_0 15 rfl rfl)
theorem dX6_tight_18 : decode cX6_tight 18 = .ok (.aload_n 0, 1) := dk_42 (dk_at dksX6_tight_0 18 rfl rfl)
theorem dX6_tight_19 : decode cX6_tight 19 = .ok (.getfield 3, 3) := dk_180 0 3 (dk_at dksX6_tight_0 19 rfl rfl)
theorem dX6_tight_22 : decode cX6_tight 22 = .ok (.getfield 45, 3) := dk_180 0 45 (dk_at dksX6_tight_1 0 rfl rfl)
theorem dX6_tight_25 : decode cX6_tight 25 = .ok (.iload_n 2, 1) := dk_28 (dk_at dksX6_tight_1 3 rfl rfl)
theorem dX6_tight_26 : decode cX6_tight 26 = .ok (.invokevirtual 55, 3) := dk_182 0 55 (dk_at dksX6_tight_1 4 rfl rfl)
theorem dX6_tight_29 : decode cX6_tight 29 = .ok (.checkcast 34, 3) := dk_192 0 34 (dk_at dksX6_tight_1 7 rfl rfl)
theorem dX6_tight_32 : decode cX6_tight 32 = .ok (.astore_n 3, 1) := dk_78 (dk_at dksX6_tight_1 10 rfl rfl)
theorem dX6_tight_33 : decode cX6_tight 33 = .ok (.iload_n 1, 1) := dk_27 (dk_at dksX6_tight_1 11 rfl rfl)
theorem dX6_tight_34 : decode cX6_tight 34 = .ok (.aload_n 0, 1) := dk_42 (dk_at dksX6_tight_1 12 rfl rfl)
theorem dX6_tight_35 : decode cX6_tight 35 = .ok (.getfield 15, 3) := dk_180 0 15 (dk_at dksX6_tight_1 13 rfl rfl)
theorem dX6_tight_38 : decode cX6_tight 38 = .ok (.aload_n 3, 1) := dk_45 (dk_at dksX6_tight_1 16 rfl rfl)
theorem dX6_tight_39 : decode cX6_tight 39 = .ok (.getfield 59, 3) := dk_180 0 59 (dk_at dksX6_tight_1 17 rfl rfl)
theorem dX6_tight_42 : decode cX6_tight 42 = .ok (.laload, 1) := dk_47 (dk_at dksX6_tight_1 20 rfl rfl)
theorem dX6_tight_43 : decode cX6_tight 43 = .ok (.aload_n 0, 1) := dk_42 (dk_at dksX6_tight_1 21 rfl rfl)
theorem dX6_tight_44 : decode cX6_tight 44 = .ok (.aload_n 3, 1) := dk_45 (dk_at dksX6_tight_1 22 rfl rfl)
theorem dX6_tight_45 : decode cX6_tight 45 = .ok (.invokevirtual 62, 3) := dk_182 0 62 (dk_at dksX6_tight_2 0 rfl rfl)
theorem dX6_tight_48 : decode cX6_tight 48 = .ok (.ladd, 1) := dk_97 (dk_at dksX6_tight_2 3 rfl rfl)
theorem dX6_tight_49 : decode cX6_tight 49 = .ok (.aload_n 0, 1) := dk_42 (dk_at dksX6_tight_2 4 rfl rfl)
theorem dX6_tight_50 : decode cX6_tight 50 = .ok (.getfield 15, 3) := dk_180 0 15 (dk_at dksX6_tight_2 5 rfl rfl)
theorem dX6_tight_53 : decode cX6_tight 53 = .ok (.aload_n 3, 1) := dk_45 (dk_at dksX6_tight_2 8 rfl rfl)
theorem dX6_tight_54 : decode cX6_tight 54 = .ok (.getfield 66, 3) := dk_180 0 66 (dk_at dksX6_tight_2 9 rfl rfl)
theorem dX6_tight_57 : decode cX6_tight 57 = .ok (.laload, 1) := dk_47 (dk_at dksX6_tight_2 12 rfl rfl)
theorem dX6_tight_58 : decode cX6_tight 58 = .ok (.lcmp, 1) := dk_148 (dk_at dksX6_tight_2 13 rfl rfl)
theorem dX6_tight_59 : decode cX6_tight 59 = .ok (.ifCond .ne 9, 3) := dk_154 0 9 (dk_at dksX6_tight_2 14 rfl rfl)
theorem dX6_tight_62 : decode cX6_tight 62 = .ok (.iconst 1, 1) := dk_4 (dk_at dksX6_tight_2 17 rfl rfl)
theorem dX6_tight_63 : decode cX6_tight 63 = .ok (.iload_n 2, 1) := dk_28 (dk_at dksX6_tight_2 18 rfl rfl)
theorem dX6_tight_64 : decode cX6_tight 64 = .ok (.ishl, 1) := dk_120 (dk_at dksX6_tight_2 19 rfl rfl)
theorem dX6_tight_65 : decode cX6_tight 65 = .ok (.goto 4, 3) := dk_167 0 4 (dk_at dksX6_tight_2 20 rfl rfl)
theorem dX6_tight_68 : decode cX6_tight 68 = .ok (.iconst 0, 1) := dk_3 (dk_at dksX6_tight_2 23 rfl rfl)
theorem dX6_tight_69 : decode cX6_tight 69 = .ok (.ior, 1) := dk_128 (dk_at dksX6_tight_3 0 rfl rfl)
theorem dX6_tight_70 : decode cX6_tight 70 = .ok (.istore_n 1, 1) := dk_60 (dk_at dksX6_tight_3 1 rfl rfl)
theorem dX6_tight_71 : decode cX6_tight 71 = .ok (.iinc 2 1, 3) := dk_132 2 1 (dk_at dksX6_tight_3 2 rfl rfl)
theorem dX6_tight_74 : decode cX6_tight 74 = .ok (.goto (-70), 3) := dk_167 255 186 (dk_at dksX6_tight_3 5 rfl rfl)
theorem dX6_tight_77 : decode cX6_tight 77 = .ok (.iload_n 1, 1) := dk_27 (dk_at dksX6_tight_3 8 rfl rfl)
theorem dX6_tight_78 : decode cX6_tight 78 = .ok (.ireturn, 1) := dk_172 (dk_at dksX6_tight_3 9 rfl rfl)
theorem q85 : (Jvm.Cond.initialized "RatioGraph$Potentials") ∈ lw_all := lw_g (lw_at lw_m1 21 rfl) rfl
theorem q158 : (Jvm.Cond.fieldLinkNest "RatioGraph$Potentials" (45 : Nat) "RatioGraph" "edges" "Ljava/util/ArrayList;" "RatioGraph") ∈ lw_tbl := lw_at lw_m1 94 rfl
theorem q277 : (Jvm.Cond.selects "RatioGraph$Potentials" ({ cls := "java/lang/Object", name := "getClass", desc := "()Ljava/lang/Class;" } : Jvm.MethodName) ({ cls := "java/lang/Object", name := "getClass", desc := "()Ljava/lang/Class;" } : Jvm.MethodName)) ∈ lw_all := lw_g (lw_at lw_m1 213 rfl) rfl
theorem q336 : (Jvm.Cond.fieldLinkNest "RatioGraph$Potentials" (59 : Nat) "RatioGraph$Edge" "from" "I" "RatioGraph") ∈ lw_tbl := lw_at lw_m2 32 rfl
theorem q341 : (Jvm.Cond.fieldLinkNest "RatioGraph$Potentials" (66 : Nat) "RatioGraph$Edge" "to" "I" "RatioGraph") ∈ lw_tbl := lw_at lw_m2 37 rfl
theorem q344 : (Jvm.Cond.fieldLinkNest "RatioGraph$Potentials" (33 : Nat) "RatioGraph$Edge" "weight" "I" "RatioGraph") ∈ lw_tbl := lw_at lw_m2 40 rfl
theorem q351 : (Jvm.Cond.fieldLinkNest "RatioGraph$Potentials" (42 : Nat) "RatioGraph$Edge" "time" "I" "RatioGraph") ∈ lw_tbl := lw_at lw_m2 47 rfl
theorem q685 : (Jvm.Cond.fieldLinkNest "RatioGraph$Potentials" (39 : Nat) "RatioGraph$Fraction" "n" "J" "RatioGraph") ∈ lw_tbl := lw_at lw_m3 141 rfl
theorem q692 : (Jvm.Cond.fieldLinkNest "RatioGraph$Potentials" (27 : Nat) "RatioGraph$Fraction" "d" "J" "RatioGraph") ∈ lw_tbl := lw_at lw_m3 148 rfl
theorem q713 : (Jvm.Cond.instantiable "RatioGraph$Potentials" (4 : Nat)) ∈ lw_all := lw_g (lw_at lw_m3 169 rfl) rfl
theorem q715 : (Jvm.Cond.instanceMethod ({ cls := "RatioGraph$Potentials", name := "<init>", desc := "(LRatioGraph;LRatioGraph$Fraction;Z)V" } : Jvm.MethodName)) ∈ lw_all := lw_g (lw_at lw_m3 171 rfl) rfl
theorem q716 : (Jvm.Cond.code ({ cls := "RatioGraph$Potentials", name := "<init>", desc := "(LRatioGraph;LRatioGraph$Fraction;Z)V" } : Jvm.MethodName) prog_15_method_1_code (4 : Nat) (Option.none : Option Jvm.ClassFile.FieldType)) ∈ lw_all := lw_g (lw_at lw_m3 172 rfl) rfl
theorem q717 : (Jvm.Cond.methodLink "RatioGraph$Potentials" (9 : Nat) ({ cls := "java/lang/Object", name := "<init>", desc := "()V" } : Jvm.MethodName)) ∈ lw_all := lw_g (lw_at lw_m3 173 rfl) rfl
theorem q718 : (Jvm.Cond.fieldLink "RatioGraph$Potentials" (15 : Nat) "RatioGraph$Potentials" "sums" "[J") ∈ lw_all := lw_g (lw_at lw_m3 174 rfl) rfl
theorem q720 : (Jvm.Cond.fieldLink "RatioGraph$Potentials" (19 : Nat) "RatioGraph$Potentials" "value" "LRatioGraph$Fraction;") ∈ lw_all := lw_g (lw_at lw_m3 176 rfl) rfl
theorem q722 : (Jvm.Cond.fieldLink "RatioGraph$Potentials" (23 : Nat) "RatioGraph$Potentials" "byTime" "Z") ∈ lw_all := lw_g (lw_at lw_m3 178 rfl) rfl
theorem q723 : (Jvm.Cond.fieldLink "RatioGraph$Potentials" (3 : Nat) "RatioGraph$Potentials" "this$0" "LRatioGraph;") ∈ lw_all := lw_g (lw_at lw_m3 179 rfl) rfl
theorem q724 : (Jvm.Cond.laysFinal "RatioGraph$Potentials" "RatioGraph$Potentials" "sums" "[J") ∈ lw_all := lw_g (lw_at lw_m3 180 rfl) rfl
theorem q725 : (Jvm.Cond.soleField "RatioGraph$Potentials" "sums") ∈ lw_all := lw_g (lw_at lw_m3 181 rfl) rfl
theorem q726 : (Jvm.Cond.laysFinal "RatioGraph$Potentials" "RatioGraph$Potentials" "value" "LRatioGraph$Fraction;") ∈ lw_all := lw_g (lw_at lw_m3 182 rfl) rfl
theorem q727 : (Jvm.Cond.soleField "RatioGraph$Potentials" "value") ∈ lw_all := lw_g (lw_at lw_m3 183 rfl) rfl
theorem q728 : (Jvm.Cond.laysFinal "RatioGraph$Potentials" "RatioGraph$Potentials" "byTime" "Z") ∈ lw_all := lw_g (lw_at lw_m3 184 rfl) rfl
theorem q729 : (Jvm.Cond.soleField "RatioGraph$Potentials" "byTime") ∈ lw_all := lw_g (lw_at lw_m3 185 rfl) rfl
theorem q730 : (Jvm.Cond.laysFinal "RatioGraph$Potentials" "RatioGraph$Potentials" "this$0" "LRatioGraph;") ∈ lw_all := lw_g (lw_at lw_m3 186 rfl) rfl
theorem q731 : (Jvm.Cond.soleField "RatioGraph$Potentials" "this$0") ∈ lw_all := lw_g (lw_at lw_m3 187 rfl) rfl
theorem q732 : (Jvm.Cond.superclass "RatioGraph$Potentials" "java/lang/Object") ∈ lw_all := lw_g (lw_at lw_m3 188 rfl) rfl
theorem q734 : (Jvm.Cond.instanceMethod ({ cls := "RatioGraph$Potentials", name := "settle", desc := "()Z" } : Jvm.MethodName)) ∈ lw_all := lw_g (lw_at lw_m3 190 rfl) rfl
theorem q735 : (Jvm.Cond.selects "RatioGraph$Potentials" ({ cls := "RatioGraph$Potentials", name := "settle", desc := "()Z" } : Jvm.MethodName) ({ cls := "RatioGraph$Potentials", name := "settle", desc := "()Z" } : Jvm.MethodName)) ∈ lw_all := lw_g (lw_at lw_m3 191 rfl) rfl
theorem q736 : (Jvm.Cond.code ({ cls := "RatioGraph$Potentials", name := "settle", desc := "()Z" } : Jvm.MethodName) prog_15_method_4_code (3 : Nat) (Option.some Jvm.ClassFile.FieldType.boolean)) ∈ lw_all := lw_g (lw_at lw_m3 192 rfl) rfl
theorem q737 : (Jvm.Cond.methodLink "RatioGraph$Potentials" (75 : Nat) ({ cls := "RatioGraph$Potentials", name := "relax", desc := "()Z" } : Jvm.MethodName)) ∈ lw_all := lw_g (lw_at lw_m3 193 rfl) rfl
theorem q738 : (Jvm.Cond.privateMethod ({ cls := "RatioGraph$Potentials", name := "relax", desc := "()Z" } : Jvm.MethodName)) ∈ lw_tbl := lw_at lw_m3 194 rfl
theorem q739 : (Jvm.Cond.instanceMethod ({ cls := "RatioGraph$Potentials", name := "relax", desc := "()Z" } : Jvm.MethodName)) ∈ lw_all := lw_g (lw_at lw_m3 195 rfl) rfl
theorem q740 : (Jvm.Cond.code ({ cls := "RatioGraph$Potentials", name := "relax", desc := "()Z" } : Jvm.MethodName) prog_15_method_3_code (6 : Nat) (Option.some Jvm.ClassFile.FieldType.boolean)) ∈ lw_all := lw_g (lw_at lw_m3 196 rfl) rfl
theorem q741 : (Jvm.Cond.methodLink "RatioGraph$Potentials" (49 : Nat) ({ cls := "java/util/ArrayList", name := "size", desc := "()I" } : Jvm.MethodName)) ∈ lw_all := lw_g (lw_at lw_m3 197 rfl) rfl
theorem q742 : (Jvm.Cond.methodLink "RatioGraph$Potentials" (55 : Nat) ({ cls := "java/util/ArrayList", name := "get", desc := "(I)Ljava/lang/Object;" } : Jvm.MethodName)) ∈ lw_all := lw_g (lw_at lw_m3 198 rfl) rfl
theorem q743 : (Jvm.Cond.classLink "RatioGraph$Potentials" (34 : Nat) "RatioGraph$Edge") ∈ lw_all := lw_g (lw_at lw_m3 199 rfl) rfl
theorem q744 : (Jvm.Cond.methodLink "RatioGraph$Potentials" (62 : Nat) ({ cls := "RatioGraph$Potentials", name := "cost", desc := "(LRatioGraph$Edge;)J" } : Jvm.MethodName)) ∈ lw_all := lw_g (lw_at lw_m3 200 rfl) rfl
theorem q745 : (Jvm.Cond.instanceMethod ({ cls := "RatioGraph$Potentials", name := "cost", desc := "(LRatioGraph$Edge;)J" } : Jvm.MethodName)) ∈ lw_all := lw_g (lw_at lw_m3 201 rfl) rfl
theorem q746 : (Jvm.Cond.selects "RatioGraph$Potentials" ({ cls := "RatioGraph$Potentials", name := "cost", desc := "(LRatioGraph$Edge;)J" } : Jvm.MethodName) ({ cls := "RatioGraph$Potentials", name := "cost", desc := "(LRatioGraph$Edge;)J" } : Jvm.MethodName)) ∈ lw_all := lw_g (lw_at lw_m3 202 rfl) rfl
theorem q747 : (Jvm.Cond.code ({ cls := "RatioGraph$Potentials", name := "cost", desc := "(LRatioGraph$Edge;)J" } : Jvm.MethodName) prog_15_method_2_code (2 : Nat) (Option.some Jvm.ClassFile.FieldType.long)) ∈ lw_all := lw_g (lw_at lw_m3 203 rfl) rfl
theorem q748 : (Jvm.Cond.methodLink "RatioGraph$Potentials" (69 : Nat) ({ cls := "java/lang/Math", name := "min", desc := "(JJ)J" } : Jvm.MethodName)) ∈ lw_all := lw_g (lw_at lw_m3 204 rfl) rfl
theorem q752 : (Jvm.Cond.instanceMethod ({ cls := "RatioGraph$Potentials", name := "tight", desc := "()I" } : Jvm.MethodName)) ∈ lw_all := lw_g (lw_at lw_m3 208 rfl) rfl
theorem q753 : (Jvm.Cond.selects "RatioGraph$Potentials" ({ cls := "RatioGraph$Potentials", name := "tight", desc := "()I" } : Jvm.MethodName) ({ cls := "RatioGraph$Potentials", name := "tight", desc := "()I" } : Jvm.MethodName)) ∈ lw_all := lw_g (lw_at lw_m3 209 rfl) rfl
theorem q754 : (Jvm.Cond.code ({ cls := "RatioGraph$Potentials", name := "tight", desc := "()I" } : Jvm.MethodName) prog_15_method_5_code (4 : Nat) (Option.some Jvm.ClassFile.FieldType.int)) ∈ lw_all := lw_g (lw_at lw_m3 210 rfl) rfl
theorem q1804 : (Jvm.Cond.castable "RatioGraph$Potentials" "java/lang/Object") ∈ lw_tbl := lw_at lw_m8 60 rfl
theorem in_X6 : ∀ w ∈ wsX60, w ∈ lw_all := lw_in wsX60 [724, 726, 728, 730] (by decide +kernel) (by decide +kernel)

/-! RatioGraph$Walk -/
set_option maxRecDepth 100000
def RX7 : String := "RatioGraph$Walk"
abbrev cX7_init : ByteArray := prog_18_method_1_code
def yX7_init : MethodName := ⟨RX7, "<init>", "(LRatioGraph;I)V"⟩
def dkwX7_init_0 : List UInt8 := [42, 43, 181, 0, 3, 42, 183, 0, 9, 42, 16, 8, 188, 10, 181, 0, 15, 42, 28, 181, 0, 19, 177]
abbrev dktX7_init_0 : List UInt8 := dkwX7_init_0 ++ []
theorem dksX7_init_0 : cX7_init.data.toList.drop 0 = dktX7_init_0 := by decide +kernel
theorem dX7_init_0 : decode cX7_init 0 = .ok (.aload_n 0, 1) := dk_42 (dk_at dksX7_init_0 0 rfl rfl)
theorem dX7_init_1 : decode cX7_init 1 = .ok (.aload_n 1, 1) := dk_43 (dk_at dksX7_init_0 1 rfl rfl)
theorem dX7_init_2 : decode cX7_init 2 = .ok (.putfield 3, 3) := dk_181 0 3 (dk_at dksX7_init_0 2 rfl rfl)
theorem dX7_init_5 : decode cX7_init 5 = .ok (.aload_n 0, 1) := dk_42 (dk_at dksX7_init_0 5 rfl rfl)
theorem dX7_init_6 : decode cX7_init 6 = .ok (.invokespecial 9, 3) := dk_183 0 9 (dk_at dksX7_init_0 6 rfl rfl)
theorem dX7_init_9 : decode cX7_init 9 = .ok (.aload_n 0, 1) := dk_42 (dk_at dksX7_init_0 9 rfl rfl)
theorem dX7_init_10 : decode cX7_init 10 = .ok (.bipush 8, 2) := dk_16 8 (dk_at dksX7_init_0 10 rfl rfl)
theorem dX7_init_12 : decode cX7_init 12 = .ok (.newarray .int, 2) := dk_188_10 (dk_at dksX7_init_0 12 rfl rfl)
theorem dX7_init_14 : decode cX7_init 14 = .ok (.putfield 15, 3) := dk_181 0 15 (dk_at dksX7_init_0 14 rfl rfl)
theorem dX7_init_17 : decode cX7_init 17 = .ok (.aload_n 0, 1) := dk_42 (dk_at dksX7_init_0 17 rfl rfl)
theorem dX7_init_18 : decode cX7_init 18 = .ok (.iload_n 2, 1) := dk_28 (dk_at dksX7_init_0 18 rfl rfl)
theorem dX7_init_19 : decode cX7_init 19 = .ok (.putfield 19, 3) := dk_181 0 19 (dk_at dksX7_init_0 19 rfl rfl)
theorem dX7_init_22 : decode cX7_init 22 = .ok (.return_, 1) := dk_177 (dk_at dksX7_init_0 22 rfl rfl)
abbrev cX7_walk : ByteArray := prog_18_method_8_code
def yX7_walk : MethodName := ⟨RX7, "walk", "(I)V"⟩
def dkwX7_walk_3 : List UInt8 := [132, 2, 1, 167, 255, 201, 42, 89, 180, 0, 23, 4, 27, 120, 2, 130, 126, 181, 0, 23, 177]
abbrev dktX7_walk_3 : List UInt8 := dkwX7_walk_3 ++ []
def dkwX7_walk_2 : List UInt8 := [180, 0, 29, 28, 182, 0, 33, 192, 0, 39, 180, 0, 50, 27, 160, 0, 8, 42, 28, 182, 0, 53]
abbrev dktX7_walk_2 : List UInt8 := dkwX7_walk_2 ++ dktX7_walk_3
def dkwX7_walk_1 : List UInt8 := [182, 0, 46, 162, 0, 47, 42, 180, 0, 19, 28, 122, 4, 126, 4, 160, 0, 29, 42, 180, 0, 3]
abbrev dktX7_walk_1 : List UInt8 := dkwX7_walk_1 ++ dktX7_walk_2
def dkwX7_walk_0 : List UInt8 := [42, 89, 180, 0, 23, 4, 27, 120, 128, 181, 0, 23, 3, 61, 28, 42, 180, 0, 3, 180, 0, 29]
abbrev dktX7_walk_0 : List UInt8 := dkwX7_walk_0 ++ dktX7_walk_1
theorem dksX7_walk_0 : cX7_walk.data.toList.drop 0 = dktX7_walk_0 := by decide +kernel
theorem dksX7_walk_1 : cX7_walk.data.toList.drop 22 = dktX7_walk_1 := dk_seg dksX7_walk_0 22 rfl rfl
theorem dksX7_walk_2 : cX7_walk.data.toList.drop 44 = dktX7_walk_2 := dk_seg dksX7_walk_1 22 rfl rfl
theorem dksX7_walk_3 : cX7_walk.data.toList.drop 66 = dktX7_walk_3 := dk_seg dksX7_walk_2 22 rfl rfl
theorem dX7_walk_0 : decode cX7_walk 0 = .ok (.aload_n 0, 1) := dk_42 (dk_at dksX7_walk_0 0 rfl rfl)
theorem dX7_walk_1 : decode cX7_walk 1 = .ok (.dup, 1) := dk_89 (dk_at dksX7_walk_0 1 rfl rfl)
theorem dX7_walk_2 : decode cX7_walk 2 = .ok (.getfield 23, 3) := dk_180 0 23 (dk_at dksX7_walk_0 2 rfl rfl)
theorem dX7_walk_5 : decode cX7_walk 5 = .ok (.iconst 1, 1) := dk_4 (dk_at dksX7_walk_0 5 rfl rfl)
theorem dX7_walk_6 : decode cX7_walk 6 = .ok (.iload_n 1, 1) := dk_27 (dk_at dksX7_walk_0 6 rfl rfl)
theorem dX7_walk_7 : decode cX7_walk 7 = .ok (.ishl, 1) := dk_120 (dk_at dksX7_walk_0 7 rfl rfl)
theorem dX7_walk_8 : decode cX7_walk 8 = .ok (.ior, 1) := dk_128 (dk_at dksX7_walk_0 8 rfl rfl)
theorem dX7_walk_9 : decode cX7_walk 9 = .ok (.putfield 23, 3) := dk_181 0 23 (dk_at dksX7_walk_0 9 rfl rfl)
theorem dX7_walk_12 : decode cX7_walk 12 = .ok (.iconst 0, 1) := dk_3 (dk_at dksX7_walk_0 12 rfl rfl)
theorem dX7_walk_13 : decode cX7_walk 13 = .ok (.istore_n 2, 1) := dk_61 (dk_at dksX7_walk_0 13 rfl rfl)
theorem dX7_walk_14 : decode cX7_walk 14 = .ok (.iload_n 2, 1) := dk_28 (dk_at dksX7_walk_0 14 rfl rfl)
theorem dX7_walk_15 : decode cX7_walk 15 = .ok (.aload_n 0, 1) := dk_42 (dk_at dksX7_walk_0 15 rfl rfl)
theorem dX7_walk_16 : decode cX7_walk 16 = .ok (.getfield 3, 3) := dk_180 0 3 (dk_at dksX7_walk_0 16 rfl rfl)
theorem dX7_walk_19 : decode cX7_walk 19 = .ok (.getfield 29, 3) := dk_180 0 29 (dk_at dksX7_walk_0 19 rfl rfl)
theorem dX7_walk_22 : decode cX7_walk 22 = .ok (.invokevirtual 46, 3) := dk_182 0 46 (dk_at dksX7_walk_1 0 rfl rfl)
theorem dX7_walk_25 : decode cX7_walk 25 = .ok (.if_icmp .ge 47, 3) := dk_162 0 47 (dk_at dksX7_walk_1 3 rfl rfl)
theorem dX7_walk_28 : decode cX7_walk 28 = .ok (.aload_n 0, 1) := dk_42 (dk_at dksX7_walk_1 6 rfl rfl)
theorem dX7_walk_29 : decode cX7_walk 29 = .ok (.getfield 19, 3) := dk_180 0 19 (dk_at dksX7_walk_1 7 rfl rfl)
theorem dX7_walk_32 : decode cX7_walk 32 = .ok (.iload_n 2, 1) := dk_28 (dk_at dksX7_walk_1 10 rfl rfl)
theorem dX7_walk_33 : decode cX7_walk 33 = .ok (.ishr, 1) := dk_122 (dk_at dksX7_walk_1 11 rfl rfl)
theorem dX7_walk_34 : decode cX7_walk 34 = .ok (.iconst 1, 1) := dk_4 (dk_at dksX7_walk_1 12 rfl rfl)
theorem dX7_walk_35 : decode cX7_walk 35 = .ok (.iand, 1) := dk_126 (dk_at dksX7_walk_1 13 rfl rfl)
theorem dX7_walk_36 : decode cX7_walk 36 = .ok (.iconst 1, 1) := dk_4 (dk_at dksX7_walk_1 14 rfl rfl)
theorem dX7_walk_37 : decode cX7_walk 37 = .ok (.if_icmp .ne 29, 3) := dk_160 0 29 (dk_at dksX7_walk_1 15 rfl rfl)
theorem dX7_walk_40 : decode cX7_walk 40 = .ok (.aload_n 0, 1) := dk_42 (dk_at dksX7_walk_1 18 rfl rfl)
theorem dX7_walk_41 : decode cX7_walk 41 = .ok (.getfield 3, 3) := dk_180 0 3 (dk_at dksX7_walk_1 19 rfl rfl)
theorem dX7_walk_44 : decode cX7_walk 44 = .ok (.getfield 29, 3) := dk_180 0 29 (dk_at dksX7_walk_2 0 rfl rfl)
theorem dX7_walk_47 : decode cX7_walk 47 = .ok (.iload_n 2, 1) := dk_28 (dk_at dksX7_walk_2 3 rfl rfl)
theorem dX7_walk_48 : decode cX7_walk 48 = .ok (.invokevirtual 33, 3) := dk_182 0 33 (dk_at dksX7_walk_2 4 rfl rfl)
theorem dX7_walk_51 : decode cX7_walk 51 = .ok (.checkcast 39, 3) := dk_192 0 39 (dk_at dksX7_walk_2 7 rfl rfl)
theorem dX7_walk_54 : decode cX7_walk 54 = .ok (.getfield 50, 3) := dk_180 0 50 (dk_at dksX7_walk_2 10 rfl rfl)
theorem dX7_walk_57 : decode cX7_walk 57 = .ok (.iload_n 1, 1) := dk_27 (dk_at dksX7_walk_2 13 rfl rfl)
theorem dX7_walk_58 : decode cX7_walk 58 = .ok (.if_icmp .ne 8, 3) := dk_160 0 8 (dk_at dksX7_walk_2 14 rfl rfl)
theorem dX7_walk_61 : decode cX7_walk 61 = .ok (.aload_n 0, 1) := dk_42 (dk_at dksX7_walk_2 17 rfl rfl)
theorem dX7_walk_62 : decode cX7_walk 62 = .ok (.iload_n 2, 1) := dk_28 (dk_at dksX7_walk_2 18 rfl rfl)
theorem dX7_walk_63 : decode cX7_walk 63 = .ok (.invokevirtual 53, 3) := dk_182 0 53 (dk_at dksX7_walk_2 19 rfl rfl)
theorem dX7_walk_66 : decode cX7_walk 66 = .ok (.iinc 2 1, 3) := dk_132 2 1 (dk_at dksX7_walk_3 0 rfl rfl)
theorem dX7_walk_69 : decode cX7_walk 69 = .ok (.goto (-55), 3) := dk_167 255 201 (dk_at dksX7_walk_3 3 rfl rfl)
theorem dX7_walk_72 : decode cX7_walk 72 = .ok (.aload_n 0, 1) := dk_42 (dk_at dksX7_walk_3 6 rfl rfl)
theorem dX7_walk_73 : decode cX7_walk 73 = .ok (.dup, 1) := dk_89 (dk_at dksX7_walk_3 7 rfl rfl)
theorem dX7_walk_74 : decode cX7_walk 74 = .ok (.getfield 23, 3) := dk_180 0 23 (dk_at dksX7_walk_3 8 rfl rfl)
theorem dX7_walk_77 : decode cX7_walk 77 = .ok (.iconst 1, 1) := dk_4 (dk_at dksX7_walk_3 11 rfl rfl)
theorem dX7_walk_78 : decode cX7_walk 78 = .ok (.iload_n 1, 1) := dk_27 (dk_at dksX7_walk_3 12 rfl rfl)
theorem dX7_walk_79 : decode cX7_walk 79 = .ok (.ishl, 1) := dk_120 (dk_at dksX7_walk_3 13 rfl rfl)
theorem dX7_walk_80 : decode cX7_walk 80 = .ok (.iconst (-1), 1) := dk_2 (dk_at dksX7_walk_3 14 rfl rfl)
theorem dX7_walk_81 : decode cX7_walk 81 = .ok (.ixor, 1) := dk_130 (dk_at dksX7_walk_3 15 rfl rfl)
theorem dX7_walk_82 : decode cX7_walk 82 = .ok (.iand, 1) := dk_126 (dk_at dksX7_walk_3 16 rfl rfl)
theorem dX7_walk_83 : decode cX7_walk 83 = .ok (.putfield 23, 3) := dk_181 0 23 (dk_at dksX7_walk_3 17 rfl rfl)
theorem dX7_walk_86 : decode cX7_walk 86 = .ok (.return_, 1) := dk_177 (dk_at dksX7_walk_3 20 rfl rfl)
abbrev cX7_step : ByteArray := prog_18_method_9_code
def yX7_step : MethodName := ⟨RX7, "step", "(I)V"⟩
def dkwX7_step_3 : List UInt8 := [4, 100, 181, 0, 26, 177]
abbrev dktX7_step_3 : List UInt8 := dkwX7_step_3 ++ []
def dkwX7_step_2 : List UInt8 := [182, 0, 63, 154, 0, 16, 42, 28, 182, 0, 67, 153, 0, 8, 42, 28, 182, 0, 70, 42, 89, 180, 0, 26]
abbrev dktX7_step_2 : List UInt8 := dkwX7_step_2 ++ dktX7_step_3
def dkwX7_step_1 : List UInt8 := [180, 0, 26, 27, 79, 42, 89, 180, 0, 26, 4, 96, 181, 0, 26, 42, 28, 182, 0, 60, 42, 28]
abbrev dktX7_step_1 : List UInt8 := dkwX7_step_1 ++ dktX7_step_2
def dkwX7_step_0 : List UInt8 := [42, 180, 0, 3, 180, 0, 29, 27, 182, 0, 33, 192, 0, 39, 180, 0, 57, 61, 42, 180, 0, 15, 42]
abbrev dktX7_step_0 : List UInt8 := dkwX7_step_0 ++ dktX7_step_1
theorem dksX7_step_0 : cX7_step.data.toList.drop 0 = dktX7_step_0 := by decide +kernel
theorem dksX7_step_1 : cX7_step.data.toList.drop 23 = dktX7_step_1 := dk_seg dksX7_step_0 23 rfl rfl
theorem dksX7_step_2 : cX7_step.data.toList.drop 45 = dktX7_step_2 := dk_seg dksX7_step_1 22 rfl rfl
theorem dksX7_step_3 : cX7_step.data.toList.drop 69 = dktX7_step_3 := dk_seg dksX7_step_2 24 rfl rfl
theorem dX7_step_0 : decode cX7_step 0 = .ok (.aload_n 0, 1) := dk_42 (dk_at dksX7_step_0 0 rfl rfl)
theorem dX7_step_1 : decode cX7_step 1 = .ok (.getfield 3, 3) := dk_180 0 3 (dk_at dksX7_step_0 1 rfl rfl)
theorem dX7_step_4 : decode cX7_step 4 = .ok (.getfield 29, 3) := dk_180 0 29 (dk_at dksX7_step_0 4 rfl rfl)
theorem dX7_step_7 : decode cX7_step 7 = .ok (.iload_n 1, 1) := dk_27 (dk_at dksX7_step_0 7 rfl rfl)
theorem dX7_step_8 : decode cX7_step 8 = .ok (.invokevirtual 33, 3) := dk_182 0 33 (dk_at dksX7_step_0 8 rfl rfl)
theorem dX7_step_11 : decode cX7_step 11 = .ok (.checkcast 39, 3) := dk_192 0 39 (dk_at dksX7_step_0 11 rfl rfl)
theorem dX7_step_14 : decode cX7_step 14 = .ok (.getfield 57, 3) := dk_180 0 57 (dk_at dksX7_step_0 14 rfl rfl)
theorem dX7_step_17 : decode cX7_step 17 = .ok (.istore_n 2, 1) := dk_61 (dk_at dksX7_step_0 17 rfl rfl)
theorem dX7_step_18 : decode cX7_step 18 = .ok (.aload_n 0, 1) := dk_42 (dk_at dksX7_step_0 18 rfl rfl)
theorem dX7_step_19 : decode cX7_step 19 = .ok (.getfield 15, 3) := dk_180 0 15 (dk_at dksX7_step_0 19 rfl rfl)
theorem dX7_step_22 : decode cX7_step 22 = .ok (.aload_n 0, 1) := dk_42 (dk_at dksX7_step_0 22 rfl rfl)
theorem dX7_step_23 : decode cX7_step 23 = .ok (.getfield 26, 3) := dk_180 0 26 (dk_at dksX7_step_1 0 rfl rfl)
theorem dX7_step_26 : decode cX7_step 26 = .ok (.iload_n 1, 1) := dk_27 (dk_at dksX7_step_1 3 rfl rfl)
theorem dX7_step_27 : decode cX7_step 27 = .ok (.iastore, 1) := dk_79 (dk_at dksX7_step_1 4 rfl rfl)
theorem dX7_step_28 : decode cX7_step 28 = .ok (.aload_n 0, 1) := dk_42 (dk_at dksX7_step_1 5 rfl rfl)
theorem dX7_step_29 : decode cX7_step 29 = .ok (.dup, 1) := dk_89 (dk_at dksX7_step_1 6 rfl rfl)
theorem dX7_step_30 : decode cX7_step 30 = .ok (.getfield 26, 3) := dk_180 0 26 (dk_at dksX7_step_1 7 rfl rfl)
theorem dX7_step_33 : decode cX7_step 33 = .ok (.iconst 1, 1) := dk_4 (dk_at dksX7_step_1 10 rfl rfl)
theorem dX7_step_34 : decode cX7_step 34 = .ok (.iadd, 1) := dk_96 (dk_at dksX7_step_1 11 rfl rfl)
theorem dX7_step_35 : decode cX7_step 35 = .ok (.putfield 26, 3) := dk_181 0 26 (dk_at dksX7_step_1 12 rfl rfl)
theorem dX7_step_38 : decode cX7_step 38 = .ok (.aload_n 0, 1) := dk_42 (dk_at dksX7_step_1 15 rfl rfl)
theorem dX7_step_39 : decode cX7_step 39 = .ok (.iload_n 2, 1) := dk_28 (dk_at dksX7_step_1 16 rfl rfl)
theorem dX7_step_40 : decode cX7_step 40 = .ok (.invokevirtual 60, 3) := dk_182 0 60 (dk_at dksX7_step_1 17 rfl rfl)
theorem dX7_step_43 : decode cX7_step 43 = .ok (.aload_n 0, 1) := dk_42 (dk_at dksX7_step_1 20 rfl rfl)
theorem dX7_step_44 : decode cX7_step 44 = .ok (.iload_n 2, 1) := dk_28 (dk_at dksX7_step_1 21 rfl rfl)
theorem dX7_step_45 : decode cX7_step 45 = .ok (.invokevirtual 63, 3) := dk_182 0 63 (dk_at dksX7_step_2 0 rfl rfl)
theorem dX7_step_48 : decode cX7_step 48 = .ok (.ifCond .ne 16, 3) := dk_154 0 16 (dk_at dksX7_step_2 3 rfl rfl)
theorem dX7_step_51 : decode cX7_step 51 = .ok (.aload_n 0, 1) := dk_42 (dk_at dksX7_step_2 6 rfl rfl)
theorem dX7_step_52 : decode cX7_step 52 = .ok (.iload_n 2, 1) := dk_28 (dk_at dksX7_step_2 7 rfl rfl)
theorem dX7_step_53 : decode cX7_step 53 = .ok (.invokevirtual 67, 3) := dk_182 0 67 (dk_at dksX7_step_2 8 rfl rfl)
theorem dX7_step_56 : decode cX7_step 56 = .ok (.ifCond .eq 8, 3) := dk_153 0 8 (dk_at dksX7_step_2 11 rfl rfl)
theorem dX7_step_59 : decode cX7_step 59 = .ok (.aload_n 0, 1) := dk_42 (dk_at dksX7_step_2 14 rfl rfl)
theorem dX7_step_60 : decode cX7_step 60 = .ok (.iload_n 2, 1) := dk_28 (dk_at dksX7_step_2 15 rfl rfl)
theorem dX7_step_61 : decode cX7_step 61 = .ok (.invokevirtual 70, 3) := dk_182 0 70 (dk_at dksX7_step_2 16 rfl rfl)
theorem dX7_step_64 : decode cX7_step 64 = .ok (.aload_n 0, 1) := dk_42 (dk_at dksX7_step_2 19 rfl rfl)
theorem dX7_step_65 : decode cX7_step 65 = .ok (.dup, 1) := dk_89 (dk_at dksX7_step_2 20 rfl rfl)
theorem dX7_step_66 : decode cX7_step 66 = .ok (.getfield 26, 3) := dk_180 0 26 (dk_at dksX7_step_2 21 rfl rfl)
theorem dX7_step_69 : decode cX7_step 69 = .ok (.iconst 1, 1) := dk_4 (dk_at dksX7_step_3 0 rfl rfl)
theorem dX7_step_70 : decode cX7_step 70 = .ok (.isub, 1) := dk_100 (dk_at dksX7_step_3 1 rfl rfl)
theorem dX7_step_71 : decode cX7_step 71 = .ok (.putfield 26, 3) := dk_181 0 26 (dk_at dksX7_step_3 2 rfl rfl)
theorem dX7_step_74 : decode cX7_step 74 = .ok (.return_, 1) := dk_177 (dk_at dksX7_step_3 5 rfl rfl)
abbrev cX7_count : ByteArray := prog_18_method_5_code
def yX7_count : MethodName := ⟨RX7, "count", "()I"⟩
theorem dX7_count_0 : decode cX7_count 0 = .ok (.aload_n 0, 1) := by decide +kernel
theorem dX7_count_1 : decode cX7_count 1 = .ok (.getfield 26, 3) := by decide +kernel
theorem dX7_count_4 : decode cX7_count 4 = .ok (.ireturn, 1) := by decide +kernel
abbrev cX7_edgeAt : ByteArray := prog_18_method_6_code
def yX7_edgeAt : MethodName := ⟨RX7, "edgeAt", "(I)LRatioGraph$Edge;"⟩
def dkwX7_edgeAt_0 : List UInt8 := [42, 180, 0, 3, 180, 0, 29, 42, 180, 0, 15, 27, 46, 182, 0, 33, 192, 0, 39, 176]
abbrev dktX7_edgeAt_0 : List UInt8 := dkwX7_edgeAt_0 ++ []
theorem dksX7_edgeAt_0 : cX7_edgeAt.data.toList.drop 0 = dktX7_edgeAt_0 := by decide +kernel
theorem dX7_edgeAt_0 : decode cX7_edgeAt 0 = .ok (.aload_n 0, 1) := dk_42 (dk_at dksX7_edgeAt_0 0 rfl rfl)
theorem dX7_edgeAt_1 : decode cX7_edgeAt 1 = .ok (.getfield 3, 3) := dk_180 0 3 (dk_at dksX7_edgeAt_0 1 rfl rfl)
theorem dX7_edgeAt_4 : decode cX7_edgeAt 4 = .ok (.getfield 29, 3) := dk_180 0 29 (dk_at dksX7_edgeAt_0 4 rfl rfl)
theorem dX7_edgeAt_7 : decode cX7_edgeAt 7 = .ok (.aload_n 0, 1) := dk_42 (dk_at dksX7_edgeAt_0 7 rfl rfl)
theorem dX7_edgeAt_8 : decode cX7_edgeAt 8 = .ok (.getfield 15, 3) := dk_180 0 15 (dk_at dksX7_edgeAt_0 8 rfl rfl)
theorem dX7_edgeAt_11 : decode cX7_edgeAt 11 = .ok (.iload_n 1, 1) := dk_27 (dk_at dksX7_edgeAt_0 11 rfl rfl)
theorem dX7_edgeAt_12 : decode cX7_edgeAt 12 = .ok (.iaload, 1) := dk_46 (dk_at dksX7_edgeAt_0 12 rfl rfl)
theorem dX7_edgeAt_13 : decode cX7_edgeAt 13 = .ok (.invokevirtual 33, 3) := dk_182 0 33 (dk_at dksX7_edgeAt_0 13 rfl rfl)
theorem dX7_edgeAt_16 : decode cX7_edgeAt 16 = .ok (.checkcast 39, 3) := dk_192 0 39 (dk_at dksX7_edgeAt_0 16 rfl rfl)
theorem dX7_edgeAt_19 : decode cX7_edgeAt 19 = .ok (.areturn, 1) := dk_176 (dk_at dksX7_edgeAt_0 19 rfl rfl)
abbrev cX7_finding : ByteArray := prog_18_method_7_code
def yX7_finding : MethodName := ⟨RX7, "finding", "(LRatioGraph$Fraction;)LRatioGraph$Finding;"⟩
def dkwX7_finding_0 : List UInt8 := [187, 0, 41, 89, 42, 180, 0, 15, 42, 180, 0, 26, 43, 183, 0, 43, 176]
abbrev dktX7_finding_0 : List UInt8 := dkwX7_finding_0 ++ []
theorem dksX7_finding_0 : cX7_finding.data.toList.drop 0 = dktX7_finding_0 := by decide +kernel
theorem dX7_finding_0 : decode cX7_finding 0 = .ok (.new 41, 3) := dk_187 0 41 (dk_at dksX7_finding_0 0 rfl rfl)
theorem dX7_finding_3 : decode cX7_finding 3 = .ok (.dup, 1) := dk_89 (dk_at dksX7_finding_0 3 rfl rfl)
theorem dX7_finding_4 : decode cX7_finding 4 = .ok (.aload_n 0, 1) := dk_42 (dk_at dksX7_finding_0 4 rfl rfl)
theorem dX7_finding_5 : decode cX7_finding 5 = .ok (.getfield 15, 3) := dk_180 0 15 (dk_at dksX7_finding_0 5 rfl rfl)
theorem dX7_finding_8 : decode cX7_finding 8 = .ok (.aload_n 0, 1) := dk_42 (dk_at dksX7_finding_0 8 rfl rfl)
theorem dX7_finding_9 : decode cX7_finding 9 = .ok (.getfield 26, 3) := dk_180 0 26 (dk_at dksX7_finding_0 9 rfl rfl)
theorem dX7_finding_12 : decode cX7_finding 12 = .ok (.aload_n 1, 1) := dk_43 (dk_at dksX7_finding_0 12 rfl rfl)
theorem dX7_finding_13 : decode cX7_finding 13 = .ok (.invokespecial 43, 3) := dk_183 0 43 (dk_at dksX7_finding_0 13 rfl rfl)
theorem dX7_finding_16 : decode cX7_finding 16 = .ok (.areturn, 1) := dk_176 (dk_at dksX7_finding_0 16 rfl rfl)
abbrev cX7_hasSeen : ByteArray := prog_18_method_4_code
def yX7_hasSeen : MethodName := ⟨RX7, "hasSeen", "(I)Z"⟩
def dkwX7_hasSeen_0 : List UInt8 := [42, 180, 0, 23, 27, 122, 4, 126, 4, 160, 0, 7, 4, 167, 0, 4, 3, 172]
abbrev dktX7_hasSeen_0 : List UInt8 := dkwX7_hasSeen_0 ++ []
theorem dksX7_hasSeen_0 : cX7_hasSeen.data.toList.drop 0 = dktX7_hasSeen_0 := by decide +kernel
theorem dX7_hasSeen_0 : decode cX7_hasSeen 0 = .ok (.aload_n 0, 1) := dk_42 (dk_at dksX7_hasSeen_0 0 rfl rfl)
theorem dX7_hasSeen_1 : decode cX7_hasSeen 1 = .ok (.getfield 23, 3) := dk_180 0 23 (dk_at dksX7_hasSeen_0 1 rfl rfl)
theorem dX7_hasSeen_4 : decode cX7_hasSeen 4 = .ok (.iload_n 1, 1) := dk_27 (dk_at dksX7_hasSeen_0 4 rfl rfl)
theorem dX7_hasSeen_5 : decode cX7_hasSeen 5 = .ok (.ishr, 1) := dk_122 (dk_at dksX7_hasSeen_0 5 rfl rfl)
theorem dX7_hasSeen_6 : decode cX7_hasSeen 6 = .ok (.iconst 1, 1) := dk_4 (dk_at dksX7_hasSeen_0 6 rfl rfl)
theorem dX7_hasSeen_7 : decode cX7_hasSeen 7 = .ok (.iand, 1) := dk_126 (dk_at dksX7_hasSeen_0 7 rfl rfl)
theorem dX7_hasSeen_8 : decode cX7_hasSeen 8 = .ok (.iconst 1, 1) := dk_4 (dk_at dksX7_hasSeen_0 8 rfl rfl)
theorem dX7_hasSeen_9 : decode cX7_hasSeen 9 = .ok (.if_icmp .ne 7, 3) := dk_160 0 7 (dk_at dksX7_hasSeen_0 9 rfl rfl)
theorem dX7_hasSeen_12 : decode cX7_hasSeen 12 = .ok (.iconst 1, 1) := dk_4 (dk_at dksX7_hasSeen_0 12 rfl rfl)
theorem dX7_hasSeen_13 : decode cX7_hasSeen 13 = .ok (.goto 4, 3) := dk_167 0 4 (dk_at dksX7_hasSeen_0 13 rfl rfl)
theorem dX7_hasSeen_16 : decode cX7_hasSeen 16 = .ok (.iconst 0, 1) := dk_3 (dk_at dksX7_hasSeen_0 16 rfl rfl)
theorem dX7_hasSeen_17 : decode cX7_hasSeen 17 = .ok (.ireturn, 1) := dk_172 (dk_at dksX7_hasSeen_0 17 rfl rfl)
theorem q86 : (Jvm.Cond.initialized "RatioGraph$Walk") ∈ lw_all := lw_g (lw_at lw_m1 22 rfl) rfl
theorem q160 : (Jvm.Cond.fieldLinkNest "RatioGraph$Walk" (29 : Nat) "RatioGraph" "edges" "Ljava/util/ArrayList;" "RatioGraph") ∈ lw_tbl := lw_at lw_m1 96 rfl
theorem q337 : (Jvm.Cond.fieldLinkNest "RatioGraph$Walk" (50 : Nat) "RatioGraph$Edge" "from" "I" "RatioGraph") ∈ lw_tbl := lw_at lw_m2 33 rfl
theorem q342 : (Jvm.Cond.fieldLinkNest "RatioGraph$Walk" (57 : Nat) "RatioGraph$Edge" "to" "I" "RatioGraph") ∈ lw_tbl := lw_at lw_m2 38 rfl
theorem q762 : (Jvm.Cond.instanceMethod ({ cls := "RatioGraph$Walk", name := "<init>", desc := "(LRatioGraph;I)V" } : Jvm.MethodName)) ∈ lw_all := lw_g (lw_at lw_m3 218 rfl) rfl
theorem q763 : (Jvm.Cond.code ({ cls := "RatioGraph$Walk", name := "<init>", desc := "(LRatioGraph;I)V" } : Jvm.MethodName) prog_18_method_1_code (3 : Nat) (Option.none : Option Jvm.ClassFile.FieldType)) ∈ lw_all := lw_g (lw_at lw_m3 219 rfl) rfl
theorem q764 : (Jvm.Cond.methodLink "RatioGraph$Walk" (9 : Nat) ({ cls := "java/lang/Object", name := "<init>", desc := "()V" } : Jvm.MethodName)) ∈ lw_all := lw_g (lw_at lw_m3 220 rfl) rfl
theorem q770 : (Jvm.Cond.fieldLink "RatioGraph$Walk" (19 : Nat) "RatioGraph$Walk" "allowed" "I") ∈ lw_all := lw_g (lw_at lw_m3 226 rfl) rfl
theorem q771 : (Jvm.Cond.fieldLink "RatioGraph$Walk" (15 : Nat) "RatioGraph$Walk" "sequence" "[I") ∈ lw_all := lw_g (lw_at lw_m3 227 rfl) rfl
theorem q772 : (Jvm.Cond.fieldLink "RatioGraph$Walk" (26 : Nat) "RatioGraph$Walk" "count" "I") ∈ lw_all := lw_g (lw_at lw_m3 228 rfl) rfl
theorem q773 : (Jvm.Cond.fieldLink "RatioGraph$Walk" (23 : Nat) "RatioGraph$Walk" "seen" "I") ∈ lw_all := lw_g (lw_at lw_m3 229 rfl) rfl
theorem q774 : (Jvm.Cond.fieldLink "RatioGraph$Walk" (3 : Nat) "RatioGraph$Walk" "this$0" "LRatioGraph;") ∈ lw_all := lw_g (lw_at lw_m3 230 rfl) rfl
theorem q786 : (Jvm.Cond.soleField "RatioGraph$Walk" "allowed") ∈ lw_all := lw_g (lw_at lw_m4 2 rfl) rfl
theorem q788 : (Jvm.Cond.soleField "RatioGraph$Walk" "sequence") ∈ lw_all := lw_g (lw_at lw_m4 4 rfl) rfl
theorem q790 : (Jvm.Cond.soleField "RatioGraph$Walk" "count") ∈ lw_all := lw_g (lw_at lw_m4 6 rfl) rfl
theorem q792 : (Jvm.Cond.soleField "RatioGraph$Walk" "seen") ∈ lw_all := lw_g (lw_at lw_m4 8 rfl) rfl
theorem q794 : (Jvm.Cond.soleField "RatioGraph$Walk" "this$0") ∈ lw_all := lw_g (lw_at lw_m4 10 rfl) rfl
theorem q808 : (Jvm.Cond.declares ({ cls := "RatioGraph$Walk", name := "walk", desc := "(I)V" } : Jvm.MethodName)) ∈ lw_tbl := lw_at lw_m4 24 rfl
theorem q814 : (Jvm.Cond.instanceMethod ({ cls := "RatioGraph$Walk", name := "walk", desc := "(I)V" } : Jvm.MethodName)) ∈ lw_all := lw_g (lw_at lw_m4 30 rfl) rfl
theorem q815 : (Jvm.Cond.code ({ cls := "RatioGraph$Walk", name := "walk", desc := "(I)V" } : Jvm.MethodName) prog_18_method_8_code (3 : Nat) (Option.none : Option Jvm.ClassFile.FieldType)) ∈ lw_all := lw_g (lw_at lw_m4 31 rfl) rfl
theorem q816 : (Jvm.Cond.methodLink "RatioGraph$Walk" (46 : Nat) ({ cls := "java/util/ArrayList", name := "size", desc := "()I" } : Jvm.MethodName)) ∈ lw_all := lw_g (lw_at lw_m4 32 rfl) rfl
theorem q817 : (Jvm.Cond.methodLink "RatioGraph$Walk" (33 : Nat) ({ cls := "java/util/ArrayList", name := "get", desc := "(I)Ljava/lang/Object;" } : Jvm.MethodName)) ∈ lw_all := lw_g (lw_at lw_m4 33 rfl) rfl
theorem q818 : (Jvm.Cond.classLink "RatioGraph$Walk" (39 : Nat) "RatioGraph$Edge") ∈ lw_all := lw_g (lw_at lw_m4 34 rfl) rfl
theorem q819 : (Jvm.Cond.methodLink "RatioGraph$Walk" (53 : Nat) ({ cls := "RatioGraph$Walk", name := "step", desc := "(I)V" } : Jvm.MethodName)) ∈ lw_all := lw_g (lw_at lw_m4 35 rfl) rfl
theorem q820 : (Jvm.Cond.privateMethod ({ cls := "RatioGraph$Walk", name := "step", desc := "(I)V" } : Jvm.MethodName)) ∈ lw_tbl := lw_at lw_m4 36 rfl
theorem q821 : (Jvm.Cond.instanceMethod ({ cls := "RatioGraph$Walk", name := "step", desc := "(I)V" } : Jvm.MethodName)) ∈ lw_all := lw_g (lw_at lw_m4 37 rfl) rfl
theorem q822 : (Jvm.Cond.code ({ cls := "RatioGraph$Walk", name := "step", desc := "(I)V" } : Jvm.MethodName) prog_18_method_9_code (3 : Nat) (Option.none : Option Jvm.ClassFile.FieldType)) ∈ lw_all := lw_g (lw_at lw_m4 38 rfl) rfl
theorem q823 : (Jvm.Cond.methodLink "RatioGraph$Walk" (60 : Nat) ({ cls := "RatioGraph$Walk", name := "arrive", desc := "(I)V" } : Jvm.MethodName)) ∈ lw_all := lw_g (lw_at lw_m4 39 rfl) rfl
theorem q824 : (Jvm.Cond.declares ({ cls := "RatioGraph$Walk", name := "arrive", desc := "(I)V" } : Jvm.MethodName)) ∈ lw_tbl := lw_at lw_m4 40 rfl
theorem q825 : (Jvm.Cond.sameMethod "RatioGraph$Walk" "RatioGraph$Walk" "arrive" "(I)V") ∈ lw_all := lw_g (lw_at lw_m4 41 rfl) rfl
theorem q843 : (Jvm.Cond.declares ({ cls := "RatioGraph$Walk", name := "count", desc := "()I" } : Jvm.MethodName)) ∈ lw_tbl := lw_at lw_m4 59 rfl
theorem q849 : (Jvm.Cond.instanceMethod ({ cls := "RatioGraph$Walk", name := "count", desc := "()I" } : Jvm.MethodName)) ∈ lw_all := lw_g (lw_at lw_m4 65 rfl) rfl
theorem q850 : (Jvm.Cond.code ({ cls := "RatioGraph$Walk", name := "count", desc := "()I" } : Jvm.MethodName) prog_18_method_5_code (1 : Nat) (Option.some Jvm.ClassFile.FieldType.int)) ∈ lw_all := lw_g (lw_at lw_m4 66 rfl) rfl
theorem q853 : (Jvm.Cond.declares ({ cls := "RatioGraph$Walk", name := "edgeAt", desc := "(I)LRatioGraph$Edge;" } : Jvm.MethodName)) ∈ lw_tbl := lw_at lw_m4 69 rfl
theorem q859 : (Jvm.Cond.instanceMethod ({ cls := "RatioGraph$Walk", name := "edgeAt", desc := "(I)LRatioGraph$Edge;" } : Jvm.MethodName)) ∈ lw_all := lw_g (lw_at lw_m4 75 rfl) rfl
theorem q860 : (Jvm.Cond.code ({ cls := "RatioGraph$Walk", name := "edgeAt", desc := "(I)LRatioGraph$Edge;" } : Jvm.MethodName) prog_18_method_6_code (2 : Nat) (Option.some (Jvm.ClassFile.FieldType.object "RatioGraph$Edge"))) ∈ lw_all := lw_g (lw_at lw_m4 76 rfl) rfl
theorem q895 : (Jvm.Cond.declares ({ cls := "RatioGraph$Walk", name := "finding", desc := "(LRatioGraph$Fraction;)LRatioGraph$Finding;" } : Jvm.MethodName)) ∈ lw_tbl := lw_at lw_m4 111 rfl
theorem q897 : (Jvm.Cond.instanceMethod ({ cls := "RatioGraph$Walk", name := "finding", desc := "(LRatioGraph$Fraction;)LRatioGraph$Finding;" } : Jvm.MethodName)) ∈ lw_all := lw_g (lw_at lw_m4 113 rfl) rfl
theorem q898 : (Jvm.Cond.code ({ cls := "RatioGraph$Walk", name := "finding", desc := "(LRatioGraph$Fraction;)LRatioGraph$Finding;" } : Jvm.MethodName) prog_18_method_7_code (2 : Nat) (Option.some (Jvm.ClassFile.FieldType.object "RatioGraph$Finding"))) ∈ lw_all := lw_g (lw_at lw_m4 114 rfl) rfl
theorem q899 : (Jvm.Cond.classLink "RatioGraph$Walk" (41 : Nat) "RatioGraph$Finding") ∈ lw_all := lw_g (lw_at lw_m4 115 rfl) rfl
theorem q901 : (Jvm.Cond.methodLink "RatioGraph$Walk" (43 : Nat) ({ cls := "RatioGraph$Finding", name := "<init>", desc := "([IILRatioGraph$Fraction;)V" } : Jvm.MethodName)) ∈ lw_all := lw_g (lw_at lw_m4 117 rfl) rfl
theorem q963 : (Jvm.Cond.methodLink "RatioGraph$Walk" (63 : Nat) ({ cls := "RatioGraph$Walk", name := "hasSeen", desc := "(I)Z" } : Jvm.MethodName)) ∈ lw_all := lw_g (lw_at lw_m4 179 rfl) rfl
theorem q964 : (Jvm.Cond.instanceMethod ({ cls := "RatioGraph$Walk", name := "hasSeen", desc := "(I)Z" } : Jvm.MethodName)) ∈ lw_all := lw_g (lw_at lw_m4 180 rfl) rfl
theorem q965 : (Jvm.Cond.sameMethod "RatioGraph$Walk" "RatioGraph$Walk" "hasSeen" "(I)Z") ∈ lw_all := lw_g (lw_at lw_m4 181 rfl) rfl
theorem q972 : (Jvm.Cond.code ({ cls := "RatioGraph$Walk", name := "hasSeen", desc := "(I)Z" } : Jvm.MethodName) prog_18_method_4_code (2 : Nat) (Option.some Jvm.ClassFile.FieldType.boolean)) ∈ lw_all := lw_g (lw_at lw_m4 188 rfl) rfl
theorem q973 : (Jvm.Cond.methodLink "RatioGraph$Walk" (67 : Nat) ({ cls := "RatioGraph$Walk", name := "goesOn", desc := "(I)Z" } : Jvm.MethodName)) ∈ lw_all := lw_g (lw_at lw_m4 189 rfl) rfl
theorem q974 : (Jvm.Cond.declares ({ cls := "RatioGraph$Walk", name := "goesOn", desc := "(I)Z" } : Jvm.MethodName)) ∈ lw_tbl := lw_at lw_m4 190 rfl
theorem q975 : (Jvm.Cond.sameMethod "RatioGraph$Walk" "RatioGraph$Walk" "goesOn" "(I)Z") ∈ lw_all := lw_g (lw_at lw_m4 191 rfl) rfl
theorem q986 : (Jvm.Cond.methodLink "RatioGraph$Walk" (70 : Nat) ({ cls := "RatioGraph$Walk", name := "walk", desc := "(I)V" } : Jvm.MethodName)) ∈ lw_all := lw_g (lw_at lw_m4 202 rfl) rfl
theorem q1785 : (Jvm.Cond.sameMethod "RatioGraph$Walk" "RatioGraph$Walk" "step" "(I)V") ∈ lw_all := lw_g (lw_at lw_m8 41 rfl) rfl
theorem q1786 : (Jvm.Cond.sameMethod "RatioGraph$Walk" "RatioGraph$Walk" "walk" "(I)V") ∈ lw_all := lw_g (lw_at lw_m8 42 rfl) rfl

/-! RatioGraph$Cycles -/
set_option maxRecDepth 100000
def RX8 : String := "RatioGraph$Cycles"
abbrev cX8_init : ByteArray := prog_5_method_1_code
def yX8_init : MethodName := ⟨RX8, "<init>", "(LRatioGraph;I)V"⟩
def dkwX8_init_0 : List UInt8 := [42, 43, 181, 0, 3, 42, 43, 28, 183, 0, 9, 177]
abbrev dktX8_init_0 : List UInt8 := dkwX8_init_0 ++ []
theorem dksX8_init_0 : cX8_init.data.toList.drop 0 = dktX8_init_0 := by decide +kernel
theorem dX8_init_0 : decode cX8_init 0 = .ok (.aload_n 0, 1) := dk_42 (dk_at dksX8_init_0 0 rfl rfl)
theorem dX8_init_1 : decode cX8_init 1 = .ok (.aload_n 1, 1) := dk_43 (dk_at dksX8_init_0 1 rfl rfl)
theorem dX8_init_2 : decode cX8_init 2 = .ok (.putfield 3, 3) := dk_181 0 3 (dk_at dksX8_init_0 2 rfl rfl)
theorem dX8_init_5 : decode cX8_init 5 = .ok (.aload_n 0, 1) := dk_42 (dk_at dksX8_init_0 5 rfl rfl)
theorem dX8_init_6 : decode cX8_init 6 = .ok (.aload_n 1, 1) := dk_43 (dk_at dksX8_init_0 6 rfl rfl)
theorem dX8_init_7 : decode cX8_init 7 = .ok (.iload_n 2, 1) := dk_28 (dk_at dksX8_init_0 7 rfl rfl)
theorem dX8_init_8 : decode cX8_init 8 = .ok (.invokespecial 9, 3) := dk_183 0 9 (dk_at dksX8_init_0 8 rfl rfl)
theorem dX8_init_11 : decode cX8_init 11 = .ok (.return_, 1) := dk_177 (dk_at dksX8_init_0 11 rfl rfl)
abbrev cX8_walkAll : ByteArray := prog_5_method_5_code
def yX8_walkAll : MethodName := ⟨RX8, "walkAll", "()V"⟩
def dkwX8_walkAll_1 : List UInt8 := [180, 0, 15, 4, 96, 181, 0, 15, 167, 255, 229, 177]
abbrev dktX8_walkAll_1 : List UInt8 := dkwX8_walkAll_1 ++ []
def dkwX8_walkAll_0 : List UInt8 := [42, 3, 181, 0, 15, 42, 180, 0, 15, 16, 8, 162, 0, 24, 42, 42, 180, 0, 15, 182, 0, 23, 42, 89]
abbrev dktX8_walkAll_0 : List UInt8 := dkwX8_walkAll_0 ++ dktX8_walkAll_1
theorem dksX8_walkAll_0 : cX8_walkAll.data.toList.drop 0 = dktX8_walkAll_0 := by decide +kernel
theorem dksX8_walkAll_1 : cX8_walkAll.data.toList.drop 24 = dktX8_walkAll_1 := dk_seg dksX8_walkAll_0 24 rfl rfl
theorem dX8_walkAll_0 : decode cX8_walkAll 0 = .ok (.aload_n 0, 1) := dk_42 (dk_at dksX8_walkAll_0 0 rfl rfl)
theorem dX8_walkAll_1 : decode cX8_walkAll 1 = .ok (.iconst 0, 1) := dk_3 (dk_at dksX8_walkAll_0 1 rfl rfl)
theorem dX8_walkAll_2 : decode cX8_walkAll 2 = .ok (.putfield 15, 3) := dk_181 0 15 (dk_at dksX8_walkAll_0 2 rfl rfl)
theorem dX8_walkAll_5 : decode cX8_walkAll 5 = .ok (.aload_n 0, 1) := dk_42 (dk_at dksX8_walkAll_0 5 rfl rfl)
theorem dX8_walkAll_6 : decode cX8_walkAll 6 = .ok (.getfield 15, 3) := dk_180 0 15 (dk_at dksX8_walkAll_0 6 rfl rfl)
theorem dX8_walkAll_9 : decode cX8_walkAll 9 = .ok (.bipush 8, 2) := dk_16 8 (dk_at dksX8_walkAll_0 9 rfl rfl)
theorem dX8_walkAll_11 : decode cX8_walkAll 11 = .ok (.if_icmp .ge 24, 3) := dk_162 0 24 (dk_at dksX8_walkAll_0 11 rfl rfl)
theorem dX8_walkAll_14 : decode cX8_walkAll 14 = .ok (.aload_n 0, 1) := dk_42 (dk_at dksX8_walkAll_0 14 rfl rfl)
theorem dX8_walkAll_15 : decode cX8_walkAll 15 = .ok (.aload_n 0, 1) := dk_42 (dk_at dksX8_walkAll_0 15 rfl rfl)
theorem dX8_walkAll_16 : decode cX8_walkAll 16 = .ok (.getfield 15, 3) := dk_180 0 15 (dk_at dksX8_walkAll_0 16 rfl rfl)
theorem dX8_walkAll_19 : decode cX8_walkAll 19 = .ok (.invokevirtual 23, 3) := dk_182 0 23 (dk_at dksX8_walkAll_0 19 rfl rfl)
theorem dX8_walkAll_22 : decode cX8_walkAll 22 = .ok (.aload_n 0, 1) := dk_42 (dk_at dksX8_walkAll_0 22 rfl rfl)
theorem dX8_walkAll_23 : decode cX8_walkAll 23 = .ok (.dup, 1) := dk_89 (dk_at dksX8_walkAll_0 23 rfl rfl)
theorem dX8_walkAll_24 : decode cX8_walkAll 24 = .ok (.getfield 15, 3) := dk_180 0 15 (dk_at dksX8_walkAll_1 0 rfl rfl)
theorem dX8_walkAll_27 : decode cX8_walkAll 27 = .ok (.iconst 1, 1) := dk_4 (dk_at dksX8_walkAll_1 3 rfl rfl)
theorem dX8_walkAll_28 : decode cX8_walkAll 28 = .ok (.iadd, 1) := dk_96 (dk_at dksX8_walkAll_1 4 rfl rfl)
theorem dX8_walkAll_29 : decode cX8_walkAll 29 = .ok (.putfield 15, 3) := dk_181 0 15 (dk_at dksX8_walkAll_1 5 rfl rfl)
theorem dX8_walkAll_32 : decode cX8_walkAll 32 = .ok (.goto (-27), 3) := dk_167 255 229 (dk_at dksX8_walkAll_1 8 rfl rfl)
theorem dX8_walkAll_35 : decode cX8_walkAll 35 = .ok (.return_, 1) := dk_177 (dk_at dksX8_walkAll_1 11 rfl rfl)
abbrev cX8_arrive : ByteArray := prog_5_method_4_code
def yX8_arrive : MethodName := ⟨RX8, "arrive", "(I)V"⟩
def dkwX8_arrive_0 : List UInt8 := [27, 42, 180, 0, 15, 160, 0, 7, 42, 182, 0, 19, 177]
abbrev dktX8_arrive_0 : List UInt8 := dkwX8_arrive_0 ++ []
theorem dksX8_arrive_0 : cX8_arrive.data.toList.drop 0 = dktX8_arrive_0 := by decide +kernel
theorem dX8_arrive_0 : decode cX8_arrive 0 = .ok (.iload_n 1, 1) := dk_27 (dk_at dksX8_arrive_0 0 rfl rfl)
theorem dX8_arrive_1 : decode cX8_arrive 1 = .ok (.aload_n 0, 1) := dk_42 (dk_at dksX8_arrive_0 1 rfl rfl)
theorem dX8_arrive_2 : decode cX8_arrive 2 = .ok (.getfield 15, 3) := dk_180 0 15 (dk_at dksX8_arrive_0 2 rfl rfl)
theorem dX8_arrive_5 : decode cX8_arrive 5 = .ok (.if_icmp .ne 7, 3) := dk_160 0 7 (dk_at dksX8_arrive_0 5 rfl rfl)
theorem dX8_arrive_8 : decode cX8_arrive 8 = .ok (.aload_n 0, 1) := dk_42 (dk_at dksX8_arrive_0 8 rfl rfl)
theorem dX8_arrive_9 : decode cX8_arrive 9 = .ok (.invokevirtual 19, 3) := dk_182 0 19 (dk_at dksX8_arrive_0 9 rfl rfl)
theorem dX8_arrive_12 : decode cX8_arrive 12 = .ok (.return_, 1) := dk_177 (dk_at dksX8_arrive_0 12 rfl rfl)
abbrev cX8_sum : ByteArray := prog_5_method_6_code
def yX8_sum : MethodName := ⟨RX8, "sum", "(I)I"⟩
def dkwX8_sum_1 : List UInt8 := [132, 3, 1, 167, 255, 233, 28, 172]
abbrev dktX8_sum_1 : List UInt8 := dkwX8_sum_1 ++ []
def dkwX8_sum_0 : List UInt8 := [3, 61, 3, 62, 29, 42, 182, 0, 27, 162, 0, 21, 28, 42, 29, 182, 0, 31, 27, 182, 0, 35, 96, 61]
abbrev dktX8_sum_0 : List UInt8 := dkwX8_sum_0 ++ dktX8_sum_1
theorem dksX8_sum_0 : cX8_sum.data.toList.drop 0 = dktX8_sum_0 := by decide +kernel
theorem dksX8_sum_1 : cX8_sum.data.toList.drop 24 = dktX8_sum_1 := dk_seg dksX8_sum_0 24 rfl rfl
theorem dX8_sum_0 : decode cX8_sum 0 = .ok (.iconst 0, 1) := dk_3 (dk_at dksX8_sum_0 0 rfl rfl)
theorem dX8_sum_1 : decode cX8_sum 1 = .ok (.istore_n 2, 1) := dk_61 (dk_at dksX8_sum_0 1 rfl rfl)
theorem dX8_sum_2 : decode cX8_sum 2 = .ok (.iconst 0, 1) := dk_3 (dk_at dksX8_sum_0 2 rfl rfl)
theorem dX8_sum_3 : decode cX8_sum 3 = .ok (.istore_n 3, 1) := dk_62 (dk_at dksX8_sum_0 3 rfl rfl)
theorem dX8_sum_4 : decode cX8_sum 4 = .ok (.iload_n 3, 1) := dk_29 (dk_at dksX8_sum_0 4 rfl rfl)
theorem dX8_sum_5 : decode cX8_sum 5 = .ok (.aload_n 0, 1) := dk_42 (dk_at dksX8_sum_0 5 rfl rfl)
theorem dX8_sum_6 : decode cX8_sum 6 = .ok (.invokevirtual 27, 3) := dk_182 0 27 (dk_at dksX8_sum_0 6 rfl rfl)
theorem dX8_sum_9 : decode cX8_sum 9 = .ok (.if_icmp .ge 21, 3) := dk_162 0 21 (dk_at dksX8_sum_0 9 rfl rfl)
theorem dX8_sum_12 : decode cX8_sum 12 = .ok (.iload_n 2, 1) := dk_28 (dk_at dksX8_sum_0 12 rfl rfl)
theorem dX8_sum_13 : decode cX8_sum 13 = .ok (.aload_n 0, 1) := dk_42 (dk_at dksX8_sum_0 13 rfl rfl)
theorem dX8_sum_14 : decode cX8_sum 14 = .ok (.iload_n 3, 1) := dk_29 (dk_at dksX8_sum_0 14 rfl rfl)
theorem dX8_sum_15 : decode cX8_sum 15 = .ok (.invokevirtual 31, 3) := dk_182 0 31 (dk_at dksX8_sum_0 15 rfl rfl)
theorem dX8_sum_18 : decode cX8_sum 18 = .ok (.iload_n 1, 1) := dk_27 (dk_at dksX8_sum_0 18 rfl rfl)
theorem dX8_sum_19 : decode cX8_sum 19 = .ok (.invokevirtual 35, 3) := dk_182 0 35 (dk_at dksX8_sum_0 19 rfl rfl)
theorem dX8_sum_22 : decode cX8_sum 22 = .ok (.iadd, 1) := dk_96 (dk_at dksX8_sum_0 22 rfl rfl)
theorem dX8_sum_23 : decode cX8_sum 23 = .ok (.istore_n 2, 1) := dk_61 (dk_at dksX8_sum_0 23 rfl rfl)
theorem dX8_sum_24 : decode cX8_sum 24 = .ok (.iinc 3 1, 3) := dk_132 3 1 (dk_at dksX8_sum_1 0 rfl rfl)
theorem dX8_sum_27 : decode cX8_sum 27 = .ok (.goto (-23), 3) := dk_167 255 233 (dk_at dksX8_sum_1 3 rfl rfl)
theorem dX8_sum_30 : decode cX8_sum 30 = .ok (.iload_n 2, 1) := dk_28 (dk_at dksX8_sum_1 6 rfl rfl)
theorem dX8_sum_31 : decode cX8_sum 31 = .ok (.ireturn, 1) := dk_172 (dk_at dksX8_sum_1 7 rfl rfl)
abbrev cX8_product : ByteArray := prog_5_method_7_code
def yX8_product : MethodName := ⟨RX8, "product", "()LRatioGraph$Fraction;"⟩
def dkwX8_product_2 : List UInt8 := [167, 255, 222, 43, 176]
abbrev dktX8_product_2 : List UInt8 := dkwX8_product_2 ++ []
def dkwX8_product_1 : List UInt8 := [182, 0, 31, 180, 0, 46, 133, 42, 28, 182, 0, 31, 180, 0, 49, 133, 182, 0, 52, 76, 132, 2, 1]
abbrev dktX8_product_1 : List UInt8 := dkwX8_product_1 ++ dktX8_product_2
def dkwX8_product_0 : List UInt8 := [187, 0, 41, 89, 10, 183, 0, 43, 76, 3, 61, 28, 42, 182, 0, 27, 162, 0, 32, 43, 42, 28]
abbrev dktX8_product_0 : List UInt8 := dkwX8_product_0 ++ dktX8_product_1
theorem dksX8_product_0 : cX8_product.data.toList.drop 0 = dktX8_product_0 := by decide +kernel
theorem dksX8_product_1 : cX8_product.data.toList.drop 22 = dktX8_product_1 := dk_seg dksX8_product_0 22 rfl rfl
theorem dksX8_product_2 : cX8_product.data.toList.drop 45 = dktX8_product_2 := dk_seg dksX8_product_1 23 rfl rfl
theorem dX8_product_0 : decode cX8_product 0 = .ok (.new 41, 3) := dk_187 0 41 (dk_at dksX8_product_0 0 rfl rfl)
theorem dX8_product_3 : decode cX8_product 3 = .ok (.dup, 1) := dk_89 (dk_at dksX8_product_0 3 rfl rfl)
theorem dX8_product_4 : decode cX8_product 4 = .ok (.lconst 1, 1) := dk_10 (dk_at dksX8_product_0 4 rfl rfl)
theorem dX8_product_5 : decode cX8_product 5 = .ok (.invokespecial 43, 3) := dk_183 0 43 (dk_at dksX8_product_0 5 rfl rfl)
theorem dX8_product_8 : decode cX8_product 8 = .ok (.astore_n 1, 1) := dk_76 (dk_at dksX8_product_0 8 rfl rfl)
theorem dX8_product_9 : decode cX8_product 9 = .ok (.iconst 0, 1) := dk_3 (dk_at dksX8_product_0 9 rfl rfl)
theorem dX8_product_10 : decode cX8_product 10 = .ok (.istore_n 2, 1) := dk_61 (dk_at dksX8_product_0 10 rfl rfl)
theorem dX8_product_11 : decode cX8_product 11 = .ok (.iload_n 2, 1) := dk_28 (dk_at dksX8_product_0 11 rfl rfl)
theorem dX8_product_12 : decode cX8_product 12 = .ok (.aload_n 0, 1) := dk_42 (dk_at dksX8_product_0 12 rfl rfl)
theorem dX8_product_13 : decode cX8_product 13 = .ok (.invokevirtual 27, 3) := dk_182 0 27 (dk_at dksX8_product_0 13 rfl rfl)
theorem dX8_product_16 : decode cX8_product 16 = .ok (.if_icmp .ge 32, 3) := dk_162 0 32 (dk_at dksX8_product_0 16 rfl rfl)
theorem dX8_product_19 : decode cX8_product 19 = .ok (.aload_n 1, 1) := dk_43 (dk_at dksX8_product_0 19 rfl rfl)
theorem dX8_product_20 : decode cX8_product 20 = .ok (.aload_n 0, 1) := dk_42 (dk_at dksX8_product_0 20 rfl rfl)
theorem dX8_product_21 : decode cX8_product 21 = .ok (.iload_n 2, 1) := dk_28 (dk_at dksX8_product_0 21 rfl rfl)
theorem dX8_product_22 : decode cX8_product 22 = .ok (.invokevirtual 31, 3) := dk_182 0 31 (dk_at dksX8_product_1 0 rfl rfl)
theorem dX8_product_25 : decode cX8_product 25 = .ok (.getfield 46, 3) := dk_180 0 46 (dk_at dksX8_product_1 3 rfl rfl)
theorem dX8_product_28 : decode cX8_product 28 = .ok (.i2l, 1) := dk_133 (dk_at dksX8_product_1 6 rfl rfl)
theorem dX8_product_29 : decode cX8_product 29 = .ok (.aload_n 0, 1) := dk_42 (dk_at dksX8_product_1 7 rfl rfl)
theorem dX8_product_30 : decode cX8_product 30 = .ok (.iload_n 2, 1) := dk_28 (dk_at dksX8_product_1 8 rfl rfl)
theorem dX8_product_31 : decode cX8_product 31 = .ok (.invokevirtual 31, 3) := dk_182 0 31 (dk_at dksX8_product_1 9 rfl rfl)
theorem dX8_product_34 : decode cX8_product 34 = .ok (.getfield 49, 3) := dk_180 0 49 (dk_at dksX8_product_1 12 rfl rfl)
theorem dX8_product_37 : decode cX8_product 37 = .ok (.i2l, 1) := dk_133 (dk_at dksX8_product_1 15 rfl rfl)
theorem dX8_product_38 : decode cX8_product 38 = .ok (.invokevirtual 52, 3) := dk_182 0 52 (dk_at dksX8_product_1 16 rfl rfl)
theorem dX8_product_41 : decode cX8_product 41 = .ok (.astore_n 1, 1) := dk_76 (dk_at dksX8_product_1 19 rfl rfl)
theorem dX8_product_42 : decode cX8_product 42 = .ok (.iinc 2 1, 3) := dk_132 2 1 (dk_at dksX8_product_1 20 rfl rfl)
theorem dX8_product_45 : decode cX8_product 45 = .ok (.goto (-34), 3) := dk_167 255 222 (dk_at dksX8_product_2 0 rfl rfl)
theorem dX8_product_48 : decode cX8_product 48 = .ok (.aload_n 1, 1) := dk_43 (dk_at dksX8_product_2 3 rfl rfl)
theorem dX8_product_49 : decode cX8_product 49 = .ok (.areturn, 1) := dk_176 (dk_at dksX8_product_2 4 rfl rfl)
abbrev cX8_goesOn : ByteArray := prog_5_method_3_code
def yX8_goesOn : MethodName := ⟨RX8, "goesOn", "(I)Z"⟩
def dkwX8_goesOn_0 : List UInt8 := [27, 42, 180, 0, 15, 164, 0, 7, 4, 167, 0, 4, 3, 172]
abbrev dktX8_goesOn_0 : List UInt8 := dkwX8_goesOn_0 ++ []
theorem dksX8_goesOn_0 : cX8_goesOn.data.toList.drop 0 = dktX8_goesOn_0 := by decide +kernel
theorem dX8_goesOn_0 : decode cX8_goesOn 0 = .ok (.iload_n 1, 1) := dk_27 (dk_at dksX8_goesOn_0 0 rfl rfl)
theorem dX8_goesOn_1 : decode cX8_goesOn 1 = .ok (.aload_n 0, 1) := dk_42 (dk_at dksX8_goesOn_0 1 rfl rfl)
theorem dX8_goesOn_2 : decode cX8_goesOn 2 = .ok (.getfield 15, 3) := dk_180 0 15 (dk_at dksX8_goesOn_0 2 rfl rfl)
theorem dX8_goesOn_5 : decode cX8_goesOn 5 = .ok (.if_icmp .le 7, 3) := dk_164 0 7 (dk_at dksX8_goesOn_0 5 rfl rfl)
theorem dX8_goesOn_8 : decode cX8_goesOn 8 = .ok (.iconst 1, 1) := dk_4 (dk_at dksX8_goesOn_0 8 rfl rfl)
theorem dX8_goesOn_9 : decode cX8_goesOn 9 = .ok (.goto 4, 3) := dk_167 0 4 (dk_at dksX8_goesOn_0 9 rfl rfl)
theorem dX8_goesOn_12 : decode cX8_goesOn 12 = .ok (.iconst 0, 1) := dk_3 (dk_at dksX8_goesOn_0 12 rfl rfl)
theorem dX8_goesOn_13 : decode cX8_goesOn 13 = .ok (.ireturn, 1) := dk_172 (dk_at dksX8_goesOn_0 13 rfl rfl)
theorem q87 : (Jvm.Cond.initialized "RatioGraph$Cycles") ∈ lw_all := lw_g (lw_at lw_m1 23 rfl) rfl
theorem q354 : (Jvm.Cond.fieldLinkNest "RatioGraph$Cycles" (46 : Nat) "RatioGraph$Edge" "top" "I" "RatioGraph") ∈ lw_tbl := lw_at lw_m2 50 rfl
theorem q358 : (Jvm.Cond.fieldLinkNest "RatioGraph$Cycles" (49 : Nat) "RatioGraph$Edge" "bottom" "I" "RatioGraph") ∈ lw_tbl := lw_at lw_m2 54 rfl
theorem q759 : (Jvm.Cond.instanceMethod ({ cls := "RatioGraph$Cycles", name := "<init>", desc := "(LRatioGraph;I)V" } : Jvm.MethodName)) ∈ lw_all := lw_g (lw_at lw_m3 215 rfl) rfl
theorem q760 : (Jvm.Cond.code ({ cls := "RatioGraph$Cycles", name := "<init>", desc := "(LRatioGraph;I)V" } : Jvm.MethodName) prog_5_method_1_code (3 : Nat) (Option.none : Option Jvm.ClassFile.FieldType)) ∈ lw_all := lw_g (lw_at lw_m3 216 rfl) rfl
theorem q761 : (Jvm.Cond.methodLink "RatioGraph$Cycles" (9 : Nat) ({ cls := "RatioGraph$Walk", name := "<init>", desc := "(LRatioGraph;I)V" } : Jvm.MethodName)) ∈ lw_all := lw_g (lw_at lw_m3 217 rfl) rfl
theorem q768 : (Jvm.Cond.fieldLink "RatioGraph$Cycles" (15 : Nat) "RatioGraph$Cycles" "start" "I") ∈ lw_all := lw_g (lw_at lw_m3 224 rfl) rfl
theorem q769 : (Jvm.Cond.fieldLink "RatioGraph$Cycles" (3 : Nat) "RatioGraph$Cycles" "this$0" "LRatioGraph;") ∈ lw_all := lw_g (lw_at lw_m3 225 rfl) rfl
theorem q782 : (Jvm.Cond.soleField "RatioGraph$Cycles" "start") ∈ lw_all := lw_g (lw_at lw_m3 238 rfl) rfl
theorem q784 : (Jvm.Cond.soleField "RatioGraph$Cycles" "this$0") ∈ lw_all := lw_g (lw_at lw_m4 0 rfl) rfl
theorem q802 : (Jvm.Cond.declares ({ cls := "RatioGraph$Cycles", name := "walkAll", desc := "()V" } : Jvm.MethodName)) ∈ lw_tbl := lw_at lw_m4 18 rfl
theorem q804 : (Jvm.Cond.instanceMethod ({ cls := "RatioGraph$Cycles", name := "walkAll", desc := "()V" } : Jvm.MethodName)) ∈ lw_all := lw_g (lw_at lw_m4 20 rfl) rfl
theorem q805 : (Jvm.Cond.code ({ cls := "RatioGraph$Cycles", name := "walkAll", desc := "()V" } : Jvm.MethodName) prog_5_method_5_code (1 : Nat) (Option.none : Option Jvm.ClassFile.FieldType)) ∈ lw_all := lw_g (lw_at lw_m4 21 rfl) rfl
theorem q806 : (Jvm.Cond.methodLink "RatioGraph$Cycles" (23 : Nat) ({ cls := "RatioGraph$Cycles", name := "walk", desc := "(I)V" } : Jvm.MethodName)) ∈ lw_all := lw_g (lw_at lw_m4 22 rfl) rfl
theorem q807 : (Jvm.Cond.sameMethod "RatioGraph$Cycles" "RatioGraph$Walk" "walk" "(I)V") ∈ lw_all := lw_g (lw_at lw_m4 23 rfl) rfl
theorem q827 : (Jvm.Cond.instanceMethod ({ cls := "RatioGraph$Cycles", name := "arrive", desc := "(I)V" } : Jvm.MethodName)) ∈ lw_all := lw_g (lw_at lw_m4 43 rfl) rfl
theorem q828 : (Jvm.Cond.code ({ cls := "RatioGraph$Cycles", name := "arrive", desc := "(I)V" } : Jvm.MethodName) prog_5_method_4_code (2 : Nat) (Option.none : Option Jvm.ClassFile.FieldType)) ∈ lw_all := lw_g (lw_at lw_m4 44 rfl) rfl
theorem q829 : (Jvm.Cond.methodLink "RatioGraph$Cycles" (19 : Nat) ({ cls := "RatioGraph$Cycles", name := "close", desc := "()V" } : Jvm.MethodName)) ∈ lw_all := lw_g (lw_at lw_m4 45 rfl) rfl
theorem q830 : (Jvm.Cond.declares ({ cls := "RatioGraph$Cycles", name := "close", desc := "()V" } : Jvm.MethodName)) ∈ lw_tbl := lw_at lw_m4 46 rfl
theorem q831 : (Jvm.Cond.sameMethod "RatioGraph$Cycles" "RatioGraph$Cycles" "close" "()V") ∈ lw_all := lw_g (lw_at lw_m4 47 rfl) rfl
theorem q837 : (Jvm.Cond.declares ({ cls := "RatioGraph$Cycles", name := "sum", desc := "(I)I" } : Jvm.MethodName)) ∈ lw_tbl := lw_at lw_m4 53 rfl
theorem q839 : (Jvm.Cond.instanceMethod ({ cls := "RatioGraph$Cycles", name := "sum", desc := "(I)I" } : Jvm.MethodName)) ∈ lw_all := lw_g (lw_at lw_m4 55 rfl) rfl
theorem q840 : (Jvm.Cond.code ({ cls := "RatioGraph$Cycles", name := "sum", desc := "(I)I" } : Jvm.MethodName) prog_5_method_6_code (4 : Nat) (Option.some Jvm.ClassFile.FieldType.int)) ∈ lw_all := lw_g (lw_at lw_m4 56 rfl) rfl
theorem q841 : (Jvm.Cond.methodLink "RatioGraph$Cycles" (27 : Nat) ({ cls := "RatioGraph$Cycles", name := "count", desc := "()I" } : Jvm.MethodName)) ∈ lw_all := lw_g (lw_at lw_m4 57 rfl) rfl
theorem q842 : (Jvm.Cond.sameMethod "RatioGraph$Cycles" "RatioGraph$Walk" "count" "()I") ∈ lw_all := lw_g (lw_at lw_m4 58 rfl) rfl
theorem q851 : (Jvm.Cond.methodLink "RatioGraph$Cycles" (31 : Nat) ({ cls := "RatioGraph$Cycles", name := "edgeAt", desc := "(I)LRatioGraph$Edge;" } : Jvm.MethodName)) ∈ lw_all := lw_g (lw_at lw_m4 67 rfl) rfl
theorem q852 : (Jvm.Cond.sameMethod "RatioGraph$Cycles" "RatioGraph$Walk" "edgeAt" "(I)LRatioGraph$Edge;") ∈ lw_all := lw_g (lw_at lw_m4 68 rfl) rfl
theorem q861 : (Jvm.Cond.methodLink "RatioGraph$Cycles" (35 : Nat) ({ cls := "RatioGraph$Edge", name := "part", desc := "(I)I" } : Jvm.MethodName)) ∈ lw_all := lw_g (lw_at lw_m4 77 rfl) rfl
theorem q873 : (Jvm.Cond.declares ({ cls := "RatioGraph$Cycles", name := "product", desc := "()LRatioGraph$Fraction;" } : Jvm.MethodName)) ∈ lw_tbl := lw_at lw_m4 89 rfl
theorem q875 : (Jvm.Cond.instanceMethod ({ cls := "RatioGraph$Cycles", name := "product", desc := "()LRatioGraph$Fraction;" } : Jvm.MethodName)) ∈ lw_all := lw_g (lw_at lw_m4 91 rfl) rfl
theorem q876 : (Jvm.Cond.code ({ cls := "RatioGraph$Cycles", name := "product", desc := "()LRatioGraph$Fraction;" } : Jvm.MethodName) prog_5_method_7_code (3 : Nat) (Option.some (Jvm.ClassFile.FieldType.object "RatioGraph$Fraction"))) ∈ lw_all := lw_g (lw_at lw_m4 92 rfl) rfl
theorem q877 : (Jvm.Cond.classLink "RatioGraph$Cycles" (41 : Nat) "RatioGraph$Fraction") ∈ lw_all := lw_g (lw_at lw_m4 93 rfl) rfl
theorem q878 : (Jvm.Cond.methodLink "RatioGraph$Cycles" (43 : Nat) ({ cls := "RatioGraph$Fraction", name := "<init>", desc := "(J)V" } : Jvm.MethodName)) ∈ lw_all := lw_g (lw_at lw_m4 94 rfl) rfl
theorem q882 : (Jvm.Cond.methodLink "RatioGraph$Cycles" (52 : Nat) ({ cls := "RatioGraph$Fraction", name := "times", desc := "(JJ)LRatioGraph$Fraction;" } : Jvm.MethodName)) ∈ lw_all := lw_g (lw_at lw_m4 98 rfl) rfl
theorem q977 : (Jvm.Cond.instanceMethod ({ cls := "RatioGraph$Cycles", name := "goesOn", desc := "(I)Z" } : Jvm.MethodName)) ∈ lw_all := lw_g (lw_at lw_m4 193 rfl) rfl
theorem q978 : (Jvm.Cond.code ({ cls := "RatioGraph$Cycles", name := "goesOn", desc := "(I)Z" } : Jvm.MethodName) prog_5_method_3_code (2 : Nat) (Option.some Jvm.ClassFile.FieldType.boolean)) ∈ lw_all := lw_g (lw_at lw_m4 194 rfl) rfl

/-! RatioGraph$FirstCycle -/
set_option maxRecDepth 100000
def RX9 : String := "RatioGraph$FirstCycle"
def TX9 : u_T := fun k => match k with
  | 0 => ("RatioGraph$Cycles", "start", "I", false)
  | 1 => ("RatioGraph$Cycles", "this$0", "LRatioGraph;", true)
  | 2 => ("RatioGraph$Walk", "allowed", "I", true)
  | 3 => ("RatioGraph$Walk", "sequence", "[I", true)
  | 4 => ("RatioGraph$Walk", "count", "I", false)
  | 5 => ("RatioGraph$Walk", "seen", "I", false)
  | 6 => ("RatioGraph$Walk", "this$0", "LRatioGraph;", true)
  | 7 => ("RatioGraph$FirstCycle", "value", "LRatioGraph$Fraction;", true)
  | 8 => ("RatioGraph$FirstCycle", "best", "LRatioGraph$Finding;", false)
  | _ => ("RatioGraph$FirstCycle", "this$0", "LRatioGraph;", true)
def tyX9 : Nat → FieldType := fun k => match k with
  | 0 => .int
  | 1 => .object "RatioGraph"
  | 2 => .int
  | 3 => .array .int
  | 4 => .int
  | 5 => .int
  | 6 => .object "RatioGraph"
  | 7 => .object "RatioGraph$Fraction"
  | 8 => .object "RatioGraph$Finding"
  | _ => .object "RatioGraph"
abbrev wsX90 : List Cond := u_ws RX9 TX9 10
-- two fields of one name: no nmX9
theorem tyX9_ok : ∀ k, k < 10 → parseFieldDescriptor (TX9 k).2.2.1 = some (tyX9 k) := by decide +kernel
abbrev cX9_init : ByteArray := prog_8_method_1_code
def yX9_init : MethodName := ⟨RX9, "<init>", "(LRatioGraph;ILRatioGraph$Fraction;)V"⟩
def dkwX9_init_0 : List UInt8 := [42, 43, 181, 0, 1, 42, 43, 28, 183, 0, 7, 42, 45, 181, 0, 13, 177]
abbrev dktX9_init_0 : List UInt8 := dkwX9_init_0 ++ []
theorem dksX9_init_0 : cX9_init.data.toList.drop 0 = dktX9_init_0 := by decide +kernel
theorem dX9_init_0 : decode cX9_init 0 = .ok (.aload_n 0, 1) := dk_42 (dk_at dksX9_init_0 0 rfl rfl)
theorem dX9_init_1 : decode cX9_init 1 = .ok (.aload_n 1, 1) := dk_43 (dk_at dksX9_init_0 1 rfl rfl)
theorem dX9_init_2 : decode cX9_init 2 = .ok (.putfield 1, 3) := dk_181 0 1 (dk_at dksX9_init_0 2 rfl rfl)
theorem dX9_init_5 : decode cX9_init 5 = .ok (.aload_n 0, 1) := dk_42 (dk_at dksX9_init_0 5 rfl rfl)
theorem dX9_init_6 : decode cX9_init 6 = .ok (.aload_n 1, 1) := dk_43 (dk_at dksX9_init_0 6 rfl rfl)
theorem dX9_init_7 : decode cX9_init 7 = .ok (.iload_n 2, 1) := dk_28 (dk_at dksX9_init_0 7 rfl rfl)
theorem dX9_init_8 : decode cX9_init 8 = .ok (.invokespecial 7, 3) := dk_183 0 7 (dk_at dksX9_init_0 8 rfl rfl)
theorem dX9_init_11 : decode cX9_init 11 = .ok (.aload_n 0, 1) := dk_42 (dk_at dksX9_init_0 11 rfl rfl)
theorem dX9_init_12 : decode cX9_init 12 = .ok (.aload_n 3, 1) := dk_45 (dk_at dksX9_init_0 12 rfl rfl)
theorem dX9_init_13 : decode cX9_init 13 = .ok (.putfield 13, 3) := dk_181 0 13 (dk_at dksX9_init_0 13 rfl rfl)
theorem dX9_init_16 : decode cX9_init 16 = .ok (.return_, 1) := dk_177 (dk_at dksX9_init_0 16 rfl rfl)
abbrev cX9_best : ByteArray := prog_8_method_3_code
def yX9_best : MethodName := ⟨RX9, "best", "()LRatioGraph$Finding;"⟩
def dkwX9_best_0 : List UInt8 := [42, 182, 0, 39, 42, 180, 0, 17, 176]
abbrev dktX9_best_0 : List UInt8 := dkwX9_best_0 ++ []
theorem dksX9_best_0 : cX9_best.data.toList.drop 0 = dktX9_best_0 := by decide +kernel
theorem dX9_best_0 : decode cX9_best 0 = .ok (.aload_n 0, 1) := dk_42 (dk_at dksX9_best_0 0 rfl rfl)
theorem dX9_best_1 : decode cX9_best 1 = .ok (.invokevirtual 39, 3) := dk_182 0 39 (dk_at dksX9_best_0 1 rfl rfl)
theorem dX9_best_4 : decode cX9_best 4 = .ok (.aload_n 0, 1) := dk_42 (dk_at dksX9_best_0 4 rfl rfl)
theorem dX9_best_5 : decode cX9_best 5 = .ok (.getfield 17, 3) := dk_180 0 17 (dk_at dksX9_best_0 5 rfl rfl)
theorem dX9_best_8 : decode cX9_best 8 = .ok (.areturn, 1) := dk_176 (dk_at dksX9_best_0 8 rfl rfl)
abbrev cX9_close : ByteArray := prog_8_method_2_code
def yX9_close : MethodName := ⟨RX9, "close", "()V"⟩
def dkwX9_close_2 : List UInt8 := [153, 0, 7, 43, 167, 0, 7, 42, 180, 0, 17, 181, 0, 17, 177]
abbrev dktX9_close_2 : List UInt8 := dkwX9_close_2 ++ []
def dkwX9_close_1 : List UInt8 := [180, 0, 13, 182, 0, 31, 76, 42, 42, 180, 0, 17, 198, 0, 14, 43, 42, 180, 0, 17, 182, 0, 35]
abbrev dktX9_close_1 : List UInt8 := dkwX9_close_1 ++ dktX9_close_2
def dkwX9_close_0 : List UInt8 := [42, 180, 0, 17, 198, 0, 18, 42, 182, 0, 21, 42, 180, 0, 17, 180, 0, 25, 190, 163, 0, 42, 42, 42]
abbrev dktX9_close_0 : List UInt8 := dkwX9_close_0 ++ dktX9_close_1
theorem dksX9_close_0 : cX9_close.data.toList.drop 0 = dktX9_close_0 := by decide +kernel
theorem dksX9_close_1 : cX9_close.data.toList.drop 24 = dktX9_close_1 := dk_seg dksX9_close_0 24 rfl rfl
theorem dksX9_close_2 : cX9_close.data.toList.drop 47 = dktX9_close_2 := dk_seg dksX9_close_1 23 rfl rfl
theorem dX9_close_0 : decode cX9_close 0 = .ok (.aload_n 0, 1) := dk_42 (dk_at dksX9_close_0 0 rfl rfl)
theorem dX9_close_1 : decode cX9_close 1 = .ok (.getfield 17, 3) := dk_180 0 17 (dk_at dksX9_close_0 1 rfl rfl)
theorem dX9_close_4 : decode cX9_close 4 = .ok (.ifnull 18, 3) := dk_198 0 18 (dk_at dksX9_close_0 4 rfl rfl)
theorem dX9_close_7 : decode cX9_close 7 = .ok (.aload_n 0, 1) := dk_42 (dk_at dksX9_close_0 7 rfl rfl)
theorem dX9_close_8 : decode cX9_close 8 = .ok (.invokevirtual 21, 3) := dk_182 0 21 (dk_at dksX9_close_0 8 rfl rfl)
theorem dX9_close_11 : decode cX9_close 11 = .ok (.aload_n 0, 1) := dk_42 (dk_at dksX9_close_0 11 rfl rfl)
theorem dX9_close_12 : decode cX9_close 12 = .ok (.getfield 17, 3) := dk_180 0 17 (dk_at dksX9_close_0 12 rfl rfl)
theorem dX9_close_15 : decode cX9_close 15 = .ok (.getfield 25, 3) := dk_180 0 25 (dk_at dksX9_close_0 15 rfl rfl)
theorem dX9_close_18 : decode cX9_close 18 = .ok (.arraylength, 1) := dk_190 (dk_at dksX9_close_0 18 rfl rfl)
theorem dX9_close_19 : decode cX9_close 19 = .ok (.if_icmp .gt 42, 3) := dk_163 0 42 (dk_at dksX9_close_0 19 rfl rfl)
theorem dX9_close_22 : decode cX9_close 22 = .ok (.aload_n 0, 1) := dk_42 (dk_at dksX9_close_0 22 rfl rfl)
theorem dX9_close_23 : decode cX9_close 23 = .ok (.aload_n 0, 1) := dk_42 (dk_at dksX9_close_0 23 rfl rfl)
theorem dX9_close_24 : decode cX9_close 24 = .ok (.getfield 13, 3) := dk_180 0 13 (dk_at dksX9_close_1 0 rfl rfl)
theorem dX9_close_27 : decode cX9_close 27 = .ok (.invokevirtual 31, 3) := dk_182 0 31 (dk_at dksX9_close_1 3 rfl rfl)
theorem dX9_close_30 : decode cX9_close 30 = .ok (.astore_n 1, 1) := dk_76 (dk_at dksX9_close_1 6 rfl rfl)
theorem dX9_close_31 : decode cX9_close 31 = .ok (.aload_n 0, 1) := dk_42 (dk_at dksX9_close_1 7 rfl rfl)
theorem dX9_close_32 : decode cX9_close 32 = .ok (.aload_n 0, 1) := dk_42 (dk_at dksX9_close_1 8 rfl rfl)
theorem dX9_close_33 : decode cX9_close 33 = .ok (.getfield 17, 3) := dk_180 0 17 (dk_at dksX9_close_1 9 rfl rfl)
theorem dX9_close_36 : decode cX9_close 36 = .ok (.ifnull 14, 3) := dk_198 0 14 (dk_at dksX9_close_1 12 rfl rfl)
theorem dX9_close_39 : decode cX9_close 39 = .ok (.aload_n 1, 1) := dk_43 (dk_at dksX9_close_1 15 rfl rfl)
theorem dX9_close_40 : decode cX9_close 40 = .ok (.aload_n 0, 1) := dk_42 (dk_at dksX9_close_1 16 rfl rfl)
theorem dX9_close_41 : decode cX9_close 41 = .ok (.getfield 17, 3) := dk_180 0 17 (dk_at dksX9_close_1 17 rfl rfl)
theorem dX9_close_44 : decode cX9_close 44 = .ok (.invokevirtual 35, 3) := dk_182 0 35 (dk_at dksX9_close_1 20 rfl rfl)
theorem dX9_close_47 : decode cX9_close 47 = .ok (.ifCond .eq 7, 3) := dk_153 0 7 (dk_at dksX9_close_2 0 rfl rfl)
theorem dX9_close_50 : decode cX9_close 50 = .ok (.aload_n 1, 1) := dk_43 (dk_at dksX9_close_2 3 rfl rfl)
theorem dX9_close_51 : decode cX9_close 51 = .ok (.goto 7, 3) := dk_167 0 7 (dk_at dksX9_close_2 4 rfl rfl)
theorem dX9_close_54 : decode cX9_close 54 = .ok (.aload_n 0, 1) := dk_42 (dk_at dksX9_close_2 7 rfl rfl)
theorem dX9_close_55 : decode cX9_close 55 = .ok (.getfield 17, 3) := dk_180 0 17 (dk_at dksX9_close_2 8 rfl rfl)
theorem dX9_close_58 : decode cX9_close 58 = .ok (.putfield 17, 3) := dk_181 0 17 (dk_at dksX9_close_2 11 rfl rfl)
theorem dX9_close_61 : decode cX9_close 61 = .ok (.return_, 1) := dk_177 (dk_at dksX9_close_2 14 rfl rfl)
theorem q88 : (Jvm.Cond.initialized "RatioGraph$FirstCycle") ∈ lw_all := lw_g (lw_at lw_m1 24 rfl) rfl
theorem q270 : (Jvm.Cond.selects "RatioGraph$FirstCycle" ({ cls := "java/lang/Object", name := "getClass", desc := "()Ljava/lang/Class;" } : Jvm.MethodName) ({ cls := "java/lang/Object", name := "getClass", desc := "()Ljava/lang/Class;" } : Jvm.MethodName)) ∈ lw_all := lw_g (lw_at lw_m1 206 rfl) rfl
theorem q750 : (Jvm.Cond.instantiable "RatioGraph$FirstCycle" (10 : Nat)) ∈ lw_all := lw_g (lw_at lw_m3 206 rfl) rfl
theorem q756 : (Jvm.Cond.instanceMethod ({ cls := "RatioGraph$FirstCycle", name := "<init>", desc := "(LRatioGraph;ILRatioGraph$Fraction;)V" } : Jvm.MethodName)) ∈ lw_all := lw_g (lw_at lw_m3 212 rfl) rfl
theorem q757 : (Jvm.Cond.code ({ cls := "RatioGraph$FirstCycle", name := "<init>", desc := "(LRatioGraph;ILRatioGraph$Fraction;)V" } : Jvm.MethodName) prog_8_method_1_code (4 : Nat) (Option.none : Option Jvm.ClassFile.FieldType)) ∈ lw_all := lw_g (lw_at lw_m3 213 rfl) rfl
theorem q758 : (Jvm.Cond.methodLink "RatioGraph$FirstCycle" (7 : Nat) ({ cls := "RatioGraph$Cycles", name := "<init>", desc := "(LRatioGraph;I)V" } : Jvm.MethodName)) ∈ lw_all := lw_g (lw_at lw_m3 214 rfl) rfl
theorem q765 : (Jvm.Cond.fieldLink "RatioGraph$FirstCycle" (13 : Nat) "RatioGraph$FirstCycle" "value" "LRatioGraph$Fraction;") ∈ lw_all := lw_g (lw_at lw_m3 221 rfl) rfl
theorem q766 : (Jvm.Cond.fieldLink "RatioGraph$FirstCycle" (17 : Nat) "RatioGraph$FirstCycle" "best" "LRatioGraph$Finding;") ∈ lw_all := lw_g (lw_at lw_m3 222 rfl) rfl
theorem q767 : (Jvm.Cond.fieldLink "RatioGraph$FirstCycle" (1 : Nat) "RatioGraph$FirstCycle" "this$0" "LRatioGraph;") ∈ lw_all := lw_g (lw_at lw_m3 223 rfl) rfl
theorem q775 : (Jvm.Cond.laysFinal "RatioGraph$FirstCycle" "RatioGraph$FirstCycle" "value" "LRatioGraph$Fraction;") ∈ lw_all := lw_g (lw_at lw_m3 231 rfl) rfl
theorem q776 : (Jvm.Cond.soleField "RatioGraph$FirstCycle" "value") ∈ lw_all := lw_g (lw_at lw_m3 232 rfl) rfl
theorem q777 : (Jvm.Cond.lays "RatioGraph$FirstCycle" "RatioGraph$FirstCycle" "best" "LRatioGraph$Finding;") ∈ lw_all := lw_g (lw_at lw_m3 233 rfl) rfl
theorem q778 : (Jvm.Cond.soleField "RatioGraph$FirstCycle" "best") ∈ lw_all := lw_g (lw_at lw_m3 234 rfl) rfl
theorem q779 : (Jvm.Cond.laysFinal "RatioGraph$FirstCycle" "RatioGraph$FirstCycle" "this$0" "LRatioGraph;") ∈ lw_all := lw_g (lw_at lw_m3 235 rfl) rfl
theorem q780 : (Jvm.Cond.soleField "RatioGraph$FirstCycle" "this$0") ∈ lw_all := lw_g (lw_at lw_m3 236 rfl) rfl
theorem q781 : (Jvm.Cond.lays "RatioGraph$FirstCycle" "RatioGraph$Cycles" "start" "I") ∈ lw_all := lw_g (lw_at lw_m3 237 rfl) rfl
theorem q783 : (Jvm.Cond.laysFinal "RatioGraph$FirstCycle" "RatioGraph$Cycles" "this$0" "LRatioGraph;") ∈ lw_all := lw_g (lw_at lw_m3 239 rfl) rfl
theorem q785 : (Jvm.Cond.laysFinal "RatioGraph$FirstCycle" "RatioGraph$Walk" "allowed" "I") ∈ lw_all := lw_g (lw_at lw_m4 1 rfl) rfl
theorem q787 : (Jvm.Cond.laysFinal "RatioGraph$FirstCycle" "RatioGraph$Walk" "sequence" "[I") ∈ lw_all := lw_g (lw_at lw_m4 3 rfl) rfl
theorem q789 : (Jvm.Cond.lays "RatioGraph$FirstCycle" "RatioGraph$Walk" "count" "I") ∈ lw_all := lw_g (lw_at lw_m4 5 rfl) rfl
theorem q791 : (Jvm.Cond.lays "RatioGraph$FirstCycle" "RatioGraph$Walk" "seen" "I") ∈ lw_all := lw_g (lw_at lw_m4 7 rfl) rfl
theorem q793 : (Jvm.Cond.laysFinal "RatioGraph$FirstCycle" "RatioGraph$Walk" "this$0" "LRatioGraph;") ∈ lw_all := lw_g (lw_at lw_m4 9 rfl) rfl
theorem q795 : (Jvm.Cond.superclass "RatioGraph$FirstCycle" "RatioGraph$Cycles") ∈ lw_all := lw_g (lw_at lw_m4 11 rfl) rfl
theorem q797 : (Jvm.Cond.instanceMethod ({ cls := "RatioGraph$FirstCycle", name := "best", desc := "()LRatioGraph$Finding;" } : Jvm.MethodName)) ∈ lw_all := lw_g (lw_at lw_m4 13 rfl) rfl
theorem q798 : (Jvm.Cond.selects "RatioGraph$FirstCycle" ({ cls := "RatioGraph$FirstCycle", name := "best", desc := "()LRatioGraph$Finding;" } : Jvm.MethodName) ({ cls := "RatioGraph$FirstCycle", name := "best", desc := "()LRatioGraph$Finding;" } : Jvm.MethodName)) ∈ lw_all := lw_g (lw_at lw_m4 14 rfl) rfl
theorem q799 : (Jvm.Cond.code ({ cls := "RatioGraph$FirstCycle", name := "best", desc := "()LRatioGraph$Finding;" } : Jvm.MethodName) prog_8_method_3_code (1 : Nat) (Option.some (Jvm.ClassFile.FieldType.object "RatioGraph$Finding"))) ∈ lw_all := lw_g (lw_at lw_m4 15 rfl) rfl
theorem q800 : (Jvm.Cond.methodLink "RatioGraph$FirstCycle" (39 : Nat) ({ cls := "RatioGraph$FirstCycle", name := "walkAll", desc := "()V" } : Jvm.MethodName)) ∈ lw_all := lw_g (lw_at lw_m4 16 rfl) rfl
theorem q801 : (Jvm.Cond.sameMethod "RatioGraph$FirstCycle" "RatioGraph$Cycles" "walkAll" "()V") ∈ lw_all := lw_g (lw_at lw_m4 17 rfl) rfl
theorem q803 : (Jvm.Cond.selects "RatioGraph$FirstCycle" ({ cls := "RatioGraph$FirstCycle", name := "walkAll", desc := "()V" } : Jvm.MethodName) ({ cls := "RatioGraph$Cycles", name := "walkAll", desc := "()V" } : Jvm.MethodName)) ∈ lw_all := lw_g (lw_at lw_m4 19 rfl) rfl
theorem q811 : (Jvm.Cond.selects "RatioGraph$FirstCycle" ({ cls := "RatioGraph$Cycles", name := "walk", desc := "(I)V" } : Jvm.MethodName) ({ cls := "RatioGraph$Walk", name := "walk", desc := "(I)V" } : Jvm.MethodName)) ∈ lw_all := lw_g (lw_at lw_m4 27 rfl) rfl
theorem q846 : (Jvm.Cond.selects "RatioGraph$FirstCycle" ({ cls := "RatioGraph$Cycles", name := "count", desc := "()I" } : Jvm.MethodName) ({ cls := "RatioGraph$Walk", name := "count", desc := "()I" } : Jvm.MethodName)) ∈ lw_all := lw_g (lw_at lw_m4 62 rfl) rfl
theorem q856 : (Jvm.Cond.selects "RatioGraph$FirstCycle" ({ cls := "RatioGraph$Cycles", name := "edgeAt", desc := "(I)LRatioGraph$Edge;" } : Jvm.MethodName) ({ cls := "RatioGraph$Walk", name := "edgeAt", desc := "(I)LRatioGraph$Edge;" } : Jvm.MethodName)) ∈ lw_all := lw_g (lw_at lw_m4 72 rfl) rfl
theorem q887 : (Jvm.Cond.selects "RatioGraph$FirstCycle" ({ cls := "RatioGraph$Cycles", name := "close", desc := "()V" } : Jvm.MethodName) ({ cls := "RatioGraph$FirstCycle", name := "close", desc := "()V" } : Jvm.MethodName)) ∈ lw_all := lw_g (lw_at lw_m4 103 rfl) rfl
theorem q888 : (Jvm.Cond.instanceMethod ({ cls := "RatioGraph$FirstCycle", name := "close", desc := "()V" } : Jvm.MethodName)) ∈ lw_all := lw_g (lw_at lw_m4 104 rfl) rfl
theorem q889 : (Jvm.Cond.code ({ cls := "RatioGraph$FirstCycle", name := "close", desc := "()V" } : Jvm.MethodName) prog_8_method_2_code (2 : Nat) (Option.none : Option Jvm.ClassFile.FieldType)) ∈ lw_all := lw_g (lw_at lw_m4 105 rfl) rfl
theorem q890 : (Jvm.Cond.methodLink "RatioGraph$FirstCycle" (21 : Nat) ({ cls := "RatioGraph$FirstCycle", name := "count", desc := "()I" } : Jvm.MethodName)) ∈ lw_all := lw_g (lw_at lw_m4 106 rfl) rfl
theorem q891 : (Jvm.Cond.sameMethod "RatioGraph$FirstCycle" "RatioGraph$Walk" "count" "()I") ∈ lw_all := lw_g (lw_at lw_m4 107 rfl) rfl
theorem q892 : (Jvm.Cond.selects "RatioGraph$FirstCycle" ({ cls := "RatioGraph$FirstCycle", name := "count", desc := "()I" } : Jvm.MethodName) ({ cls := "RatioGraph$Walk", name := "count", desc := "()I" } : Jvm.MethodName)) ∈ lw_all := lw_g (lw_at lw_m4 108 rfl) rfl
theorem q893 : (Jvm.Cond.methodLink "RatioGraph$FirstCycle" (31 : Nat) ({ cls := "RatioGraph$FirstCycle", name := "finding", desc := "(LRatioGraph$Fraction;)LRatioGraph$Finding;" } : Jvm.MethodName)) ∈ lw_all := lw_g (lw_at lw_m4 109 rfl) rfl
theorem q894 : (Jvm.Cond.sameMethod "RatioGraph$FirstCycle" "RatioGraph$Walk" "finding" "(LRatioGraph$Fraction;)LRatioGraph$Finding;") ∈ lw_all := lw_g (lw_at lw_m4 110 rfl) rfl
theorem q896 : (Jvm.Cond.selects "RatioGraph$FirstCycle" ({ cls := "RatioGraph$FirstCycle", name := "finding", desc := "(LRatioGraph$Fraction;)LRatioGraph$Finding;" } : Jvm.MethodName) ({ cls := "RatioGraph$Walk", name := "finding", desc := "(LRatioGraph$Fraction;)LRatioGraph$Finding;" } : Jvm.MethodName)) ∈ lw_all := lw_g (lw_at lw_m4 112 rfl) rfl
theorem q907 : (Jvm.Cond.fieldLinkNest "RatioGraph$FirstCycle" (25 : Nat) "RatioGraph$Finding" "edges" "[I" "RatioGraph") ∈ lw_tbl := lw_at lw_m4 123 rfl
theorem q918 : (Jvm.Cond.methodLink "RatioGraph$FirstCycle" (35 : Nat) ({ cls := "RatioGraph$Finding", name := "isBefore", desc := "(LRatioGraph$Finding;)Z" } : Jvm.MethodName)) ∈ lw_all := lw_g (lw_at lw_m4 134 rfl) rfl
theorem q960 : (Jvm.Cond.selects "RatioGraph$FirstCycle" ({ cls := "RatioGraph$Walk", name := "arrive", desc := "(I)V" } : Jvm.MethodName) ({ cls := "RatioGraph$Cycles", name := "arrive", desc := "(I)V" } : Jvm.MethodName)) ∈ lw_all := lw_g (lw_at lw_m4 176 rfl) rfl
theorem q969 : (Jvm.Cond.selects "RatioGraph$FirstCycle" ({ cls := "RatioGraph$Walk", name := "hasSeen", desc := "(I)Z" } : Jvm.MethodName) ({ cls := "RatioGraph$Walk", name := "hasSeen", desc := "(I)Z" } : Jvm.MethodName)) ∈ lw_all := lw_g (lw_at lw_m4 185 rfl) rfl
theorem q983 : (Jvm.Cond.selects "RatioGraph$FirstCycle" ({ cls := "RatioGraph$Walk", name := "goesOn", desc := "(I)Z" } : Jvm.MethodName) ({ cls := "RatioGraph$Cycles", name := "goesOn", desc := "(I)Z" } : Jvm.MethodName)) ∈ lw_all := lw_g (lw_at lw_m4 199 rfl) rfl
theorem q1790 : (Jvm.Cond.selects "RatioGraph$FirstCycle" ({ cls := "RatioGraph$Walk", name := "walk", desc := "(I)V" } : Jvm.MethodName) ({ cls := "RatioGraph$Walk", name := "walk", desc := "(I)V" } : Jvm.MethodName)) ∈ lw_all := lw_g (lw_at lw_m8 46 rfl) rfl
theorem q1805 : (Jvm.Cond.castable "RatioGraph$FirstCycle" "java/lang/Object") ∈ lw_tbl := lw_at lw_m8 61 rfl
theorem in_X9 : ∀ w ∈ wsX90, w ∈ lw_all := lw_in wsX90 [781, 783, 785, 787, 789, 791, 793, 775, 777, 779] (by decide +kernel) (by decide +kernel)

/-! RatioGraph$Finding -/
set_option maxRecDepth 100000
def RX10 : String := "RatioGraph$Finding"
def TX10 : u_T := fun k => match k with
  | 0 => ("RatioGraph$Finding", "edges", "[I", true)
  | _ => ("RatioGraph$Finding", "value", "LRatioGraph$Fraction;", true)
def tyX10 : Nat → FieldType := fun k => match k with
  | 0 => .array .int
  | _ => .object "RatioGraph$Fraction"
abbrev wsX100 : List Cond := u_ws RX10 TX10 2
theorem nmX10 : ∀ a, a < 2 → ∀ b, b < 2 → a ≠ b → (TX10 a).2.1 ≠ (TX10 b).2.1 := by decide +kernel
theorem tyX10_ok : ∀ k, k < 2 → parseFieldDescriptor (TX10 k).2.2.1 = some (tyX10 k) := by decide +kernel
abbrev cX10_init : ByteArray := prog_7_method_1_code
def yX10_init : MethodName := ⟨RX10, "<init>", "([IILRatioGraph$Fraction;)V"⟩
def dkwX10_init_1 : List UInt8 := [181, 0, 19, 177]
abbrev dktX10_init_1 : List UInt8 := dkwX10_init_1 ++ []
def dkwX10_init_0 : List UInt8 := [42, 183, 0, 1, 42, 28, 188, 10, 181, 0, 7, 43, 3, 42, 180, 0, 7, 3, 28, 184, 0, 13, 42, 45]
abbrev dktX10_init_0 : List UInt8 := dkwX10_init_0 ++ dktX10_init_1
theorem dksX10_init_0 : cX10_init.data.toList.drop 0 = dktX10_init_0 := by decide +kernel
theorem dksX10_init_1 : cX10_init.data.toList.drop 24 = dktX10_init_1 := dk_seg dksX10_init_0 24 rfl rfl
theorem dX10_init_0 : decode cX10_init 0 = .ok (.aload_n 0, 1) := dk_42 (dk_at dksX10_init_0 0 rfl rfl)
theorem dX10_init_1 : decode cX10_init 1 = .ok (.invokespecial 1, 3) := dk_183 0 1 (dk_at dksX10_init_0 1 rfl rfl)
theorem dX10_init_4 : decode cX10_init 4 = .ok (.aload_n 0, 1) := dk_42 (dk_at dksX10_init_0 4 rfl rfl)
theorem dX10_init_5 : decode cX10_init 5 = .ok (.iload_n 2, 1) := dk_28 (dk_at dksX10_init_0 5 rfl rfl)
theorem dX10_init_6 : decode cX10_init 6 = .ok (.newarray .int, 2) := dk_188_10 (dk_at dksX10_init_0 6 rfl rfl)
theorem dX10_init_8 : decode cX10_init 8 = .ok (.putfield 7, 3) := dk_181 0 7 (dk_at dksX10_init_0 8 rfl rfl)
theorem dX10_init_11 : decode cX10_init 11 = .ok (.aload_n 1, 1) := dk_43 (dk_at dksX10_init_0 11 rfl rfl)
theorem dX10_init_12 : decode cX10_init 12 = .ok (.iconst 0, 1) := dk_3 (dk_at dksX10_init_0 12 rfl rfl)
theorem dX10_init_13 : decode cX10_init 13 = .ok (.aload_n 0, 1) := dk_42 (dk_at dksX10_init_0 13 rfl rfl)
theorem dX10_init_14 : decode cX10_init 14 = .ok (.getfield 7, 3) := dk_180 0 7 (dk_at dksX10_init_0 14 rfl rfl)
theorem dX10_init_17 : decode cX10_init 17 = .ok (.iconst 0, 1) := dk_3 (dk_at dksX10_init_0 17 rfl rfl)
theorem dX10_init_18 : decode cX10_init 18 = .ok (.iload_n 2, 1) := dk_28 (dk_at dksX10_init_0 18 rfl rfl)
theorem dX10_init_19 : decode cX10_init 19 = .ok (.invokestatic 13, 3) := dk_184 0 13 (dk_at dksX10_init_0 19 rfl rfl)
theorem dX10_init_22 : decode cX10_init 22 = .ok (.aload_n 0, 1) := dk_42 (dk_at dksX10_init_0 22 rfl rfl)
theorem dX10_init_23 : decode cX10_init 23 = .ok (.aload_n 3, 1) := dk_45 (dk_at dksX10_init_0 23 rfl rfl)
theorem dX10_init_24 : decode cX10_init 24 = .ok (.putfield 19, 3) := dk_181 0 19 (dk_at dksX10_init_1 0 rfl rfl)
theorem dX10_init_27 : decode cX10_init 27 = .ok (.return_, 1) := dk_177 (dk_at dksX10_init_1 3 rfl rfl)
abbrev cX10_isBefore : ByteArray := prog_7_method_2_code
def yX10_isBefore : MethodName := ⟨RX10, "isBefore", "(LRatioGraph$Finding;)Z"⟩
def dkwX10_isBefore_3 : List UInt8 := [162, 0, 7, 4, 167, 0, 4, 3, 172, 132, 2, 1, 167, 255, 208, 3, 172]
abbrev dktX10_isBefore_3 : List UInt8 := dkwX10_isBefore_3 ++ []
def dkwX10_isBefore_2 : List UInt8 := [28, 46, 43, 180, 0, 7, 28, 46, 159, 0, 24, 42, 180, 0, 7, 28, 46, 43, 180, 0, 7, 28, 46]
abbrev dktX10_isBefore_2 : List UInt8 := dkwX10_isBefore_2 ++ dktX10_isBefore_3
def dkwX10_isBefore_1 : List UInt8 := [162, 0, 7, 4, 167, 0, 4, 3, 172, 3, 61, 28, 42, 180, 0, 7, 190, 162, 0, 45, 42, 180, 0, 7]
abbrev dktX10_isBefore_1 : List UInt8 := dkwX10_isBefore_1 ++ dktX10_isBefore_2
def dkwX10_isBefore_0 : List UInt8 := [42, 180, 0, 7, 190, 43, 180, 0, 7, 190, 159, 0, 22, 42, 180, 0, 7, 190, 43, 180, 0, 7, 190]
abbrev dktX10_isBefore_0 : List UInt8 := dkwX10_isBefore_0 ++ dktX10_isBefore_1
theorem dksX10_isBefore_0 : cX10_isBefore.data.toList.drop 0 = dktX10_isBefore_0 := by decide +kernel
theorem dksX10_isBefore_1 : cX10_isBefore.data.toList.drop 23 = dktX10_isBefore_1 := dk_seg dksX10_isBefore_0 23 rfl rfl
theorem dksX10_isBefore_2 : cX10_isBefore.data.toList.drop 47 = dktX10_isBefore_2 := dk_seg dksX10_isBefore_1 24 rfl rfl
theorem dksX10_isBefore_3 : cX10_isBefore.data.toList.drop 70 = dktX10_isBefore_3 := dk_seg dksX10_isBefore_2 23 rfl rfl
theorem dX10_isBefore_0 : decode cX10_isBefore 0 = .ok (.aload_n 0, 1) := dk_42 (dk_at dksX10_isBefore_0 0 rfl rfl)
theorem dX10_isBefore_1 : decode cX10_isBefore 1 = .ok (.getfield 7, 3) := dk_180 0 7 (dk_at dksX10_isBefore_0 1 rfl rfl)
theorem dX10_isBefore_4 : decode cX10_isBefore 4 = .ok (.arraylength, 1) := dk_190 (dk_at dksX10_isBefore_0 4 rfl rfl)
theorem dX10_isBefore_5 : decode cX10_isBefore 5 = .ok (.aload_n 1, 1) := dk_43 (dk_at dksX10_isBefore_0 5 rfl rfl)
theorem dX10_isBefore_6 : decode cX10_isBefore 6 = .ok (.getfield 7, 3) := dk_180 0 7 (dk_at dksX10_isBefore_0 6 rfl rfl)
theorem dX10_isBefore_9 : decode cX10_isBefore 9 = .ok (.arraylength, 1) := dk_190 (dk_at dksX10_isBefore_0 9 rfl rfl)
theorem dX10_isBefore_10 : decode cX10_isBefore 10 = .ok (.if_icmp .eq 22, 3) := dk_159 0 22 (dk_at dksX10_isBefore_0 10 rfl rfl)
theorem dX10_isBefore_13 : decode cX10_isBefore 13 = .ok (.aload_n 0, 1) := dk_42 (dk_at dksX10_isBefore_0 13 rfl rfl)
theorem dX10_isBefore_14 : decode cX10_isBefore 14 = .ok (.getfield 7, 3) := dk_180 0 7 (dk_at dksX10_isBefore_0 14 rfl rfl)
theorem dX10_isBefore_17 : decode cX10_isBefore 17 = .ok (.arraylength, 1) := dk_190 (dk_at dksX10_isBefore_0 17 rfl rfl)
theorem dX10_isBefore_18 : decode cX10_isBefore 18 = .ok (.aload_n 1, 1) := dk_43 (dk_at dksX10_isBefore_0 18 rfl rfl)
theorem dX10_isBefore_19 : decode cX10_isBefore 19 = .ok (.getfield 7, 3) := dk_180 0 7 (dk_at dksX10_isBefore_0 19 rfl rfl)
theorem dX10_isBefore_22 : decode cX10_isBefore 22 = .ok (.arraylength, 1) := dk_190 (dk_at dksX10_isBefore_0 22 rfl rfl)
theorem dX10_isBefore_23 : decode cX10_isBefore 23 = .ok (.if_icmp .ge 7, 3) := dk_162 0 7 (dk_at dksX10_isBefore_1 0 rfl rfl)
theorem dX10_isBefore_26 : decode cX10_isBefore 26 = .ok (.iconst 1, 1) := dk_4 (dk_at dksX10_isBefore_1 3 rfl rfl)
theorem dX10_isBefore_27 : decode cX10_isBefore 27 = .ok (.goto 4, 3) := dk_167 0 4 (dk_at dksX10_isBefore_1 4 rfl rfl)
theorem dX10_isBefore_30 : decode cX10_isBefore 30 = .ok (.iconst 0, 1) := dk_3 (dk_at dksX10_isBefore_1 7 rfl rfl)
theorem dX10_isBefore_31 : decode cX10_isBefore 31 = .ok (.ireturn, 1) := dk_172 (dk_at dksX10_isBefore_1 8 rfl rfl)
theorem dX10_isBefore_32 : decode cX10_isBefore 32 = .ok (.iconst 0, 1) := dk_3 (dk_at dksX10_isBefore_1 9 rfl rfl)
theorem dX10_isBefore_33 : decode cX10_isBefore 33 = .ok (.istore_n 2, 1) := dk_61 (dk_at dksX10_isBefore_1 10 rfl rfl)
theorem dX10_isBefore_34 : decode cX10_isBefore 34 = .ok (.iload_n 2, 1) := dk_28 (dk_at dksX10_isBefore_1 11 rfl rfl)
theorem dX10_isBefore_35 : decode cX10_isBefore 35 = .ok (.aload_n 0, 1) := dk_42 (dk_at dksX10_isBefore_1 12 rfl rfl)
theorem dX10_isBefore_36 : decode cX10_isBefore 36 = .ok (.getfield 7, 3) := dk_180 0 7 (dk_at dksX10_isBefore_1 13 rfl rfl)
theorem dX10_isBefore_39 : decode cX10_isBefore 39 = .ok (.arraylength, 1) := dk_190 (dk_at dksX10_isBefore_1 16 rfl rfl)
theorem dX10_isBefore_40 : decode cX10_isBefore 40 = .ok (.if_icmp .ge 45, 3) := dk_162 0 45 (dk_at dksX10_isBefore_1 17 rfl rfl)
theorem dX10_isBefore_43 : decode cX10_isBefore 43 = .ok (.aload_n 0, 1) := dk_42 (dk_at dksX10_isBefore_1 20 rfl rfl)
theorem dX10_isBefore_44 : decode cX10_isBefore 44 = .ok (.getfield 7, 3) := dk_180 0 7 (dk_at dksX10_isBefore_1 21 rfl rfl)
theorem dX10_isBefore_47 : decode cX10_isBefore 47 = .ok (.iload_n 2, 1) := dk_28 (dk_at dksX10_isBefore_2 0 rfl rfl)
theorem dX10_isBefore_48 : decode cX10_isBefore 48 = .ok (.iaload, 1) := dk_46 (dk_at dksX10_isBefore_2 1 rfl rfl)
theorem dX10_isBefore_49 : decode cX10_isBefore 49 = .ok (.aload_n 1, 1) := dk_43 (dk_at dksX10_isBefore_2 2 rfl rfl)
theorem dX10_isBefore_50 : decode cX10_isBefore 50 = .ok (.getfield 7, 3) := dk_180 0 7 (dk_at dksX10_isBefore_2 3 rfl rfl)
theorem dX10_isBefore_53 : decode cX10_isBefore 53 = .ok (.iload_n 2, 1) := dk_28 (dk_at dksX10_isBefore_2 6 rfl rfl)
theorem dX10_isBefore_54 : decode cX10_isBefore 54 = .ok (.iaload, 1) := dk_46 (dk_at dksX10_isBefore_2 7 rfl rfl)
theorem dX10_isBefore_55 : decode cX10_isBefore 55 = .ok (.if_icmp .eq 24, 3) := dk_159 0 24 (dk_at dksX10_isBefore_2 8 rfl rfl)
theorem dX10_isBefore_58 : decode cX10_isBefore 58 = .ok (.aload_n 0, 1) := dk_42 (dk_at dksX10_isBefore_2 11 rfl rfl)
theorem dX10_isBefore_59 : decode cX10_isBefore 59 = .ok (.getfield 7, 3) := dk_180 0 7 (dk_at dksX10_isBefore_2 12 rfl rfl)
theorem dX10_isBefore_62 : decode cX10_isBefore 62 = .ok (.iload_n 2, 1) := dk_28 (dk_at dksX10_isBefore_2 15 rfl rfl)
theorem dX10_isBefore_63 : decode cX10_isBefore 63 = .ok (.iaload, 1) := dk_46 (dk_at dksX10_isBefore_2 16 rfl rfl)
theorem dX10_isBefore_64 : decode cX10_isBefore 64 = .ok (.aload_n 1, 1) := dk_43 (dk_at dksX10_isBefore_2 17 rfl rfl)
theorem dX10_isBefore_65 : decode cX10_isBefore 65 = .ok (.getfield 7, 3) := dk_180 0 7 (dk_at dksX10_isBefore_2 18 rfl rfl)
theorem dX10_isBefore_68 : decode cX10_isBefore 68 = .ok (.iload_n 2, 1) := dk_28 (dk_at dksX10_isBefore_2 21 rfl rfl)
theorem dX10_isBefore_69 : decode cX10_isBefore 69 = .ok (.iaload, 1) := dk_46 (dk_at dksX10_isBefore_2 22 rfl rfl)
theorem dX10_isBefore_70 : decode cX10_isBefore 70 = .ok (.if_icmp .ge 7, 3) := dk_162 0 7 (dk_at dksX10_isBefore_3 0 rfl rfl)
theorem dX10_isBefore_73 : decode cX10_isBefore 73 = .ok (.iconst 1, 1) := dk_4 (dk_at dksX10_isBefore_3 3 rfl rfl)
theorem dX10_isBefore_74 : decode cX10_isBefore 74 = .ok (.goto 4, 3) := dk_167 0 4 (dk_at dksX10_isBefore_3 4 rfl rfl)
theorem dX10_isBefore_77 : decode cX10_isBefore 77 = .ok (.iconst 0, 1) := dk_3 (dk_at dksX10_isBefore_3 7 rfl rfl)
theorem dX10_isBefore_78 : decode cX10_isBefore 78 = .ok (.ireturn, 1) := dk_172 (dk_at dksX10_isBefore_3 8 rfl rfl)
theorem dX10_isBefore_79 : decode cX10_isBefore 79 = .ok (.iinc 2 1, 3) := dk_132 2 1 (dk_at dksX10_isBefore_3 9 rfl rfl)
theorem dX10_isBefore_82 : decode cX10_isBefore 82 = .ok (.goto (-48), 3) := dk_167 255 208 (dk_at dksX10_isBefore_3 12 rfl rfl)
theorem dX10_isBefore_85 : decode cX10_isBefore 85 = .ok (.iconst 0, 1) := dk_3 (dk_at dksX10_isBefore_3 15 rfl rfl)
theorem dX10_isBefore_86 : decode cX10_isBefore 86 = .ok (.ireturn, 1) := dk_172 (dk_at dksX10_isBefore_3 16 rfl rfl)
theorem q89 : (Jvm.Cond.initialized "RatioGraph$Finding") ∈ lw_all := lw_g (lw_at lw_m1 25 rfl) rfl
theorem q269 : (Jvm.Cond.selects "RatioGraph$Finding" ({ cls := "java/lang/Object", name := "getClass", desc := "()Ljava/lang/Class;" } : Jvm.MethodName) ({ cls := "java/lang/Object", name := "getClass", desc := "()Ljava/lang/Class;" } : Jvm.MethodName)) ∈ lw_all := lw_g (lw_at lw_m1 205 rfl) rfl
theorem q900 : (Jvm.Cond.instantiable "RatioGraph$Finding" (2 : Nat)) ∈ lw_all := lw_g (lw_at lw_m4 116 rfl) rfl
theorem q902 : (Jvm.Cond.instanceMethod ({ cls := "RatioGraph$Finding", name := "<init>", desc := "([IILRatioGraph$Fraction;)V" } : Jvm.MethodName)) ∈ lw_all := lw_g (lw_at lw_m4 118 rfl) rfl
theorem q903 : (Jvm.Cond.code ({ cls := "RatioGraph$Finding", name := "<init>", desc := "([IILRatioGraph$Fraction;)V" } : Jvm.MethodName) prog_7_method_1_code (4 : Nat) (Option.none : Option Jvm.ClassFile.FieldType)) ∈ lw_all := lw_g (lw_at lw_m4 119 rfl) rfl
theorem q904 : (Jvm.Cond.methodLink "RatioGraph$Finding" (1 : Nat) ({ cls := "java/lang/Object", name := "<init>", desc := "()V" } : Jvm.MethodName)) ∈ lw_all := lw_g (lw_at lw_m4 120 rfl) rfl
theorem q905 : (Jvm.Cond.methodLink "RatioGraph$Finding" (13 : Nat) ({ cls := "java/lang/System", name := "arraycopy", desc := "(Ljava/lang/Object;ILjava/lang/Object;II)V" } : Jvm.MethodName)) ∈ lw_all := lw_g (lw_at lw_m4 121 rfl) rfl
theorem q906 : (Jvm.Cond.fieldLink "RatioGraph$Finding" (7 : Nat) "RatioGraph$Finding" "edges" "[I") ∈ lw_all := lw_g (lw_at lw_m4 122 rfl) rfl
theorem q909 : (Jvm.Cond.fieldLink "RatioGraph$Finding" (19 : Nat) "RatioGraph$Finding" "value" "LRatioGraph$Fraction;") ∈ lw_all := lw_g (lw_at lw_m4 125 rfl) rfl
theorem q913 : (Jvm.Cond.laysFinal "RatioGraph$Finding" "RatioGraph$Finding" "edges" "[I") ∈ lw_all := lw_g (lw_at lw_m4 129 rfl) rfl
theorem q914 : (Jvm.Cond.soleField "RatioGraph$Finding" "edges") ∈ lw_all := lw_g (lw_at lw_m4 130 rfl) rfl
theorem q915 : (Jvm.Cond.laysFinal "RatioGraph$Finding" "RatioGraph$Finding" "value" "LRatioGraph$Fraction;") ∈ lw_all := lw_g (lw_at lw_m4 131 rfl) rfl
theorem q916 : (Jvm.Cond.soleField "RatioGraph$Finding" "value") ∈ lw_all := lw_g (lw_at lw_m4 132 rfl) rfl
theorem q917 : (Jvm.Cond.superclass "RatioGraph$Finding" "java/lang/Object") ∈ lw_all := lw_g (lw_at lw_m4 133 rfl) rfl
theorem q919 : (Jvm.Cond.instanceMethod ({ cls := "RatioGraph$Finding", name := "isBefore", desc := "(LRatioGraph$Finding;)Z" } : Jvm.MethodName)) ∈ lw_all := lw_g (lw_at lw_m4 135 rfl) rfl
theorem q920 : (Jvm.Cond.selects "RatioGraph$Finding" ({ cls := "RatioGraph$Finding", name := "isBefore", desc := "(LRatioGraph$Finding;)Z" } : Jvm.MethodName) ({ cls := "RatioGraph$Finding", name := "isBefore", desc := "(LRatioGraph$Finding;)Z" } : Jvm.MethodName)) ∈ lw_all := lw_g (lw_at lw_m4 136 rfl) rfl
theorem q921 : (Jvm.Cond.code ({ cls := "RatioGraph$Finding", name := "isBefore", desc := "(LRatioGraph$Finding;)Z" } : Jvm.MethodName) prog_7_method_2_code (3 : Nat) (Option.some Jvm.ClassFile.FieldType.boolean)) ∈ lw_all := lw_g (lw_at lw_m4 137 rfl) rfl
theorem q1806 : (Jvm.Cond.castable "RatioGraph$Finding" "java/lang/Object") ∈ lw_tbl := lw_at lw_m8 62 rfl
theorem in_X10 : ∀ w ∈ wsX100, w ∈ lw_all := lw_in wsX100 [913, 915] (by decide +kernel) (by decide +kernel)

/-! RatioGraph$Ratios -/
set_option maxRecDepth 100000
def RX11 : String := "RatioGraph$Ratios"
def TX11 : u_T := fun k => match k with
  | 0 => ("RatioGraph$Cycles", "start", "I", false)
  | 1 => ("RatioGraph$Cycles", "this$0", "LRatioGraph;", true)
  | 2 => ("RatioGraph$Walk", "allowed", "I", true)
  | 3 => ("RatioGraph$Walk", "sequence", "[I", true)
  | 4 => ("RatioGraph$Walk", "count", "I", false)
  | 5 => ("RatioGraph$Walk", "seen", "I", false)
  | 6 => ("RatioGraph$Walk", "this$0", "LRatioGraph;", true)
  | 7 => ("RatioGraph$Ratios", "least", "LRatioGraph$Fraction;", false)
  | _ => ("RatioGraph$Ratios", "this$0", "LRatioGraph;", true)
def tyX11 : Nat → FieldType := fun k => match k with
  | 0 => .int
  | 1 => .object "RatioGraph"
  | 2 => .int
  | 3 => .array .int
  | 4 => .int
  | 5 => .int
  | 6 => .object "RatioGraph"
  | 7 => .object "RatioGraph$Fraction"
  | _ => .object "RatioGraph"
abbrev wsX110 : List Cond := u_ws RX11 TX11 9
-- two fields of one name: no nmX11
theorem tyX11_ok : ∀ k, k < 9 → parseFieldDescriptor (TX11 k).2.2.1 = some (tyX11 k) := by decide +kernel
abbrev cX11_close : ByteArray := prog_16_method_2_code
def yX11_close : MethodName := ⟨RX11, "close", "()V"⟩
def dkwX11_close_2 : List UInt8 := [180, 0, 28, 181, 0, 28, 177]
abbrev dktX11_close_2 : List UInt8 := dkwX11_close_2 ++ []
def dkwX11_close_1 : List UInt8 := [180, 0, 28, 198, 0, 14, 43, 42, 180, 0, 28, 182, 0, 32, 156, 0, 7, 43, 167, 0, 7, 42]
abbrev dktX11_close_1 : List UInt8 := dkwX11_close_1 ++ dktX11_close_2
def dkwX11_close_0 : List UInt8 := [187, 0, 19, 89, 42, 5, 182, 0, 21, 133, 42, 7, 182, 0, 21, 133, 183, 0, 25, 76, 42, 42]
abbrev dktX11_close_0 : List UInt8 := dkwX11_close_0 ++ dktX11_close_1
theorem dksX11_close_0 : cX11_close.data.toList.drop 0 = dktX11_close_0 := by decide +kernel
theorem dksX11_close_1 : cX11_close.data.toList.drop 22 = dktX11_close_1 := dk_seg dksX11_close_0 22 rfl rfl
theorem dksX11_close_2 : cX11_close.data.toList.drop 44 = dktX11_close_2 := dk_seg dksX11_close_1 22 rfl rfl
theorem dX11_close_0 : decode cX11_close 0 = .ok (.new 19, 3) := dk_187 0 19 (dk_at dksX11_close_0 0 rfl rfl)
theorem dX11_close_3 : decode cX11_close 3 = .ok (.dup, 1) := dk_89 (dk_at dksX11_close_0 3 rfl rfl)
theorem dX11_close_4 : decode cX11_close 4 = .ok (.aload_n 0, 1) := dk_42 (dk_at dksX11_close_0 4 rfl rfl)
theorem dX11_close_5 : decode cX11_close 5 = .ok (.iconst 2, 1) := dk_5 (dk_at dksX11_close_0 5 rfl rfl)
theorem dX11_close_6 : decode cX11_close 6 = .ok (.invokevirtual 21, 3) := dk_182 0 21 (dk_at dksX11_close_0 6 rfl rfl)
theorem dX11_close_9 : decode cX11_close 9 = .ok (.i2l, 1) := dk_133 (dk_at dksX11_close_0 9 rfl rfl)
theorem dX11_close_10 : decode cX11_close 10 = .ok (.aload_n 0, 1) := dk_42 (dk_at dksX11_close_0 10 rfl rfl)
theorem dX11_close_11 : decode cX11_close 11 = .ok (.iconst 4, 1) := dk_7 (dk_at dksX11_close_0 11 rfl rfl)
theorem dX11_close_12 : decode cX11_close 12 = .ok (.invokevirtual 21, 3) := dk_182 0 21 (dk_at dksX11_close_0 12 rfl rfl)
theorem dX11_close_15 : decode cX11_close 15 = .ok (.i2l, 1) := dk_133 (dk_at dksX11_close_0 15 rfl rfl)
theorem dX11_close_16 : decode cX11_close 16 = .ok (.invokespecial 25, 3) := dk_183 0 25 (dk_at dksX11_close_0 16 rfl rfl)
theorem dX11_close_19 : decode cX11_close 19 = .ok (.astore_n 1, 1) := dk_76 (dk_at dksX11_close_0 19 rfl rfl)
theorem dX11_close_20 : decode cX11_close 20 = .ok (.aload_n 0, 1) := dk_42 (dk_at dksX11_close_0 20 rfl rfl)
theorem dX11_close_21 : decode cX11_close 21 = .ok (.aload_n 0, 1) := dk_42 (dk_at dksX11_close_0 21 rfl rfl)
theorem dX11_close_22 : decode cX11_close 22 = .ok (.getfield 28, 3) := dk_180 0 28 (dk_at dksX11_close_1 0 rfl rfl)
theorem dX11_close_25 : decode cX11_close 25 = .ok (.ifnull 14, 3) := dk_198 0 14 (dk_at dksX11_close_1 3 rfl rfl)
theorem dX11_close_28 : decode cX11_close 28 = .ok (.aload_n 1, 1) := dk_43 (dk_at dksX11_close_1 6 rfl rfl)
theorem dX11_close_29 : decode cX11_close 29 = .ok (.aload_n 0, 1) := dk_42 (dk_at dksX11_close_1 7 rfl rfl)
theorem dX11_close_30 : decode cX11_close 30 = .ok (.getfield 28, 3) := dk_180 0 28 (dk_at dksX11_close_1 8 rfl rfl)
theorem dX11_close_33 : decode cX11_close 33 = .ok (.invokevirtual 32, 3) := dk_182 0 32 (dk_at dksX11_close_1 11 rfl rfl)
theorem dX11_close_36 : decode cX11_close 36 = .ok (.ifCond .ge 7, 3) := dk_156 0 7 (dk_at dksX11_close_1 14 rfl rfl)
theorem dX11_close_39 : decode cX11_close 39 = .ok (.aload_n 1, 1) := dk_43 (dk_at dksX11_close_1 17 rfl rfl)
theorem dX11_close_40 : decode cX11_close 40 = .ok (.goto 7, 3) := dk_167 0 7 (dk_at dksX11_close_1 18 rfl rfl)
theorem dX11_close_43 : decode cX11_close 43 = .ok (.aload_n 0, 1) := dk_42 (dk_at dksX11_close_1 21 rfl rfl)
theorem dX11_close_44 : decode cX11_close 44 = .ok (.getfield 28, 3) := dk_180 0 28 (dk_at dksX11_close_2 0 rfl rfl)
theorem dX11_close_47 : decode cX11_close 47 = .ok (.putfield 28, 3) := dk_181 0 28 (dk_at dksX11_close_2 3 rfl rfl)
theorem dX11_close_50 : decode cX11_close 50 = .ok (.return_, 1) := dk_177 (dk_at dksX11_close_2 6 rfl rfl)
abbrev cX11_init : ByteArray := prog_16_method_1_code
def yX11_init : MethodName := ⟨RX11, "<init>", "(LRatioGraph;)V"⟩
def dkwX11_init_0 : List UInt8 := [42, 43, 181, 0, 1, 42, 43, 43, 182, 0, 7, 183, 0, 13, 177]
abbrev dktX11_init_0 : List UInt8 := dkwX11_init_0 ++ []
theorem dksX11_init_0 : cX11_init.data.toList.drop 0 = dktX11_init_0 := by decide +kernel
theorem dX11_init_0 : decode cX11_init 0 = .ok (.aload_n 0, 1) := dk_42 (dk_at dksX11_init_0 0 rfl rfl)
theorem dX11_init_1 : decode cX11_init 1 = .ok (.aload_n 1, 1) := dk_43 (dk_at dksX11_init_0 1 rfl rfl)
theorem dX11_init_2 : decode cX11_init 2 = .ok (.putfield 1, 3) := dk_181 0 1 (dk_at dksX11_init_0 2 rfl rfl)
theorem dX11_init_5 : decode cX11_init 5 = .ok (.aload_n 0, 1) := dk_42 (dk_at dksX11_init_0 5 rfl rfl)
theorem dX11_init_6 : decode cX11_init 6 = .ok (.aload_n 1, 1) := dk_43 (dk_at dksX11_init_0 6 rfl rfl)
theorem dX11_init_7 : decode cX11_init 7 = .ok (.aload_n 1, 1) := dk_43 (dk_at dksX11_init_0 7 rfl rfl)
theorem dX11_init_8 : decode cX11_init 8 = .ok (.invokevirtual 7, 3) := dk_182 0 7 (dk_at dksX11_init_0 8 rfl rfl)
theorem dX11_init_11 : decode cX11_init 11 = .ok (.invokespecial 13, 3) := dk_183 0 13 (dk_at dksX11_init_0 11 rfl rfl)
theorem dX11_init_14 : decode cX11_init 14 = .ok (.return_, 1) := dk_177 (dk_at dksX11_init_0 14 rfl rfl)
abbrev cX11_least : ByteArray := prog_16_method_3_code
def yX11_least : MethodName := ⟨RX11, "least", "()LRatioGraph$Fraction;"⟩
def dkwX11_least_0 : List UInt8 := [42, 182, 0, 36, 42, 180, 0, 28, 176]
abbrev dktX11_least_0 : List UInt8 := dkwX11_least_0 ++ []
theorem dksX11_least_0 : cX11_least.data.toList.drop 0 = dktX11_least_0 := by decide +kernel
theorem dX11_least_0 : decode cX11_least 0 = .ok (.aload_n 0, 1) := dk_42 (dk_at dksX11_least_0 0 rfl rfl)
theorem dX11_least_1 : decode cX11_least 1 = .ok (.invokevirtual 36, 3) := dk_182 0 36 (dk_at dksX11_least_0 1 rfl rfl)
theorem dX11_least_4 : decode cX11_least 4 = .ok (.aload_n 0, 1) := dk_42 (dk_at dksX11_least_0 4 rfl rfl)
theorem dX11_least_5 : decode cX11_least 5 = .ok (.getfield 28, 3) := dk_180 0 28 (dk_at dksX11_least_0 5 rfl rfl)
theorem dX11_least_8 : decode cX11_least 8 = .ok (.areturn, 1) := dk_176 (dk_at dksX11_least_0 8 rfl rfl)
theorem q90 : (Jvm.Cond.initialized "RatioGraph$Ratios") ∈ lw_all := lw_g (lw_at lw_m1 26 rfl) rfl
theorem q278 : (Jvm.Cond.selects "RatioGraph$Ratios" ({ cls := "java/lang/Object", name := "getClass", desc := "()Ljava/lang/Class;" } : Jvm.MethodName) ({ cls := "java/lang/Object", name := "getClass", desc := "()Ljava/lang/Class;" } : Jvm.MethodName)) ∈ lw_all := lw_g (lw_at lw_m1 214 rfl) rfl
theorem q813 : (Jvm.Cond.selects "RatioGraph$Ratios" ({ cls := "RatioGraph$Cycles", name := "walk", desc := "(I)V" } : Jvm.MethodName) ({ cls := "RatioGraph$Walk", name := "walk", desc := "(I)V" } : Jvm.MethodName)) ∈ lw_all := lw_g (lw_at lw_m4 29 rfl) rfl
theorem q848 : (Jvm.Cond.selects "RatioGraph$Ratios" ({ cls := "RatioGraph$Cycles", name := "count", desc := "()I" } : Jvm.MethodName) ({ cls := "RatioGraph$Walk", name := "count", desc := "()I" } : Jvm.MethodName)) ∈ lw_all := lw_g (lw_at lw_m4 64 rfl) rfl
theorem q858 : (Jvm.Cond.selects "RatioGraph$Ratios" ({ cls := "RatioGraph$Cycles", name := "edgeAt", desc := "(I)LRatioGraph$Edge;" } : Jvm.MethodName) ({ cls := "RatioGraph$Walk", name := "edgeAt", desc := "(I)LRatioGraph$Edge;" } : Jvm.MethodName)) ∈ lw_all := lw_g (lw_at lw_m4 74 rfl) rfl
theorem q933 : (Jvm.Cond.selects "RatioGraph$Ratios" ({ cls := "RatioGraph$Cycles", name := "close", desc := "()V" } : Jvm.MethodName) ({ cls := "RatioGraph$Ratios", name := "close", desc := "()V" } : Jvm.MethodName)) ∈ lw_all := lw_g (lw_at lw_m4 149 rfl) rfl
theorem q934 : (Jvm.Cond.instanceMethod ({ cls := "RatioGraph$Ratios", name := "close", desc := "()V" } : Jvm.MethodName)) ∈ lw_all := lw_g (lw_at lw_m4 150 rfl) rfl
theorem q935 : (Jvm.Cond.code ({ cls := "RatioGraph$Ratios", name := "close", desc := "()V" } : Jvm.MethodName) prog_16_method_2_code (2 : Nat) (Option.none : Option Jvm.ClassFile.FieldType)) ∈ lw_all := lw_g (lw_at lw_m4 151 rfl) rfl
theorem q936 : (Jvm.Cond.classLink "RatioGraph$Ratios" (19 : Nat) "RatioGraph$Fraction") ∈ lw_all := lw_g (lw_at lw_m4 152 rfl) rfl
theorem q937 : (Jvm.Cond.methodLink "RatioGraph$Ratios" (21 : Nat) ({ cls := "RatioGraph$Ratios", name := "sum", desc := "(I)I" } : Jvm.MethodName)) ∈ lw_all := lw_g (lw_at lw_m4 153 rfl) rfl
theorem q938 : (Jvm.Cond.sameMethod "RatioGraph$Ratios" "RatioGraph$Cycles" "sum" "(I)I") ∈ lw_all := lw_g (lw_at lw_m4 154 rfl) rfl
theorem q939 : (Jvm.Cond.selects "RatioGraph$Ratios" ({ cls := "RatioGraph$Ratios", name := "sum", desc := "(I)I" } : Jvm.MethodName) ({ cls := "RatioGraph$Cycles", name := "sum", desc := "(I)I" } : Jvm.MethodName)) ∈ lw_all := lw_g (lw_at lw_m4 155 rfl) rfl
theorem q940 : (Jvm.Cond.methodLink "RatioGraph$Ratios" (25 : Nat) ({ cls := "RatioGraph$Fraction", name := "<init>", desc := "(JJ)V" } : Jvm.MethodName)) ∈ lw_all := lw_g (lw_at lw_m4 156 rfl) rfl
theorem q941 : (Jvm.Cond.methodLink "RatioGraph$Ratios" (32 : Nat) ({ cls := "RatioGraph$Fraction", name := "compareTo", desc := "(LRatioGraph$Fraction;)I" } : Jvm.MethodName)) ∈ lw_all := lw_g (lw_at lw_m4 157 rfl) rfl
theorem q962 : (Jvm.Cond.selects "RatioGraph$Ratios" ({ cls := "RatioGraph$Walk", name := "arrive", desc := "(I)V" } : Jvm.MethodName) ({ cls := "RatioGraph$Cycles", name := "arrive", desc := "(I)V" } : Jvm.MethodName)) ∈ lw_all := lw_g (lw_at lw_m4 178 rfl) rfl
theorem q971 : (Jvm.Cond.selects "RatioGraph$Ratios" ({ cls := "RatioGraph$Walk", name := "hasSeen", desc := "(I)Z" } : Jvm.MethodName) ({ cls := "RatioGraph$Walk", name := "hasSeen", desc := "(I)Z" } : Jvm.MethodName)) ∈ lw_all := lw_g (lw_at lw_m4 187 rfl) rfl
theorem q985 : (Jvm.Cond.selects "RatioGraph$Ratios" ({ cls := "RatioGraph$Walk", name := "goesOn", desc := "(I)Z" } : Jvm.MethodName) ({ cls := "RatioGraph$Cycles", name := "goesOn", desc := "(I)Z" } : Jvm.MethodName)) ∈ lw_all := lw_g (lw_at lw_m4 201 rfl) rfl
theorem q996 : (Jvm.Cond.instantiable "RatioGraph$Ratios" (9 : Nat)) ∈ lw_all := lw_g (lw_at lw_m4 212 rfl) rfl
theorem q998 : (Jvm.Cond.instanceMethod ({ cls := "RatioGraph$Ratios", name := "<init>", desc := "(LRatioGraph;)V" } : Jvm.MethodName)) ∈ lw_all := lw_g (lw_at lw_m4 214 rfl) rfl
theorem q999 : (Jvm.Cond.code ({ cls := "RatioGraph$Ratios", name := "<init>", desc := "(LRatioGraph;)V" } : Jvm.MethodName) prog_16_method_1_code (2 : Nat) (Option.none : Option Jvm.ClassFile.FieldType)) ∈ lw_all := lw_g (lw_at lw_m4 215 rfl) rfl
theorem q1000 : (Jvm.Cond.methodLinkNest "RatioGraph$Ratios" (7 : Nat) ({ cls := "RatioGraph", name := "allEdges", desc := "()I" } : Jvm.MethodName) "RatioGraph") ∈ lw_tbl := lw_at lw_m4 216 rfl
theorem q1004 : (Jvm.Cond.methodLink "RatioGraph$Ratios" (13 : Nat) ({ cls := "RatioGraph$Cycles", name := "<init>", desc := "(LRatioGraph;I)V" } : Jvm.MethodName)) ∈ lw_all := lw_g (lw_at lw_m4 220 rfl) rfl
theorem q1005 : (Jvm.Cond.fieldLink "RatioGraph$Ratios" (28 : Nat) "RatioGraph$Ratios" "least" "LRatioGraph$Fraction;") ∈ lw_all := lw_g (lw_at lw_m4 221 rfl) rfl
theorem q1006 : (Jvm.Cond.fieldLink "RatioGraph$Ratios" (1 : Nat) "RatioGraph$Ratios" "this$0" "LRatioGraph;") ∈ lw_all := lw_g (lw_at lw_m4 222 rfl) rfl
theorem q1007 : (Jvm.Cond.lays "RatioGraph$Ratios" "RatioGraph$Ratios" "least" "LRatioGraph$Fraction;") ∈ lw_all := lw_g (lw_at lw_m4 223 rfl) rfl
theorem q1008 : (Jvm.Cond.soleField "RatioGraph$Ratios" "least") ∈ lw_all := lw_g (lw_at lw_m4 224 rfl) rfl
theorem q1009 : (Jvm.Cond.laysFinal "RatioGraph$Ratios" "RatioGraph$Ratios" "this$0" "LRatioGraph;") ∈ lw_all := lw_g (lw_at lw_m4 225 rfl) rfl
theorem q1010 : (Jvm.Cond.soleField "RatioGraph$Ratios" "this$0") ∈ lw_all := lw_g (lw_at lw_m4 226 rfl) rfl
theorem q1011 : (Jvm.Cond.lays "RatioGraph$Ratios" "RatioGraph$Cycles" "start" "I") ∈ lw_all := lw_g (lw_at lw_m4 227 rfl) rfl
theorem q1012 : (Jvm.Cond.laysFinal "RatioGraph$Ratios" "RatioGraph$Cycles" "this$0" "LRatioGraph;") ∈ lw_all := lw_g (lw_at lw_m4 228 rfl) rfl
theorem q1013 : (Jvm.Cond.laysFinal "RatioGraph$Ratios" "RatioGraph$Walk" "allowed" "I") ∈ lw_all := lw_g (lw_at lw_m4 229 rfl) rfl
theorem q1014 : (Jvm.Cond.laysFinal "RatioGraph$Ratios" "RatioGraph$Walk" "sequence" "[I") ∈ lw_all := lw_g (lw_at lw_m4 230 rfl) rfl
theorem q1015 : (Jvm.Cond.lays "RatioGraph$Ratios" "RatioGraph$Walk" "count" "I") ∈ lw_all := lw_g (lw_at lw_m4 231 rfl) rfl
theorem q1016 : (Jvm.Cond.lays "RatioGraph$Ratios" "RatioGraph$Walk" "seen" "I") ∈ lw_all := lw_g (lw_at lw_m4 232 rfl) rfl
theorem q1017 : (Jvm.Cond.laysFinal "RatioGraph$Ratios" "RatioGraph$Walk" "this$0" "LRatioGraph;") ∈ lw_all := lw_g (lw_at lw_m4 233 rfl) rfl
theorem q1018 : (Jvm.Cond.superclass "RatioGraph$Ratios" "RatioGraph$Cycles") ∈ lw_all := lw_g (lw_at lw_m4 234 rfl) rfl
theorem q1020 : (Jvm.Cond.instanceMethod ({ cls := "RatioGraph$Ratios", name := "least", desc := "()LRatioGraph$Fraction;" } : Jvm.MethodName)) ∈ lw_all := lw_g (lw_at lw_m4 236 rfl) rfl
theorem q1021 : (Jvm.Cond.selects "RatioGraph$Ratios" ({ cls := "RatioGraph$Ratios", name := "least", desc := "()LRatioGraph$Fraction;" } : Jvm.MethodName) ({ cls := "RatioGraph$Ratios", name := "least", desc := "()LRatioGraph$Fraction;" } : Jvm.MethodName)) ∈ lw_all := lw_g (lw_at lw_m4 237 rfl) rfl
theorem q1022 : (Jvm.Cond.code ({ cls := "RatioGraph$Ratios", name := "least", desc := "()LRatioGraph$Fraction;" } : Jvm.MethodName) prog_16_method_3_code (1 : Nat) (Option.some (Jvm.ClassFile.FieldType.object "RatioGraph$Fraction"))) ∈ lw_all := lw_g (lw_at lw_m4 238 rfl) rfl
theorem q1023 : (Jvm.Cond.methodLink "RatioGraph$Ratios" (36 : Nat) ({ cls := "RatioGraph$Ratios", name := "walkAll", desc := "()V" } : Jvm.MethodName)) ∈ lw_all := lw_g (lw_at lw_m4 239 rfl) rfl
theorem q1024 : (Jvm.Cond.sameMethod "RatioGraph$Ratios" "RatioGraph$Cycles" "walkAll" "()V") ∈ lw_all := lw_g (lw_at lw_m5 0 rfl) rfl
theorem q1025 : (Jvm.Cond.selects "RatioGraph$Ratios" ({ cls := "RatioGraph$Ratios", name := "walkAll", desc := "()V" } : Jvm.MethodName) ({ cls := "RatioGraph$Cycles", name := "walkAll", desc := "()V" } : Jvm.MethodName)) ∈ lw_all := lw_g (lw_at lw_m5 1 rfl) rfl
theorem q1792 : (Jvm.Cond.selects "RatioGraph$Ratios" ({ cls := "RatioGraph$Walk", name := "walk", desc := "(I)V" } : Jvm.MethodName) ({ cls := "RatioGraph$Walk", name := "walk", desc := "(I)V" } : Jvm.MethodName)) ∈ lw_all := lw_g (lw_at lw_m8 48 rfl) rfl
theorem q1807 : (Jvm.Cond.castable "RatioGraph$Ratios" "java/lang/Object") ∈ lw_tbl := lw_at lw_m8 63 rfl
theorem in_X11 : ∀ w ∈ wsX110, w ∈ lw_all := lw_in wsX110 [1011, 1012, 1013, 1014, 1015, 1016, 1017, 1007, 1009] (by decide +kernel) (by decide +kernel)

/-! RatioGraph$Gains -/
set_option maxRecDepth 100000
def RX12 : String := "RatioGraph$Gains"
def TX12 : u_T := fun k => match k with
  | 0 => ("RatioGraph$Cycles", "start", "I", false)
  | 1 => ("RatioGraph$Cycles", "this$0", "LRatioGraph;", true)
  | 2 => ("RatioGraph$Walk", "allowed", "I", true)
  | 3 => ("RatioGraph$Walk", "sequence", "[I", true)
  | 4 => ("RatioGraph$Walk", "count", "I", false)
  | 5 => ("RatioGraph$Walk", "seen", "I", false)
  | 6 => ("RatioGraph$Walk", "this$0", "LRatioGraph;", true)
  | 7 => ("RatioGraph$Gains", "best", "LRatioGraph$Finding;", false)
  | _ => ("RatioGraph$Gains", "this$0", "LRatioGraph;", true)
def tyX12 : Nat → FieldType := fun k => match k with
  | 0 => .int
  | 1 => .object "RatioGraph"
  | 2 => .int
  | 3 => .array .int
  | 4 => .int
  | 5 => .int
  | 6 => .object "RatioGraph"
  | 7 => .object "RatioGraph$Finding"
  | _ => .object "RatioGraph"
abbrev wsX120 : List Cond := u_ws RX12 TX12 9
-- two fields of one name: no nmX12
theorem tyX12_ok : ∀ k, k < 9 → parseFieldDescriptor (TX12 k).2.2.1 = some (tyX12 k) := by decide +kernel
abbrev cX12_close : ByteArray := prog_10_method_2_code
def yX12_close : MethodName := ⟨RX12, "close", "()V"⟩
def dkwX12_close_2 : List UInt8 := [182, 0, 43, 153, 0, 7, 45, 167, 0, 7, 42, 180, 0, 23, 181, 0, 23, 177]
abbrev dktX12_close_2 : List UInt8 := dkwX12_close_2 ++ []
def dkwX12_close_1 : List UInt8 := [182, 0, 33, 61, 28, 155, 0, 36, 42, 43, 182, 0, 39, 78, 42, 28, 157, 0, 14, 45, 42, 180, 0, 23]
abbrev dktX12_close_1 : List UInt8 := dkwX12_close_1 ++ dktX12_close_2
def dkwX12_close_0 : List UInt8 := [42, 182, 0, 19, 76, 42, 180, 0, 23, 199, 0, 7, 4, 167, 0, 14, 43, 42, 180, 0, 23, 180, 0, 27]
abbrev dktX12_close_0 : List UInt8 := dkwX12_close_0 ++ dktX12_close_1
theorem dksX12_close_0 : cX12_close.data.toList.drop 0 = dktX12_close_0 := by decide +kernel
theorem dksX12_close_1 : cX12_close.data.toList.drop 24 = dktX12_close_1 := dk_seg dksX12_close_0 24 rfl rfl
theorem dksX12_close_2 : cX12_close.data.toList.drop 48 = dktX12_close_2 := dk_seg dksX12_close_1 24 rfl rfl
theorem dX12_close_0 : decode cX12_close 0 = .ok (.aload_n 0, 1) := dk_42 (dk_at dksX12_close_0 0 rfl rfl)
theorem dX12_close_1 : decode cX12_close 1 = .ok (.invokevirtual 19, 3) := dk_182 0 19 (dk_at dksX12_close_0 1 rfl rfl)
theorem dX12_close_4 : decode cX12_close 4 = .ok (.astore_n 1, 1) := dk_76 (dk_at dksX12_close_0 4 rfl rfl)
theorem dX12_close_5 : decode cX12_close 5 = .ok (.aload_n 0, 1) := dk_42 (dk_at dksX12_close_0 5 rfl rfl)
theorem dX12_close_6 : decode cX12_close 6 = .ok (.getfield 23, 3) := dk_180 0 23 (dk_at dksX12_close_0 6 rfl rfl)
theorem dX12_close_9 : decode cX12_close 9 = .ok (.ifnonnull 7, 3) := dk_199 0 7 (dk_at dksX12_close_0 9 rfl rfl)
theorem dX12_close_12 : decode cX12_close 12 = .ok (.iconst 1, 1) := dk_4 (dk_at dksX12_close_0 12 rfl rfl)
theorem dX12_close_13 : decode cX12_close 13 = .ok (.goto 14, 3) := dk_167 0 14 (dk_at dksX12_close_0 13 rfl rfl)
theorem dX12_close_16 : decode cX12_close 16 = .ok (.aload_n 1, 1) := dk_43 (dk_at dksX12_close_0 16 rfl rfl)
theorem dX12_close_17 : decode cX12_close 17 = .ok (.aload_n 0, 1) := dk_42 (dk_at dksX12_close_0 17 rfl rfl)
theorem dX12_close_18 : decode cX12_close 18 = .ok (.getfield 23, 3) := dk_180 0 23 (dk_at dksX12_close_0 18 rfl rfl)
theorem dX12_close_21 : decode cX12_close 21 = .ok (.getfield 27, 3) := dk_180 0 27 (dk_at dksX12_close_0 21 rfl rfl)
theorem dX12_close_24 : decode cX12_close 24 = .ok (.invokevirtual 33, 3) := dk_182 0 33 (dk_at dksX12_close_1 0 rfl rfl)
theorem dX12_close_27 : decode cX12_close 27 = .ok (.istore_n 2, 1) := dk_61 (dk_at dksX12_close_1 3 rfl rfl)
theorem dX12_close_28 : decode cX12_close 28 = .ok (.iload_n 2, 1) := dk_28 (dk_at dksX12_close_1 4 rfl rfl)
theorem dX12_close_29 : decode cX12_close 29 = .ok (.ifCond .lt 36, 3) := dk_155 0 36 (dk_at dksX12_close_1 5 rfl rfl)
theorem dX12_close_32 : decode cX12_close 32 = .ok (.aload_n 0, 1) := dk_42 (dk_at dksX12_close_1 8 rfl rfl)
theorem dX12_close_33 : decode cX12_close 33 = .ok (.aload_n 1, 1) := dk_43 (dk_at dksX12_close_1 9 rfl rfl)
theorem dX12_close_34 : decode cX12_close 34 = .ok (.invokevirtual 39, 3) := dk_182 0 39 (dk_at dksX12_close_1 10 rfl rfl)
theorem dX12_close_37 : decode cX12_close 37 = .ok (.astore_n 3, 1) := dk_78 (dk_at dksX12_close_1 13 rfl rfl)
theorem dX12_close_38 : decode cX12_close 38 = .ok (.aload_n 0, 1) := dk_42 (dk_at dksX12_close_1 14 rfl rfl)
theorem dX12_close_39 : decode cX12_close 39 = .ok (.iload_n 2, 1) := dk_28 (dk_at dksX12_close_1 15 rfl rfl)
theorem dX12_close_40 : decode cX12_close 40 = .ok (.ifCond .gt 14, 3) := dk_157 0 14 (dk_at dksX12_close_1 16 rfl rfl)
theorem dX12_close_43 : decode cX12_close 43 = .ok (.aload_n 3, 1) := dk_45 (dk_at dksX12_close_1 19 rfl rfl)
theorem dX12_close_44 : decode cX12_close 44 = .ok (.aload_n 0, 1) := dk_42 (dk_at dksX12_close_1 20 rfl rfl)
theorem dX12_close_45 : decode cX12_close 45 = .ok (.getfield 23, 3) := dk_180 0 23 (dk_at dksX12_close_1 21 rfl rfl)
theorem dX12_close_48 : decode cX12_close 48 = .ok (.invokevirtual 43, 3) := dk_182 0 43 (dk_at dksX12_close_2 0 rfl rfl)
theorem dX12_close_51 : decode cX12_close 51 = .ok (.ifCond .eq 7, 3) := dk_153 0 7 (dk_at dksX12_close_2 3 rfl rfl)
theorem dX12_close_54 : decode cX12_close 54 = .ok (.aload_n 3, 1) := dk_45 (dk_at dksX12_close_2 6 rfl rfl)
theorem dX12_close_55 : decode cX12_close 55 = .ok (.goto 7, 3) := dk_167 0 7 (dk_at dksX12_close_2 7 rfl rfl)
theorem dX12_close_58 : decode cX12_close 58 = .ok (.aload_n 0, 1) := dk_42 (dk_at dksX12_close_2 10 rfl rfl)
theorem dX12_close_59 : decode cX12_close 59 = .ok (.getfield 23, 3) := dk_180 0 23 (dk_at dksX12_close_2 11 rfl rfl)
theorem dX12_close_62 : decode cX12_close 62 = .ok (.putfield 23, 3) := dk_181 0 23 (dk_at dksX12_close_2 14 rfl rfl)
theorem dX12_close_65 : decode cX12_close 65 = .ok (.return_, 1) := dk_177 (dk_at dksX12_close_2 17 rfl rfl)
abbrev cX12_init : ByteArray := prog_10_method_1_code
def yX12_init : MethodName := ⟨RX12, "<init>", "(LRatioGraph;)V"⟩
def dkwX12_init_0 : List UInt8 := [42, 43, 181, 0, 1, 42, 43, 43, 182, 0, 7, 183, 0, 13, 177]
abbrev dktX12_init_0 : List UInt8 := dkwX12_init_0 ++ []
theorem dksX12_init_0 : cX12_init.data.toList.drop 0 = dktX12_init_0 := by decide +kernel
theorem dX12_init_0 : decode cX12_init 0 = .ok (.aload_n 0, 1) := dk_42 (dk_at dksX12_init_0 0 rfl rfl)
theorem dX12_init_1 : decode cX12_init 1 = .ok (.aload_n 1, 1) := dk_43 (dk_at dksX12_init_0 1 rfl rfl)
theorem dX12_init_2 : decode cX12_init 2 = .ok (.putfield 1, 3) := dk_181 0 1 (dk_at dksX12_init_0 2 rfl rfl)
theorem dX12_init_5 : decode cX12_init 5 = .ok (.aload_n 0, 1) := dk_42 (dk_at dksX12_init_0 5 rfl rfl)
theorem dX12_init_6 : decode cX12_init 6 = .ok (.aload_n 1, 1) := dk_43 (dk_at dksX12_init_0 6 rfl rfl)
theorem dX12_init_7 : decode cX12_init 7 = .ok (.aload_n 1, 1) := dk_43 (dk_at dksX12_init_0 7 rfl rfl)
theorem dX12_init_8 : decode cX12_init 8 = .ok (.invokevirtual 7, 3) := dk_182 0 7 (dk_at dksX12_init_0 8 rfl rfl)
theorem dX12_init_11 : decode cX12_init 11 = .ok (.invokespecial 13, 3) := dk_183 0 13 (dk_at dksX12_init_0 11 rfl rfl)
theorem dX12_init_14 : decode cX12_init 14 = .ok (.return_, 1) := dk_177 (dk_at dksX12_init_0 14 rfl rfl)
abbrev cX12_best : ByteArray := prog_10_method_3_code
def yX12_best : MethodName := ⟨RX12, "best", "()LRatioGraph$Finding;"⟩
def dkwX12_best_0 : List UInt8 := [42, 182, 0, 47, 42, 180, 0, 23, 176]
abbrev dktX12_best_0 : List UInt8 := dkwX12_best_0 ++ []
theorem dksX12_best_0 : cX12_best.data.toList.drop 0 = dktX12_best_0 := by decide +kernel
theorem dX12_best_0 : decode cX12_best 0 = .ok (.aload_n 0, 1) := dk_42 (dk_at dksX12_best_0 0 rfl rfl)
theorem dX12_best_1 : decode cX12_best 1 = .ok (.invokevirtual 47, 3) := dk_182 0 47 (dk_at dksX12_best_0 1 rfl rfl)
theorem dX12_best_4 : decode cX12_best 4 = .ok (.aload_n 0, 1) := dk_42 (dk_at dksX12_best_0 4 rfl rfl)
theorem dX12_best_5 : decode cX12_best 5 = .ok (.getfield 23, 3) := dk_180 0 23 (dk_at dksX12_best_0 5 rfl rfl)
theorem dX12_best_8 : decode cX12_best 8 = .ok (.areturn, 1) := dk_176 (dk_at dksX12_best_0 8 rfl rfl)
theorem q91 : (Jvm.Cond.initialized "RatioGraph$Gains") ∈ lw_all := lw_g (lw_at lw_m1 27 rfl) rfl
theorem q272 : (Jvm.Cond.selects "RatioGraph$Gains" ({ cls := "java/lang/Object", name := "getClass", desc := "()Ljava/lang/Class;" } : Jvm.MethodName) ({ cls := "java/lang/Object", name := "getClass", desc := "()Ljava/lang/Class;" } : Jvm.MethodName)) ∈ lw_all := lw_g (lw_at lw_m1 208 rfl) rfl
theorem q812 : (Jvm.Cond.selects "RatioGraph$Gains" ({ cls := "RatioGraph$Cycles", name := "walk", desc := "(I)V" } : Jvm.MethodName) ({ cls := "RatioGraph$Walk", name := "walk", desc := "(I)V" } : Jvm.MethodName)) ∈ lw_all := lw_g (lw_at lw_m4 28 rfl) rfl
theorem q847 : (Jvm.Cond.selects "RatioGraph$Gains" ({ cls := "RatioGraph$Cycles", name := "count", desc := "()I" } : Jvm.MethodName) ({ cls := "RatioGraph$Walk", name := "count", desc := "()I" } : Jvm.MethodName)) ∈ lw_all := lw_g (lw_at lw_m4 63 rfl) rfl
theorem q857 : (Jvm.Cond.selects "RatioGraph$Gains" ({ cls := "RatioGraph$Cycles", name := "edgeAt", desc := "(I)LRatioGraph$Edge;" } : Jvm.MethodName) ({ cls := "RatioGraph$Walk", name := "edgeAt", desc := "(I)LRatioGraph$Edge;" } : Jvm.MethodName)) ∈ lw_all := lw_g (lw_at lw_m4 73 rfl) rfl
theorem q910 : (Jvm.Cond.fieldLinkNest "RatioGraph$Gains" (27 : Nat) "RatioGraph$Finding" "value" "LRatioGraph$Fraction;" "RatioGraph") ∈ lw_tbl := lw_at lw_m4 126 rfl
theorem q922 : (Jvm.Cond.selects "RatioGraph$Gains" ({ cls := "RatioGraph$Cycles", name := "close", desc := "()V" } : Jvm.MethodName) ({ cls := "RatioGraph$Gains", name := "close", desc := "()V" } : Jvm.MethodName)) ∈ lw_all := lw_g (lw_at lw_m4 138 rfl) rfl
theorem q923 : (Jvm.Cond.instanceMethod ({ cls := "RatioGraph$Gains", name := "close", desc := "()V" } : Jvm.MethodName)) ∈ lw_all := lw_g (lw_at lw_m4 139 rfl) rfl
theorem q924 : (Jvm.Cond.code ({ cls := "RatioGraph$Gains", name := "close", desc := "()V" } : Jvm.MethodName) prog_10_method_2_code (4 : Nat) (Option.none : Option Jvm.ClassFile.FieldType)) ∈ lw_all := lw_g (lw_at lw_m4 140 rfl) rfl
theorem q925 : (Jvm.Cond.methodLink "RatioGraph$Gains" (19 : Nat) ({ cls := "RatioGraph$Gains", name := "product", desc := "()LRatioGraph$Fraction;" } : Jvm.MethodName)) ∈ lw_all := lw_g (lw_at lw_m4 141 rfl) rfl
theorem q926 : (Jvm.Cond.sameMethod "RatioGraph$Gains" "RatioGraph$Cycles" "product" "()LRatioGraph$Fraction;") ∈ lw_all := lw_g (lw_at lw_m4 142 rfl) rfl
theorem q927 : (Jvm.Cond.selects "RatioGraph$Gains" ({ cls := "RatioGraph$Gains", name := "product", desc := "()LRatioGraph$Fraction;" } : Jvm.MethodName) ({ cls := "RatioGraph$Cycles", name := "product", desc := "()LRatioGraph$Fraction;" } : Jvm.MethodName)) ∈ lw_all := lw_g (lw_at lw_m4 143 rfl) rfl
theorem q928 : (Jvm.Cond.methodLink "RatioGraph$Gains" (33 : Nat) ({ cls := "RatioGraph$Fraction", name := "compareTo", desc := "(LRatioGraph$Fraction;)I" } : Jvm.MethodName)) ∈ lw_all := lw_g (lw_at lw_m4 144 rfl) rfl
theorem q929 : (Jvm.Cond.methodLink "RatioGraph$Gains" (39 : Nat) ({ cls := "RatioGraph$Gains", name := "finding", desc := "(LRatioGraph$Fraction;)LRatioGraph$Finding;" } : Jvm.MethodName)) ∈ lw_all := lw_g (lw_at lw_m4 145 rfl) rfl
theorem q930 : (Jvm.Cond.sameMethod "RatioGraph$Gains" "RatioGraph$Walk" "finding" "(LRatioGraph$Fraction;)LRatioGraph$Finding;") ∈ lw_all := lw_g (lw_at lw_m4 146 rfl) rfl
theorem q931 : (Jvm.Cond.selects "RatioGraph$Gains" ({ cls := "RatioGraph$Gains", name := "finding", desc := "(LRatioGraph$Fraction;)LRatioGraph$Finding;" } : Jvm.MethodName) ({ cls := "RatioGraph$Walk", name := "finding", desc := "(LRatioGraph$Fraction;)LRatioGraph$Finding;" } : Jvm.MethodName)) ∈ lw_all := lw_g (lw_at lw_m4 147 rfl) rfl
theorem q932 : (Jvm.Cond.methodLink "RatioGraph$Gains" (43 : Nat) ({ cls := "RatioGraph$Finding", name := "isBefore", desc := "(LRatioGraph$Finding;)Z" } : Jvm.MethodName)) ∈ lw_all := lw_g (lw_at lw_m4 148 rfl) rfl
theorem q961 : (Jvm.Cond.selects "RatioGraph$Gains" ({ cls := "RatioGraph$Walk", name := "arrive", desc := "(I)V" } : Jvm.MethodName) ({ cls := "RatioGraph$Cycles", name := "arrive", desc := "(I)V" } : Jvm.MethodName)) ∈ lw_all := lw_g (lw_at lw_m4 177 rfl) rfl
theorem q970 : (Jvm.Cond.selects "RatioGraph$Gains" ({ cls := "RatioGraph$Walk", name := "hasSeen", desc := "(I)Z" } : Jvm.MethodName) ({ cls := "RatioGraph$Walk", name := "hasSeen", desc := "(I)Z" } : Jvm.MethodName)) ∈ lw_all := lw_g (lw_at lw_m4 186 rfl) rfl
theorem q984 : (Jvm.Cond.selects "RatioGraph$Gains" ({ cls := "RatioGraph$Walk", name := "goesOn", desc := "(I)Z" } : Jvm.MethodName) ({ cls := "RatioGraph$Cycles", name := "goesOn", desc := "(I)Z" } : Jvm.MethodName)) ∈ lw_all := lw_g (lw_at lw_m4 200 rfl) rfl
theorem q1031 : (Jvm.Cond.instantiable "RatioGraph$Gains" (9 : Nat)) ∈ lw_all := lw_g (lw_at lw_m5 7 rfl) rfl
theorem q1033 : (Jvm.Cond.instanceMethod ({ cls := "RatioGraph$Gains", name := "<init>", desc := "(LRatioGraph;)V" } : Jvm.MethodName)) ∈ lw_all := lw_g (lw_at lw_m5 9 rfl) rfl
theorem q1034 : (Jvm.Cond.code ({ cls := "RatioGraph$Gains", name := "<init>", desc := "(LRatioGraph;)V" } : Jvm.MethodName) prog_10_method_1_code (2 : Nat) (Option.none : Option Jvm.ClassFile.FieldType)) ∈ lw_all := lw_g (lw_at lw_m5 10 rfl) rfl
theorem q1035 : (Jvm.Cond.methodLinkNest "RatioGraph$Gains" (7 : Nat) ({ cls := "RatioGraph", name := "allEdges", desc := "()I" } : Jvm.MethodName) "RatioGraph") ∈ lw_tbl := lw_at lw_m5 11 rfl
theorem q1036 : (Jvm.Cond.methodLink "RatioGraph$Gains" (13 : Nat) ({ cls := "RatioGraph$Cycles", name := "<init>", desc := "(LRatioGraph;I)V" } : Jvm.MethodName)) ∈ lw_all := lw_g (lw_at lw_m5 12 rfl) rfl
theorem q1037 : (Jvm.Cond.fieldLink "RatioGraph$Gains" (23 : Nat) "RatioGraph$Gains" "best" "LRatioGraph$Finding;") ∈ lw_all := lw_g (lw_at lw_m5 13 rfl) rfl
theorem q1038 : (Jvm.Cond.fieldLink "RatioGraph$Gains" (1 : Nat) "RatioGraph$Gains" "this$0" "LRatioGraph;") ∈ lw_all := lw_g (lw_at lw_m5 14 rfl) rfl
theorem q1039 : (Jvm.Cond.lays "RatioGraph$Gains" "RatioGraph$Gains" "best" "LRatioGraph$Finding;") ∈ lw_all := lw_g (lw_at lw_m5 15 rfl) rfl
theorem q1040 : (Jvm.Cond.soleField "RatioGraph$Gains" "best") ∈ lw_all := lw_g (lw_at lw_m5 16 rfl) rfl
theorem q1041 : (Jvm.Cond.laysFinal "RatioGraph$Gains" "RatioGraph$Gains" "this$0" "LRatioGraph;") ∈ lw_all := lw_g (lw_at lw_m5 17 rfl) rfl
theorem q1042 : (Jvm.Cond.soleField "RatioGraph$Gains" "this$0") ∈ lw_all := lw_g (lw_at lw_m5 18 rfl) rfl
theorem q1043 : (Jvm.Cond.lays "RatioGraph$Gains" "RatioGraph$Cycles" "start" "I") ∈ lw_all := lw_g (lw_at lw_m5 19 rfl) rfl
theorem q1044 : (Jvm.Cond.laysFinal "RatioGraph$Gains" "RatioGraph$Cycles" "this$0" "LRatioGraph;") ∈ lw_all := lw_g (lw_at lw_m5 20 rfl) rfl
theorem q1045 : (Jvm.Cond.laysFinal "RatioGraph$Gains" "RatioGraph$Walk" "allowed" "I") ∈ lw_all := lw_g (lw_at lw_m5 21 rfl) rfl
theorem q1046 : (Jvm.Cond.laysFinal "RatioGraph$Gains" "RatioGraph$Walk" "sequence" "[I") ∈ lw_all := lw_g (lw_at lw_m5 22 rfl) rfl
theorem q1047 : (Jvm.Cond.lays "RatioGraph$Gains" "RatioGraph$Walk" "count" "I") ∈ lw_all := lw_g (lw_at lw_m5 23 rfl) rfl
theorem q1048 : (Jvm.Cond.lays "RatioGraph$Gains" "RatioGraph$Walk" "seen" "I") ∈ lw_all := lw_g (lw_at lw_m5 24 rfl) rfl
theorem q1049 : (Jvm.Cond.laysFinal "RatioGraph$Gains" "RatioGraph$Walk" "this$0" "LRatioGraph;") ∈ lw_all := lw_g (lw_at lw_m5 25 rfl) rfl
theorem q1050 : (Jvm.Cond.superclass "RatioGraph$Gains" "RatioGraph$Cycles") ∈ lw_all := lw_g (lw_at lw_m5 26 rfl) rfl
theorem q1052 : (Jvm.Cond.instanceMethod ({ cls := "RatioGraph$Gains", name := "best", desc := "()LRatioGraph$Finding;" } : Jvm.MethodName)) ∈ lw_all := lw_g (lw_at lw_m5 28 rfl) rfl
theorem q1053 : (Jvm.Cond.selects "RatioGraph$Gains" ({ cls := "RatioGraph$Gains", name := "best", desc := "()LRatioGraph$Finding;" } : Jvm.MethodName) ({ cls := "RatioGraph$Gains", name := "best", desc := "()LRatioGraph$Finding;" } : Jvm.MethodName)) ∈ lw_all := lw_g (lw_at lw_m5 29 rfl) rfl
theorem q1054 : (Jvm.Cond.code ({ cls := "RatioGraph$Gains", name := "best", desc := "()LRatioGraph$Finding;" } : Jvm.MethodName) prog_10_method_3_code (1 : Nat) (Option.some (Jvm.ClassFile.FieldType.object "RatioGraph$Finding"))) ∈ lw_all := lw_g (lw_at lw_m5 30 rfl) rfl
theorem q1055 : (Jvm.Cond.methodLink "RatioGraph$Gains" (47 : Nat) ({ cls := "RatioGraph$Gains", name := "walkAll", desc := "()V" } : Jvm.MethodName)) ∈ lw_all := lw_g (lw_at lw_m5 31 rfl) rfl
theorem q1056 : (Jvm.Cond.sameMethod "RatioGraph$Gains" "RatioGraph$Cycles" "walkAll" "()V") ∈ lw_all := lw_g (lw_at lw_m5 32 rfl) rfl
theorem q1057 : (Jvm.Cond.selects "RatioGraph$Gains" ({ cls := "RatioGraph$Gains", name := "walkAll", desc := "()V" } : Jvm.MethodName) ({ cls := "RatioGraph$Cycles", name := "walkAll", desc := "()V" } : Jvm.MethodName)) ∈ lw_all := lw_g (lw_at lw_m5 33 rfl) rfl
theorem q1791 : (Jvm.Cond.selects "RatioGraph$Gains" ({ cls := "RatioGraph$Walk", name := "walk", desc := "(I)V" } : Jvm.MethodName) ({ cls := "RatioGraph$Walk", name := "walk", desc := "(I)V" } : Jvm.MethodName)) ∈ lw_all := lw_g (lw_at lw_m8 47 rfl) rfl
theorem q1808 : (Jvm.Cond.castable "RatioGraph$Gains" "java/lang/Object") ∈ lw_tbl := lw_at lw_m8 64 rfl
theorem in_X12 : ∀ w ∈ wsX120, w ∈ lw_all := lw_in wsX120 [1043, 1044, 1045, 1046, 1047, 1048, 1049, 1039, 1041] (by decide +kernel) (by decide +kernel)

/-! RatioGraph$Census -/
set_option maxRecDepth 100000
def RX13 : String := "RatioGraph$Census"
def TX13 : u_T := fun k => match k with
  | 0 => ("RatioGraph$Cycles", "start", "I", false)
  | 1 => ("RatioGraph$Cycles", "this$0", "LRatioGraph;", true)
  | 2 => ("RatioGraph$Walk", "allowed", "I", true)
  | 3 => ("RatioGraph$Walk", "sequence", "[I", true)
  | 4 => ("RatioGraph$Walk", "count", "I", false)
  | 5 => ("RatioGraph$Walk", "seen", "I", false)
  | 6 => ("RatioGraph$Walk", "this$0", "LRatioGraph;", true)
  | 7 => ("RatioGraph$Census", "counts", "[I", true)
  | _ => ("RatioGraph$Census", "this$0", "LRatioGraph;", true)
def tyX13 : Nat → FieldType := fun k => match k with
  | 0 => .int
  | 1 => .object "RatioGraph"
  | 2 => .int
  | 3 => .array .int
  | 4 => .int
  | 5 => .int
  | 6 => .object "RatioGraph"
  | 7 => .array .int
  | _ => .object "RatioGraph"
abbrev wsX130 : List Cond := u_ws RX13 TX13 9
-- two fields of one name: no nmX13
theorem tyX13_ok : ∀ k, k < 9 → parseFieldDescriptor (TX13 k).2.2.1 = some (tyX13 k) := by decide +kernel
abbrev cX13_close : ByteArray := prog_3_method_2_code
def yX13_close : MethodName := ⟨RX13, "close", "()V"⟩
def dkwX13_close_2 : List UInt8 := [180, 0, 31, 43, 180, 0, 37, 148, 158, 0, 7, 4, 167, 0, 4, 3, 96, 79, 177]
abbrev dktX13_close_2 : List UInt8 := dkwX13_close_2 ++ []
def dkwX13_close_1 : List UInt8 := [156, 0, 7, 4, 167, 0, 4, 3, 96, 79, 42, 182, 0, 27, 76, 42, 180, 0, 19, 5, 92, 46, 43]
abbrev dktX13_close_1 : List UInt8 := dkwX13_close_1 ++ dktX13_close_2
def dkwX13_close_0 : List UInt8 := [42, 180, 0, 19, 3, 92, 46, 4, 96, 79, 42, 180, 0, 19, 4, 92, 46, 42, 5, 182, 0, 23]
abbrev dktX13_close_0 : List UInt8 := dkwX13_close_0 ++ dktX13_close_1
theorem dksX13_close_0 : cX13_close.data.toList.drop 0 = dktX13_close_0 := by decide +kernel
theorem dksX13_close_1 : cX13_close.data.toList.drop 22 = dktX13_close_1 := dk_seg dksX13_close_0 22 rfl rfl
theorem dksX13_close_2 : cX13_close.data.toList.drop 45 = dktX13_close_2 := dk_seg dksX13_close_1 23 rfl rfl
theorem dX13_close_0 : decode cX13_close 0 = .ok (.aload_n 0, 1) := dk_42 (dk_at dksX13_close_0 0 rfl rfl)
theorem dX13_close_1 : decode cX13_close 1 = .ok (.getfield 19, 3) := dk_180 0 19 (dk_at dksX13_close_0 1 rfl rfl)
theorem dX13_close_4 : decode cX13_close 4 = .ok (.iconst 0, 1) := dk_3 (dk_at dksX13_close_0 4 rfl rfl)
theorem dX13_close_5 : decode cX13_close 5 = .ok (.dup2, 1) := dk_92 (dk_at dksX13_close_0 5 rfl rfl)
theorem dX13_close_6 : decode cX13_close 6 = .ok (.iaload, 1) := dk_46 (dk_at dksX13_close_0 6 rfl rfl)
theorem dX13_close_7 : decode cX13_close 7 = .ok (.iconst 1, 1) := dk_4 (dk_at dksX13_close_0 7 rfl rfl)
theorem dX13_close_8 : decode cX13_close 8 = .ok (.iadd, 1) := dk_96 (dk_at dksX13_close_0 8 rfl rfl)
theorem dX13_close_9 : decode cX13_close 9 = .ok (.iastore, 1) := dk_79 (dk_at dksX13_close_0 9 rfl rfl)
theorem dX13_close_10 : decode cX13_close 10 = .ok (.aload_n 0, 1) := dk_42 (dk_at dksX13_close_0 10 rfl rfl)
theorem dX13_close_11 : decode cX13_close 11 = .ok (.getfield 19, 3) := dk_180 0 19 (dk_at dksX13_close_0 11 rfl rfl)
theorem dX13_close_14 : decode cX13_close 14 = .ok (.iconst 1, 1) := dk_4 (dk_at dksX13_close_0 14 rfl rfl)
theorem dX13_close_15 : decode cX13_close 15 = .ok (.dup2, 1) := dk_92 (dk_at dksX13_close_0 15 rfl rfl)
theorem dX13_close_16 : decode cX13_close 16 = .ok (.iaload, 1) := dk_46 (dk_at dksX13_close_0 16 rfl rfl)
theorem dX13_close_17 : decode cX13_close 17 = .ok (.aload_n 0, 1) := dk_42 (dk_at dksX13_close_0 17 rfl rfl)
theorem dX13_close_18 : decode cX13_close 18 = .ok (.iconst 2, 1) := dk_5 (dk_at dksX13_close_0 18 rfl rfl)
theorem dX13_close_19 : decode cX13_close 19 = .ok (.invokevirtual 23, 3) := dk_182 0 23 (dk_at dksX13_close_0 19 rfl rfl)
theorem dX13_close_22 : decode cX13_close 22 = .ok (.ifCond .ge 7, 3) := dk_156 0 7 (dk_at dksX13_close_1 0 rfl rfl)
theorem dX13_close_25 : decode cX13_close 25 = .ok (.iconst 1, 1) := dk_4 (dk_at dksX13_close_1 3 rfl rfl)
theorem dX13_close_26 : decode cX13_close 26 = .ok (.goto 4, 3) := dk_167 0 4 (dk_at dksX13_close_1 4 rfl rfl)
theorem dX13_close_29 : decode cX13_close 29 = .ok (.iconst 0, 1) := dk_3 (dk_at dksX13_close_1 7 rfl rfl)
theorem dX13_close_30 : decode cX13_close 30 = .ok (.iadd, 1) := dk_96 (dk_at dksX13_close_1 8 rfl rfl)
theorem dX13_close_31 : decode cX13_close 31 = .ok (.iastore, 1) := dk_79 (dk_at dksX13_close_1 9 rfl rfl)
theorem dX13_close_32 : decode cX13_close 32 = .ok (.aload_n 0, 1) := dk_42 (dk_at dksX13_close_1 10 rfl rfl)
theorem dX13_close_33 : decode cX13_close 33 = .ok (.invokevirtual 27, 3) := dk_182 0 27 (dk_at dksX13_close_1 11 rfl rfl)
theorem dX13_close_36 : decode cX13_close 36 = .ok (.astore_n 1, 1) := dk_76 (dk_at dksX13_close_1 14 rfl rfl)
theorem dX13_close_37 : decode cX13_close 37 = .ok (.aload_n 0, 1) := dk_42 (dk_at dksX13_close_1 15 rfl rfl)
theorem dX13_close_38 : decode cX13_close 38 = .ok (.getfield 19, 3) := dk_180 0 19 (dk_at dksX13_close_1 16 rfl rfl)
theorem dX13_close_41 : decode cX13_close 41 = .ok (.iconst 2, 1) := dk_5 (dk_at dksX13_close_1 19 rfl rfl)
theorem dX13_close_42 : decode cX13_close 42 = .ok (.dup2, 1) := dk_92 (dk_at dksX13_close_1 20 rfl rfl)
theorem dX13_close_43 : decode cX13_close 43 = .ok (.iaload, 1) := dk_46 (dk_at dksX13_close_1 21 rfl rfl)
theorem dX13_close_44 : decode cX13_close 44 = .ok (.aload_n 1, 1) := dk_43 (dk_at dksX13_close_1 22 rfl rfl)
theorem dX13_close_45 : decode cX13_close 45 = .ok (.getfield 31, 3) := dk_180 0 31 (dk_at dksX13_close_2 0 rfl rfl)
theorem dX13_close_48 : decode cX13_close 48 = .ok (.aload_n 1, 1) := dk_43 (dk_at dksX13_close_2 3 rfl rfl)
theorem dX13_close_49 : decode cX13_close 49 = .ok (.getfield 37, 3) := dk_180 0 37 (dk_at dksX13_close_2 4 rfl rfl)
theorem dX13_close_52 : decode cX13_close 52 = .ok (.lcmp, 1) := dk_148 (dk_at dksX13_close_2 7 rfl rfl)
theorem dX13_close_53 : decode cX13_close 53 = .ok (.ifCond .le 7, 3) := dk_158 0 7 (dk_at dksX13_close_2 8 rfl rfl)
theorem dX13_close_56 : decode cX13_close 56 = .ok (.iconst 1, 1) := dk_4 (dk_at dksX13_close_2 11 rfl rfl)
theorem dX13_close_57 : decode cX13_close 57 = .ok (.goto 4, 3) := dk_167 0 4 (dk_at dksX13_close_2 12 rfl rfl)
theorem dX13_close_60 : decode cX13_close 60 = .ok (.iconst 0, 1) := dk_3 (dk_at dksX13_close_2 15 rfl rfl)
theorem dX13_close_61 : decode cX13_close 61 = .ok (.iadd, 1) := dk_96 (dk_at dksX13_close_2 16 rfl rfl)
theorem dX13_close_62 : decode cX13_close 62 = .ok (.iastore, 1) := dk_79 (dk_at dksX13_close_2 17 rfl rfl)
theorem dX13_close_63 : decode cX13_close 63 = .ok (.return_, 1) := dk_177 (dk_at dksX13_close_2 18 rfl rfl)
abbrev cX13_init : ByteArray := prog_3_method_1_code
def yX13_init : MethodName := ⟨RX13, "<init>", "(LRatioGraph;)V"⟩
def dkwX13_init_0 : List UInt8 := [42, 43, 181, 0, 1, 42, 43, 43, 182, 0, 7, 183, 0, 13, 42, 6, 188, 10, 181, 0, 19, 177]
abbrev dktX13_init_0 : List UInt8 := dkwX13_init_0 ++ []
theorem dksX13_init_0 : cX13_init.data.toList.drop 0 = dktX13_init_0 := by decide +kernel
theorem dX13_init_0 : decode cX13_init 0 = .ok (.aload_n 0, 1) := dk_42 (dk_at dksX13_init_0 0 rfl rfl)
theorem dX13_init_1 : decode cX13_init 1 = .ok (.aload_n 1, 1) := dk_43 (dk_at dksX13_init_0 1 rfl rfl)
theorem dX13_init_2 : decode cX13_init 2 = .ok (.putfield 1, 3) := dk_181 0 1 (dk_at dksX13_init_0 2 rfl rfl)
theorem dX13_init_5 : decode cX13_init 5 = .ok (.aload_n 0, 1) := dk_42 (dk_at dksX13_init_0 5 rfl rfl)
theorem dX13_init_6 : decode cX13_init 6 = .ok (.aload_n 1, 1) := dk_43 (dk_at dksX13_init_0 6 rfl rfl)
theorem dX13_init_7 : decode cX13_init 7 = .ok (.aload_n 1, 1) := dk_43 (dk_at dksX13_init_0 7 rfl rfl)
theorem dX13_init_8 : decode cX13_init 8 = .ok (.invokevirtual 7, 3) := dk_182 0 7 (dk_at dksX13_init_0 8 rfl rfl)
theorem dX13_init_11 : decode cX13_init 11 = .ok (.invokespecial 13, 3) := dk_183 0 13 (dk_at dksX13_init_0 11 rfl rfl)
theorem dX13_init_14 : decode cX13_init 14 = .ok (.aload_n 0, 1) := dk_42 (dk_at dksX13_init_0 14 rfl rfl)
theorem dX13_init_15 : decode cX13_init 15 = .ok (.iconst 3, 1) := dk_6 (dk_at dksX13_init_0 15 rfl rfl)
theorem dX13_init_16 : decode cX13_init 16 = .ok (.newarray .int, 2) := dk_188_10 (dk_at dksX13_init_0 16 rfl rfl)
theorem dX13_init_18 : decode cX13_init 18 = .ok (.putfield 19, 3) := dk_181 0 19 (dk_at dksX13_init_0 18 rfl rfl)
theorem dX13_init_21 : decode cX13_init 21 = .ok (.return_, 1) := dk_177 (dk_at dksX13_init_0 21 rfl rfl)
abbrev cX13_count : ByteArray := prog_3_method_3_code
def yX13_count : MethodName := ⟨RX13, "count", "(I)I"⟩
def dkwX13_count_0 : List UInt8 := [42, 182, 0, 40, 42, 180, 0, 19, 27, 46, 172]
abbrev dktX13_count_0 : List UInt8 := dkwX13_count_0 ++ []
theorem dksX13_count_0 : cX13_count.data.toList.drop 0 = dktX13_count_0 := by decide +kernel
theorem dX13_count_0 : decode cX13_count 0 = .ok (.aload_n 0, 1) := dk_42 (dk_at dksX13_count_0 0 rfl rfl)
theorem dX13_count_1 : decode cX13_count 1 = .ok (.invokevirtual 40, 3) := dk_182 0 40 (dk_at dksX13_count_0 1 rfl rfl)
theorem dX13_count_4 : decode cX13_count 4 = .ok (.aload_n 0, 1) := dk_42 (dk_at dksX13_count_0 4 rfl rfl)
theorem dX13_count_5 : decode cX13_count 5 = .ok (.getfield 19, 3) := dk_180 0 19 (dk_at dksX13_count_0 5 rfl rfl)
theorem dX13_count_8 : decode cX13_count 8 = .ok (.iload_n 1, 1) := dk_27 (dk_at dksX13_count_0 8 rfl rfl)
theorem dX13_count_9 : decode cX13_count 9 = .ok (.iaload, 1) := dk_46 (dk_at dksX13_count_0 9 rfl rfl)
theorem dX13_count_10 : decode cX13_count 10 = .ok (.ireturn, 1) := dk_172 (dk_at dksX13_count_0 10 rfl rfl)
theorem q92 : (Jvm.Cond.initialized "RatioGraph$Census") ∈ lw_all := lw_g (lw_at lw_m1 28 rfl) rfl
theorem q266 : (Jvm.Cond.selects "RatioGraph$Census" ({ cls := "java/lang/Object", name := "getClass", desc := "()Ljava/lang/Class;" } : Jvm.MethodName) ({ cls := "java/lang/Object", name := "getClass", desc := "()Ljava/lang/Class;" } : Jvm.MethodName)) ∈ lw_all := lw_g (lw_at lw_m1 202 rfl) rfl
theorem q687 : (Jvm.Cond.fieldLinkNest "RatioGraph$Census" (31 : Nat) "RatioGraph$Fraction" "n" "J" "RatioGraph") ∈ lw_tbl := lw_at lw_m3 143 rfl
theorem q694 : (Jvm.Cond.fieldLinkNest "RatioGraph$Census" (37 : Nat) "RatioGraph$Fraction" "d" "J" "RatioGraph") ∈ lw_tbl := lw_at lw_m3 150 rfl
theorem q810 : (Jvm.Cond.selects "RatioGraph$Census" ({ cls := "RatioGraph$Cycles", name := "walk", desc := "(I)V" } : Jvm.MethodName) ({ cls := "RatioGraph$Walk", name := "walk", desc := "(I)V" } : Jvm.MethodName)) ∈ lw_all := lw_g (lw_at lw_m4 26 rfl) rfl
theorem q845 : (Jvm.Cond.selects "RatioGraph$Census" ({ cls := "RatioGraph$Cycles", name := "count", desc := "()I" } : Jvm.MethodName) ({ cls := "RatioGraph$Walk", name := "count", desc := "()I" } : Jvm.MethodName)) ∈ lw_all := lw_g (lw_at lw_m4 61 rfl) rfl
theorem q855 : (Jvm.Cond.selects "RatioGraph$Census" ({ cls := "RatioGraph$Cycles", name := "edgeAt", desc := "(I)LRatioGraph$Edge;" } : Jvm.MethodName) ({ cls := "RatioGraph$Walk", name := "edgeAt", desc := "(I)LRatioGraph$Edge;" } : Jvm.MethodName)) ∈ lw_all := lw_g (lw_at lw_m4 71 rfl) rfl
theorem q865 : (Jvm.Cond.selects "RatioGraph$Census" ({ cls := "RatioGraph$Cycles", name := "close", desc := "()V" } : Jvm.MethodName) ({ cls := "RatioGraph$Census", name := "close", desc := "()V" } : Jvm.MethodName)) ∈ lw_all := lw_g (lw_at lw_m4 81 rfl) rfl
theorem q866 : (Jvm.Cond.instanceMethod ({ cls := "RatioGraph$Census", name := "close", desc := "()V" } : Jvm.MethodName)) ∈ lw_all := lw_g (lw_at lw_m4 82 rfl) rfl
theorem q867 : (Jvm.Cond.code ({ cls := "RatioGraph$Census", name := "close", desc := "()V" } : Jvm.MethodName) prog_3_method_2_code (2 : Nat) (Option.none : Option Jvm.ClassFile.FieldType)) ∈ lw_all := lw_g (lw_at lw_m4 83 rfl) rfl
theorem q868 : (Jvm.Cond.methodLink "RatioGraph$Census" (23 : Nat) ({ cls := "RatioGraph$Census", name := "sum", desc := "(I)I" } : Jvm.MethodName)) ∈ lw_all := lw_g (lw_at lw_m4 84 rfl) rfl
theorem q869 : (Jvm.Cond.sameMethod "RatioGraph$Census" "RatioGraph$Cycles" "sum" "(I)I") ∈ lw_all := lw_g (lw_at lw_m4 85 rfl) rfl
theorem q870 : (Jvm.Cond.selects "RatioGraph$Census" ({ cls := "RatioGraph$Census", name := "sum", desc := "(I)I" } : Jvm.MethodName) ({ cls := "RatioGraph$Cycles", name := "sum", desc := "(I)I" } : Jvm.MethodName)) ∈ lw_all := lw_g (lw_at lw_m4 86 rfl) rfl
theorem q871 : (Jvm.Cond.methodLink "RatioGraph$Census" (27 : Nat) ({ cls := "RatioGraph$Census", name := "product", desc := "()LRatioGraph$Fraction;" } : Jvm.MethodName)) ∈ lw_all := lw_g (lw_at lw_m4 87 rfl) rfl
theorem q872 : (Jvm.Cond.sameMethod "RatioGraph$Census" "RatioGraph$Cycles" "product" "()LRatioGraph$Fraction;") ∈ lw_all := lw_g (lw_at lw_m4 88 rfl) rfl
theorem q874 : (Jvm.Cond.selects "RatioGraph$Census" ({ cls := "RatioGraph$Census", name := "product", desc := "()LRatioGraph$Fraction;" } : Jvm.MethodName) ({ cls := "RatioGraph$Cycles", name := "product", desc := "()LRatioGraph$Fraction;" } : Jvm.MethodName)) ∈ lw_all := lw_g (lw_at lw_m4 90 rfl) rfl
theorem q942 : (Jvm.Cond.selects "RatioGraph$Census" ({ cls := "RatioGraph$Walk", name := "arrive", desc := "(I)V" } : Jvm.MethodName) ({ cls := "RatioGraph$Cycles", name := "arrive", desc := "(I)V" } : Jvm.MethodName)) ∈ lw_all := lw_g (lw_at lw_m4 158 rfl) rfl
theorem q967 : (Jvm.Cond.selects "RatioGraph$Census" ({ cls := "RatioGraph$Walk", name := "hasSeen", desc := "(I)Z" } : Jvm.MethodName) ({ cls := "RatioGraph$Walk", name := "hasSeen", desc := "(I)Z" } : Jvm.MethodName)) ∈ lw_all := lw_g (lw_at lw_m4 183 rfl) rfl
theorem q979 : (Jvm.Cond.selects "RatioGraph$Census" ({ cls := "RatioGraph$Walk", name := "goesOn", desc := "(I)Z" } : Jvm.MethodName) ({ cls := "RatioGraph$Cycles", name := "goesOn", desc := "(I)Z" } : Jvm.MethodName)) ∈ lw_all := lw_g (lw_at lw_m4 195 rfl) rfl
theorem q1064 : (Jvm.Cond.instantiable "RatioGraph$Census" (9 : Nat)) ∈ lw_all := lw_g (lw_at lw_m5 40 rfl) rfl
theorem q1066 : (Jvm.Cond.instanceMethod ({ cls := "RatioGraph$Census", name := "<init>", desc := "(LRatioGraph;)V" } : Jvm.MethodName)) ∈ lw_all := lw_g (lw_at lw_m5 42 rfl) rfl
theorem q1067 : (Jvm.Cond.code ({ cls := "RatioGraph$Census", name := "<init>", desc := "(LRatioGraph;)V" } : Jvm.MethodName) prog_3_method_1_code (2 : Nat) (Option.none : Option Jvm.ClassFile.FieldType)) ∈ lw_all := lw_g (lw_at lw_m5 43 rfl) rfl
theorem q1068 : (Jvm.Cond.methodLinkNest "RatioGraph$Census" (7 : Nat) ({ cls := "RatioGraph", name := "allEdges", desc := "()I" } : Jvm.MethodName) "RatioGraph") ∈ lw_tbl := lw_at lw_m5 44 rfl
theorem q1069 : (Jvm.Cond.methodLink "RatioGraph$Census" (13 : Nat) ({ cls := "RatioGraph$Cycles", name := "<init>", desc := "(LRatioGraph;I)V" } : Jvm.MethodName)) ∈ lw_all := lw_g (lw_at lw_m5 45 rfl) rfl
theorem q1070 : (Jvm.Cond.fieldLink "RatioGraph$Census" (19 : Nat) "RatioGraph$Census" "counts" "[I") ∈ lw_all := lw_g (lw_at lw_m5 46 rfl) rfl
theorem q1071 : (Jvm.Cond.fieldLink "RatioGraph$Census" (1 : Nat) "RatioGraph$Census" "this$0" "LRatioGraph;") ∈ lw_all := lw_g (lw_at lw_m5 47 rfl) rfl
theorem q1072 : (Jvm.Cond.laysFinal "RatioGraph$Census" "RatioGraph$Census" "counts" "[I") ∈ lw_all := lw_g (lw_at lw_m5 48 rfl) rfl
theorem q1073 : (Jvm.Cond.soleField "RatioGraph$Census" "counts") ∈ lw_all := lw_g (lw_at lw_m5 49 rfl) rfl
theorem q1074 : (Jvm.Cond.laysFinal "RatioGraph$Census" "RatioGraph$Census" "this$0" "LRatioGraph;") ∈ lw_all := lw_g (lw_at lw_m5 50 rfl) rfl
theorem q1075 : (Jvm.Cond.soleField "RatioGraph$Census" "this$0") ∈ lw_all := lw_g (lw_at lw_m5 51 rfl) rfl
theorem q1076 : (Jvm.Cond.lays "RatioGraph$Census" "RatioGraph$Cycles" "start" "I") ∈ lw_all := lw_g (lw_at lw_m5 52 rfl) rfl
theorem q1077 : (Jvm.Cond.laysFinal "RatioGraph$Census" "RatioGraph$Cycles" "this$0" "LRatioGraph;") ∈ lw_all := lw_g (lw_at lw_m5 53 rfl) rfl
theorem q1078 : (Jvm.Cond.laysFinal "RatioGraph$Census" "RatioGraph$Walk" "allowed" "I") ∈ lw_all := lw_g (lw_at lw_m5 54 rfl) rfl
theorem q1079 : (Jvm.Cond.laysFinal "RatioGraph$Census" "RatioGraph$Walk" "sequence" "[I") ∈ lw_all := lw_g (lw_at lw_m5 55 rfl) rfl
theorem q1080 : (Jvm.Cond.lays "RatioGraph$Census" "RatioGraph$Walk" "count" "I") ∈ lw_all := lw_g (lw_at lw_m5 56 rfl) rfl
theorem q1081 : (Jvm.Cond.lays "RatioGraph$Census" "RatioGraph$Walk" "seen" "I") ∈ lw_all := lw_g (lw_at lw_m5 57 rfl) rfl
theorem q1082 : (Jvm.Cond.laysFinal "RatioGraph$Census" "RatioGraph$Walk" "this$0" "LRatioGraph;") ∈ lw_all := lw_g (lw_at lw_m5 58 rfl) rfl
theorem q1083 : (Jvm.Cond.superclass "RatioGraph$Census" "RatioGraph$Cycles") ∈ lw_all := lw_g (lw_at lw_m5 59 rfl) rfl
theorem q1085 : (Jvm.Cond.instanceMethod ({ cls := "RatioGraph$Census", name := "count", desc := "(I)I" } : Jvm.MethodName)) ∈ lw_all := lw_g (lw_at lw_m5 61 rfl) rfl
theorem q1086 : (Jvm.Cond.selects "RatioGraph$Census" ({ cls := "RatioGraph$Census", name := "count", desc := "(I)I" } : Jvm.MethodName) ({ cls := "RatioGraph$Census", name := "count", desc := "(I)I" } : Jvm.MethodName)) ∈ lw_all := lw_g (lw_at lw_m5 62 rfl) rfl
theorem q1087 : (Jvm.Cond.code ({ cls := "RatioGraph$Census", name := "count", desc := "(I)I" } : Jvm.MethodName) prog_3_method_3_code (2 : Nat) (Option.some Jvm.ClassFile.FieldType.int)) ∈ lw_all := lw_g (lw_at lw_m5 63 rfl) rfl
theorem q1088 : (Jvm.Cond.methodLink "RatioGraph$Census" (40 : Nat) ({ cls := "RatioGraph$Census", name := "walkAll", desc := "()V" } : Jvm.MethodName)) ∈ lw_all := lw_g (lw_at lw_m5 64 rfl) rfl
theorem q1089 : (Jvm.Cond.sameMethod "RatioGraph$Census" "RatioGraph$Cycles" "walkAll" "()V") ∈ lw_all := lw_g (lw_at lw_m5 65 rfl) rfl
theorem q1090 : (Jvm.Cond.selects "RatioGraph$Census" ({ cls := "RatioGraph$Census", name := "walkAll", desc := "()V" } : Jvm.MethodName) ({ cls := "RatioGraph$Cycles", name := "walkAll", desc := "()V" } : Jvm.MethodName)) ∈ lw_all := lw_g (lw_at lw_m5 66 rfl) rfl
theorem q1788 : (Jvm.Cond.selects "RatioGraph$Census" ({ cls := "RatioGraph$Walk", name := "walk", desc := "(I)V" } : Jvm.MethodName) ({ cls := "RatioGraph$Walk", name := "walk", desc := "(I)V" } : Jvm.MethodName)) ∈ lw_all := lw_g (lw_at lw_m8 44 rfl) rfl
theorem q1809 : (Jvm.Cond.castable "RatioGraph$Census" "java/lang/Object") ∈ lw_tbl := lw_at lw_m8 65 rfl
theorem in_X13 : ∀ w ∈ wsX130, w ∈ lw_all := lw_in wsX130 [1076, 1077, 1078, 1079, 1080, 1081, 1082, 1072, 1074] (by decide +kernel) (by decide +kernel)

/-! RatioGraph$Paths -/
set_option maxRecDepth 100000
def RX14 : String := "RatioGraph$Paths"
def TX14 : u_T := fun k => match k with
  | 0 => ("RatioGraph$Paths", "from", "I", true)
  | 1 => ("RatioGraph$Paths", "to", "I", true)
  | 2 => ("RatioGraph$Paths", "between", "I", true)
  | 3 => ("RatioGraph$Paths", "lines", "[LRatioGraph$Line;", true)
  | _ => ("RatioGraph$Paths", "this$0", "LRatioGraph;", true)
def tyX14 : Nat → FieldType := fun k => match k with
  | 0 => .int
  | 1 => .int
  | 2 => .int
  | 3 => .array (.object "RatioGraph$Line")
  | _ => .object "RatioGraph"
abbrev wsX140 : List Cond := u_ws RX14 TX14 5
theorem nmX14 : ∀ a, a < 5 → ∀ b, b < 5 → a ≠ b → (TX14 a).2.1 ≠ (TX14 b).2.1 := by decide +kernel
theorem tyX14_ok : ∀ k, k < 5 → parseFieldDescriptor (TX14 k).2.2.1 = some (tyX14 k) := by decide +kernel
abbrev cX14_init : ByteArray := prog_13_method_1_code
def yX14_init : MethodName := ⟨RX14, "<init>", "(LRatioGraph;II)V"⟩
def dkwX14_init_1 : List UInt8 := [29, 181, 0, 25, 42, 42, 28, 4, 182, 0, 28, 42, 29, 3, 182, 0, 28, 126, 181, 0, 32, 177]
abbrev dktX14_init_1 : List UInt8 := dkwX14_init_1 ++ []
def dkwX14_init_0 : List UInt8 := [42, 43, 181, 0, 3, 42, 183, 0, 9, 42, 16, 8, 189, 0, 15, 181, 0, 17, 42, 28, 181, 0, 21, 42]
abbrev dktX14_init_0 : List UInt8 := dkwX14_init_0 ++ dktX14_init_1
theorem dksX14_init_0 : cX14_init.data.toList.drop 0 = dktX14_init_0 := by decide +kernel
theorem dksX14_init_1 : cX14_init.data.toList.drop 24 = dktX14_init_1 := dk_seg dksX14_init_0 24 rfl rfl
theorem dX14_init_0 : decode cX14_init 0 = .ok (.aload_n 0, 1) := dk_42 (dk_at dksX14_init_0 0 rfl rfl)
theorem dX14_init_1 : decode cX14_init 1 = .ok (.aload_n 1, 1) := dk_43 (dk_at dksX14_init_0 1 rfl rfl)
theorem dX14_init_2 : decode cX14_init 2 = .ok (.putfield 3, 3) := dk_181 0 3 (dk_at dksX14_init_0 2 rfl rfl)
theorem dX14_init_5 : decode cX14_init 5 = .ok (.aload_n 0, 1) := dk_42 (dk_at dksX14_init_0 5 rfl rfl)
theorem dX14_init_6 : decode cX14_init 6 = .ok (.invokespecial 9, 3) := dk_183 0 9 (dk_at dksX14_init_0 6 rfl rfl)
theorem dX14_init_9 : decode cX14_init 9 = .ok (.aload_n 0, 1) := dk_42 (dk_at dksX14_init_0 9 rfl rfl)
theorem dX14_init_10 : decode cX14_init 10 = .ok (.bipush 8, 2) := dk_16 8 (dk_at dksX14_init_0 10 rfl rfl)
theorem dX14_init_12 : decode cX14_init 12 = .ok (.anewarray 15, 3) := dk_189 0 15 (dk_at dksX14_init_0 12 rfl rfl)
theorem dX14_init_15 : decode cX14_init 15 = .ok (.putfield 17, 3) := dk_181 0 17 (dk_at dksX14_init_0 15 rfl rfl)
theorem dX14_init_18 : decode cX14_init 18 = .ok (.aload_n 0, 1) := dk_42 (dk_at dksX14_init_0 18 rfl rfl)
theorem dX14_init_19 : decode cX14_init 19 = .ok (.iload_n 2, 1) := dk_28 (dk_at dksX14_init_0 19 rfl rfl)
theorem dX14_init_20 : decode cX14_init 20 = .ok (.putfield 21, 3) := dk_181 0 21 (dk_at dksX14_init_0 20 rfl rfl)
theorem dX14_init_23 : decode cX14_init 23 = .ok (.aload_n 0, 1) := dk_42 (dk_at dksX14_init_0 23 rfl rfl)
theorem dX14_init_24 : decode cX14_init 24 = .ok (.iload_n 3, 1) := dk_29 (dk_at dksX14_init_1 0 rfl rfl)
theorem dX14_init_25 : decode cX14_init 25 = .ok (.putfield 25, 3) := dk_181 0 25 (dk_at dksX14_init_1 1 rfl rfl)
theorem dX14_init_28 : decode cX14_init 28 = .ok (.aload_n 0, 1) := dk_42 (dk_at dksX14_init_1 4 rfl rfl)
theorem dX14_init_29 : decode cX14_init 29 = .ok (.aload_n 0, 1) := dk_42 (dk_at dksX14_init_1 5 rfl rfl)
theorem dX14_init_30 : decode cX14_init 30 = .ok (.iload_n 2, 1) := dk_28 (dk_at dksX14_init_1 6 rfl rfl)
theorem dX14_init_31 : decode cX14_init 31 = .ok (.iconst 1, 1) := dk_4 (dk_at dksX14_init_1 7 rfl rfl)
theorem dX14_init_32 : decode cX14_init 32 = .ok (.invokevirtual 28, 3) := dk_182 0 28 (dk_at dksX14_init_1 8 rfl rfl)
theorem dX14_init_35 : decode cX14_init 35 = .ok (.aload_n 0, 1) := dk_42 (dk_at dksX14_init_1 11 rfl rfl)
theorem dX14_init_36 : decode cX14_init 36 = .ok (.iload_n 3, 1) := dk_29 (dk_at dksX14_init_1 12 rfl rfl)
theorem dX14_init_37 : decode cX14_init 37 = .ok (.iconst 0, 1) := dk_3 (dk_at dksX14_init_1 13 rfl rfl)
theorem dX14_init_38 : decode cX14_init 38 = .ok (.invokevirtual 28, 3) := dk_182 0 28 (dk_at dksX14_init_1 14 rfl rfl)
theorem dX14_init_41 : decode cX14_init 41 = .ok (.iand, 1) := dk_126 (dk_at dksX14_init_1 17 rfl rfl)
theorem dX14_init_42 : decode cX14_init 42 = .ok (.putfield 32, 3) := dk_181 0 32 (dk_at dksX14_init_1 18 rfl rfl)
theorem dX14_init_45 : decode cX14_init 45 = .ok (.return_, 1) := dk_177 (dk_at dksX14_init_1 21 rfl rfl)
abbrev cX14_spread : ByteArray := prog_13_method_2_code
def yX14_spread : MethodName := ⟨RX14, "spread", "(IZ)I"⟩
def dkwX14_spread_4 : List UInt8 := [180, 0, 51, 120, 167, 0, 4, 3, 128, 62, 132, 5, 1, 167, 255, 166, 132, 4, 1, 167, 255, 150, 29, 172]
abbrev dktX14_spread_4 : List UInt8 := dkwX14_spread_4 ++ []
def dkwX14_spread_3 : List UInt8 := [21, 7, 122, 4, 126, 4, 160, 0, 25, 4, 28, 153, 0, 11, 25, 6, 180, 0, 52, 167, 0, 8, 25, 6]
abbrev dktX14_spread_3 : List UInt8 := dkwX14_spread_3 ++ dktX14_spread_4
def dkwX14_spread_2 : List UInt8 := [58, 6, 28, 153, 0, 11, 25, 6, 180, 0, 51, 167, 0, 8, 25, 6, 180, 0, 52, 54, 7, 29, 29]
abbrev dktX14_spread_2 : List UInt8 := dkwX14_spread_2 ++ dktX14_spread_3
def dkwX14_spread_1 : List UInt8 := [180, 0, 35, 182, 0, 39, 162, 0, 81, 42, 180, 0, 3, 180, 0, 35, 21, 5, 182, 0, 45, 192, 0, 49]
abbrev dktX14_spread_1 : List UInt8 := dkwX14_spread_1 ++ dktX14_spread_2
def dkwX14_spread_0 : List UInt8 := [4, 27, 120, 62, 3, 54, 4, 21, 4, 16, 8, 162, 0, 105, 3, 54, 5, 21, 5, 42, 180, 0, 3]
abbrev dktX14_spread_0 : List UInt8 := dkwX14_spread_0 ++ dktX14_spread_1
theorem dksX14_spread_0 : cX14_spread.data.toList.drop 0 = dktX14_spread_0 := by decide +kernel
theorem dksX14_spread_1 : cX14_spread.data.toList.drop 23 = dktX14_spread_1 := dk_seg dksX14_spread_0 23 rfl rfl
theorem dksX14_spread_2 : cX14_spread.data.toList.drop 47 = dktX14_spread_2 := dk_seg dksX14_spread_1 24 rfl rfl
theorem dksX14_spread_3 : cX14_spread.data.toList.drop 70 = dktX14_spread_3 := dk_seg dksX14_spread_2 23 rfl rfl
theorem dksX14_spread_4 : cX14_spread.data.toList.drop 94 = dktX14_spread_4 := dk_seg dksX14_spread_3 24 rfl rfl
theorem dX14_spread_0 : decode cX14_spread 0 = .ok (.iconst 1, 1) := dk_4 (dk_at dksX14_spread_0 0 rfl rfl)
theorem dX14_spread_1 : decode cX14_spread 1 = .ok (.iload_n 1, 1) := dk_27 (dk_at dksX14_spread_0 1 rfl rfl)
theorem dX14_spread_2 : decode cX14_spread 2 = .ok (.ishl, 1) := dk_120 (dk_at dksX14_spread_0 2 rfl rfl)
theorem dX14_spread_3 : decode cX14_spread 3 = .ok (.istore_n 3, 1) := dk_62 (dk_at dksX14_spread_0 3 rfl rfl)
theorem dX14_spread_4 : decode cX14_spread 4 = .ok (.iconst 0, 1) := dk_3 (dk_at dksX14_spread_0 4 rfl rfl)
theorem dX14_spread_5 : decode cX14_spread 5 = .ok (.istore 4, 2) := dk_54 4 (dk_at dksX14_spread_0 5 rfl rfl)
theorem dX14_spread_7 : decode cX14_spread 7 = .ok (.iload 4, 2) := dk_21 4 (dk_at dksX14_spread_0 7 rfl rfl)
theorem dX14_spread_9 : decode cX14_spread 9 = .ok (.bipush 8, 2) := dk_16 8 (dk_at dksX14_spread_0 9 rfl rfl)
theorem dX14_spread_11 : decode cX14_spread 11 = .ok (.if_icmp .ge 105, 3) := dk_162 0 105 (dk_at dksX14_spread_0 11 rfl rfl)
theorem dX14_spread_14 : decode cX14_spread 14 = .ok (.iconst 0, 1) := dk_3 (dk_at dksX14_spread_0 14 rfl rfl)
theorem dX14_spread_15 : decode cX14_spread 15 = .ok (.istore 5, 2) := dk_54 5 (dk_at dksX14_spread_0 15 rfl rfl)
theorem dX14_spread_17 : decode cX14_spread 17 = .ok (.iload 5, 2) := dk_21 5 (dk_at dksX14_spread_0 17 rfl rfl)
theorem dX14_spread_19 : decode cX14_spread 19 = .ok (.aload_n 0, 1) := dk_42 (dk_at dksX14_spread_0 19 rfl rfl)
theorem dX14_spread_20 : decode cX14_spread 20 = .ok (.getfield 3, 3) := dk_180 0 3 (dk_at dksX14_spread_0 20 rfl rfl)
theorem dX14_spread_23 : decode cX14_spread 23 = .ok (.getfield 35, 3) := dk_180 0 35 (dk_at dksX14_spread_1 0 rfl rfl)
theorem dX14_spread_26 : decode cX14_spread 26 = .ok (.invokevirtual 39, 3) := dk_182 0 39 (dk_at dksX14_spread_1 3 rfl rfl)
theorem dX14_spread_29 : decode cX14_spread 29 = .ok (.if_icmp .ge 81, 3) := dk_162 0 81 (dk_at dksX14_spread_1 6 rfl rfl)
theorem dX14_spread_32 : decode cX14_spread 32 = .ok (.aload_n 0, 1) := dk_42 (dk_at dksX14_spread_1 9 rfl rfl)
theorem dX14_spread_33 : decode cX14_spread 33 = .ok (.getfield 3, 3) := dk_180 0 3 (dk_at dksX14_spread_1 10 rfl rfl)
theorem dX14_spread_36 : decode cX14_spread 36 = .ok (.getfield 35, 3) := dk_180 0 35 (dk_at dksX14_spread_1 13 rfl rfl)
theorem dX14_spread_39 : decode cX14_spread 39 = .ok (.iload 5, 2) := dk_21 5 (dk_at dksX14_spread_1 16 rfl rfl)
theorem dX14_spread_41 : decode cX14_spread 41 = .ok (.invokevirtual 45, 3) := dk_182 0 45 (dk_at dksX14_spread_1 18 rfl rfl)
theorem dX14_spread_44 : decode cX14_spread 44 = .ok (.checkcast 49, 3) := dk_192 0 49 (dk_at dksX14_spread_1 21 rfl rfl)
theorem dX14_spread_47 : decode cX14_spread 47 = .ok (.astore 6, 2) := dk_58 6 (dk_at dksX14_spread_2 0 rfl rfl)
theorem dX14_spread_49 : decode cX14_spread 49 = .ok (.iload_n 2, 1) := dk_28 (dk_at dksX14_spread_2 2 rfl rfl)
theorem dX14_spread_50 : decode cX14_spread 50 = .ok (.ifCond .eq 11, 3) := dk_153 0 11 (dk_at dksX14_spread_2 3 rfl rfl)
theorem dX14_spread_53 : decode cX14_spread 53 = .ok (.aload 6, 2) := dk_25 6 (dk_at dksX14_spread_2 6 rfl rfl)
theorem dX14_spread_55 : decode cX14_spread 55 = .ok (.getfield 51, 3) := dk_180 0 51 (dk_at dksX14_spread_2 8 rfl rfl)
theorem dX14_spread_58 : decode cX14_spread 58 = .ok (.goto 8, 3) := dk_167 0 8 (dk_at dksX14_spread_2 11 rfl rfl)
theorem dX14_spread_61 : decode cX14_spread 61 = .ok (.aload 6, 2) := dk_25 6 (dk_at dksX14_spread_2 14 rfl rfl)
theorem dX14_spread_63 : decode cX14_spread 63 = .ok (.getfield 52, 3) := dk_180 0 52 (dk_at dksX14_spread_2 16 rfl rfl)
theorem dX14_spread_66 : decode cX14_spread 66 = .ok (.istore 7, 2) := dk_54 7 (dk_at dksX14_spread_2 19 rfl rfl)
theorem dX14_spread_68 : decode cX14_spread 68 = .ok (.iload_n 3, 1) := dk_29 (dk_at dksX14_spread_2 21 rfl rfl)
theorem dX14_spread_69 : decode cX14_spread 69 = .ok (.iload_n 3, 1) := dk_29 (dk_at dksX14_spread_2 22 rfl rfl)
theorem dX14_spread_70 : decode cX14_spread 70 = .ok (.iload 7, 2) := dk_21 7 (dk_at dksX14_spread_3 0 rfl rfl)
theorem dX14_spread_72 : decode cX14_spread 72 = .ok (.ishr, 1) := dk_122 (dk_at dksX14_spread_3 2 rfl rfl)
theorem dX14_spread_73 : decode cX14_spread 73 = .ok (.iconst 1, 1) := dk_4 (dk_at dksX14_spread_3 3 rfl rfl)
theorem dX14_spread_74 : decode cX14_spread 74 = .ok (.iand, 1) := dk_126 (dk_at dksX14_spread_3 4 rfl rfl)
theorem dX14_spread_75 : decode cX14_spread 75 = .ok (.iconst 1, 1) := dk_4 (dk_at dksX14_spread_3 5 rfl rfl)
theorem dX14_spread_76 : decode cX14_spread 76 = .ok (.if_icmp .ne 25, 3) := dk_160 0 25 (dk_at dksX14_spread_3 6 rfl rfl)
theorem dX14_spread_79 : decode cX14_spread 79 = .ok (.iconst 1, 1) := dk_4 (dk_at dksX14_spread_3 9 rfl rfl)
theorem dX14_spread_80 : decode cX14_spread 80 = .ok (.iload_n 2, 1) := dk_28 (dk_at dksX14_spread_3 10 rfl rfl)
theorem dX14_spread_81 : decode cX14_spread 81 = .ok (.ifCond .eq 11, 3) := dk_153 0 11 (dk_at dksX14_spread_3 11 rfl rfl)
theorem dX14_spread_84 : decode cX14_spread 84 = .ok (.aload 6, 2) := dk_25 6 (dk_at dksX14_spread_3 14 rfl rfl)
theorem dX14_spread_86 : decode cX14_spread 86 = .ok (.getfield 52, 3) := dk_180 0 52 (dk_at dksX14_spread_3 16 rfl rfl)
theorem dX14_spread_89 : decode cX14_spread 89 = .ok (.goto 8, 3) := dk_167 0 8 (dk_at dksX14_spread_3 19 rfl rfl)
theorem dX14_spread_92 : decode cX14_spread 92 = .ok (.aload 6, 2) := dk_25 6 (dk_at dksX14_spread_3 22 rfl rfl)
theorem dX14_spread_94 : decode cX14_spread 94 = .ok (.getfield 51, 3) := dk_180 0 51 (dk_at dksX14_spread_4 0 rfl rfl)
theorem dX14_spread_97 : decode cX14_spread 97 = .ok (.ishl, 1) := dk_120 (dk_at dksX14_spread_4 3 rfl rfl)
theorem dX14_spread_98 : decode cX14_spread 98 = .ok (.goto 4, 3) := dk_167 0 4 (dk_at dksX14_spread_4 4 rfl rfl)
theorem dX14_spread_101 : decode cX14_spread 101 = .ok (.iconst 0, 1) := dk_3 (dk_at dksX14_spread_4 7 rfl rfl)
theorem dX14_spread_102 : decode cX14_spread 102 = .ok (.ior, 1) := dk_128 (dk_at dksX14_spread_4 8 rfl rfl)
theorem dX14_spread_103 : decode cX14_spread 103 = .ok (.istore_n 3, 1) := dk_62 (dk_at dksX14_spread_4 9 rfl rfl)
theorem dX14_spread_104 : decode cX14_spread 104 = .ok (.iinc 5 1, 3) := dk_132 5 1 (dk_at dksX14_spread_4 10 rfl rfl)
theorem dX14_spread_107 : decode cX14_spread 107 = .ok (.goto (-90), 3) := dk_167 255 166 (dk_at dksX14_spread_4 13 rfl rfl)
theorem dX14_spread_110 : decode cX14_spread 110 = .ok (.iinc 4 1, 3) := dk_132 4 1 (dk_at dksX14_spread_4 16 rfl rfl)
theorem dX14_spread_113 : decode cX14_spread 113 = .ok (.goto (-106), 3) := dk_167 255 150 (dk_at dksX14_spread_4 19 rfl rfl)
theorem dX14_spread_116 : decode cX14_spread 116 = .ok (.iload_n 3, 1) := dk_29 (dk_at dksX14_spread_4 22 rfl rfl)
theorem dX14_spread_117 : decode cX14_spread 117 = .ok (.ireturn, 1) := dk_172 (dk_at dksX14_spread_4 23 rfl rfl)
abbrev cX14_exist : ByteArray := prog_13_method_3_code
def yX14_exist : MethodName := ⟨RX14, "exist", "()Z"⟩
def dkwX14_exist_0 : List UInt8 := [42, 180, 0, 32, 42, 180, 0, 25, 122, 4, 126, 4, 160, 0, 7, 4, 167, 0, 4, 3, 172]
abbrev dktX14_exist_0 : List UInt8 := dkwX14_exist_0 ++ []
theorem dksX14_exist_0 : cX14_exist.data.toList.drop 0 = dktX14_exist_0 := by decide +kernel
theorem dX14_exist_0 : decode cX14_exist 0 = .ok (.aload_n 0, 1) := dk_42 (dk_at dksX14_exist_0 0 rfl rfl)
theorem dX14_exist_1 : decode cX14_exist 1 = .ok (.getfield 32, 3) := dk_180 0 32 (dk_at dksX14_exist_0 1 rfl rfl)
theorem dX14_exist_4 : decode cX14_exist 4 = .ok (.aload_n 0, 1) := dk_42 (dk_at dksX14_exist_0 4 rfl rfl)
theorem dX14_exist_5 : decode cX14_exist 5 = .ok (.getfield 25, 3) := dk_180 0 25 (dk_at dksX14_exist_0 5 rfl rfl)
theorem dX14_exist_8 : decode cX14_exist 8 = .ok (.ishr, 1) := dk_122 (dk_at dksX14_exist_0 8 rfl rfl)
theorem dX14_exist_9 : decode cX14_exist 9 = .ok (.iconst 1, 1) := dk_4 (dk_at dksX14_exist_0 9 rfl rfl)
theorem dX14_exist_10 : decode cX14_exist 10 = .ok (.iand, 1) := dk_126 (dk_at dksX14_exist_0 10 rfl rfl)
theorem dX14_exist_11 : decode cX14_exist 11 = .ok (.iconst 1, 1) := dk_4 (dk_at dksX14_exist_0 11 rfl rfl)
theorem dX14_exist_12 : decode cX14_exist 12 = .ok (.if_icmp .ne 7, 3) := dk_160 0 7 (dk_at dksX14_exist_0 12 rfl rfl)
theorem dX14_exist_15 : decode cX14_exist 15 = .ok (.iconst 1, 1) := dk_4 (dk_at dksX14_exist_0 15 rfl rfl)
theorem dX14_exist_16 : decode cX14_exist 16 = .ok (.goto 4, 3) := dk_167 0 4 (dk_at dksX14_exist_0 16 rfl rfl)
theorem dX14_exist_19 : decode cX14_exist 19 = .ok (.iconst 0, 1) := dk_3 (dk_at dksX14_exist_0 19 rfl rfl)
theorem dX14_exist_20 : decode cX14_exist 20 = .ok (.ireturn, 1) := dk_172 (dk_at dksX14_exist_0 20 rfl rfl)
abbrev cX14_isUnbounded : ByteArray := prog_13_method_7_code
def yX14_isUnbounded : MethodName := ⟨RX14, "isUnbounded", "(LRatioGraph$Fraction;)Z"⟩
def dkwX14_isUnbounded_8 : List UInt8 := [167, 255, 95, 132, 4, 1, 167, 255, 73, 29, 172]
abbrev dktX14_isUnbounded_8 : List UInt8 := dkwX14_isUnbounded_8 ++ []
def dkwX14_isUnbounded_7 : List UInt8 := [153, 0, 8, 22, 8, 167, 0, 10, 44, 25, 6, 180, 0, 52, 47, 80, 29, 21, 10, 128, 62, 132, 5, 1]
abbrev dktX14_isUnbounded_7 : List UInt8 := dkwX14_isUnbounded_7 ++ dktX14_isUnbounded_8
def dkwX14_isUnbounded_6 : List UInt8 := [180, 0, 52, 47, 148, 156, 0, 7, 4, 167, 0, 4, 3, 54, 10, 44, 25, 6, 180, 0, 52, 21, 10]
abbrev dktX14_isUnbounded_6 : List UInt8 := dkwX14_isUnbounded_6 ++ dktX14_isUnbounded_7
def dkwX14_isUnbounded_5 : List UInt8 := [180, 0, 86, 25, 6, 180, 0, 67, 133, 105, 97, 55, 8, 21, 7, 153, 0, 20, 22, 8, 44, 25, 6]
abbrev dktX14_isUnbounded_5 : List UInt8 := dkwX14_isUnbounded_5 ++ dktX14_isUnbounded_6
def dkwX14_isUnbounded_4 : List UInt8 := [54, 7, 44, 25, 6, 180, 0, 51, 47, 43, 180, 0, 81, 25, 6, 180, 0, 64, 133, 105, 97, 43]
abbrev dktX14_isUnbounded_4 : List UInt8 := dkwX14_isUnbounded_4 ++ dktX14_isUnbounded_5
def dkwX14_isUnbounded_3 : List UInt8 := [160, 0, 23, 42, 180, 0, 32, 25, 6, 180, 0, 52, 122, 4, 126, 4, 160, 0, 7, 4, 167, 0, 4, 3]
abbrev dktX14_isUnbounded_3 : List UInt8 := dkwX14_isUnbounded_3 ++ dktX14_isUnbounded_4
def dkwX14_isUnbounded_2 : List UInt8 := [21, 5, 182, 0, 45, 192, 0, 49, 58, 6, 42, 180, 0, 32, 25, 6, 180, 0, 51, 122, 4, 126, 4]
abbrev dktX14_isUnbounded_2 : List UInt8 := dkwX14_isUnbounded_2 ++ dktX14_isUnbounded_3
def dkwX14_isUnbounded_1 : List UInt8 := [54, 5, 21, 5, 42, 180, 0, 3, 180, 0, 35, 182, 0, 39, 162, 0, 152, 42, 180, 0, 3, 180, 0, 35]
abbrev dktX14_isUnbounded_1 : List UInt8 := dkwX14_isUnbounded_1 ++ dktX14_isUnbounded_2
def dkwX14_isUnbounded_0 : List UInt8 := [16, 8, 188, 11, 77, 4, 62, 3, 54, 4, 21, 4, 16, 8, 163, 0, 182, 29, 153, 0, 178, 3, 62, 3]
abbrev dktX14_isUnbounded_0 : List UInt8 := dkwX14_isUnbounded_0 ++ dktX14_isUnbounded_1
theorem dksX14_isUnbounded_0 : cX14_isUnbounded.data.toList.drop 0 = dktX14_isUnbounded_0 := by decide +kernel
theorem dksX14_isUnbounded_1 : cX14_isUnbounded.data.toList.drop 24 = dktX14_isUnbounded_1 := dk_seg dksX14_isUnbounded_0 24 rfl rfl
theorem dksX14_isUnbounded_2 : cX14_isUnbounded.data.toList.drop 48 = dktX14_isUnbounded_2 := dk_seg dksX14_isUnbounded_1 24 rfl rfl
theorem dksX14_isUnbounded_3 : cX14_isUnbounded.data.toList.drop 71 = dktX14_isUnbounded_3 := dk_seg dksX14_isUnbounded_2 23 rfl rfl
theorem dksX14_isUnbounded_4 : cX14_isUnbounded.data.toList.drop 95 = dktX14_isUnbounded_4 := dk_seg dksX14_isUnbounded_3 24 rfl rfl
theorem dksX14_isUnbounded_5 : cX14_isUnbounded.data.toList.drop 117 = dktX14_isUnbounded_5 := dk_seg dksX14_isUnbounded_4 22 rfl rfl
theorem dksX14_isUnbounded_6 : cX14_isUnbounded.data.toList.drop 140 = dktX14_isUnbounded_6 := dk_seg dksX14_isUnbounded_5 23 rfl rfl
theorem dksX14_isUnbounded_7 : cX14_isUnbounded.data.toList.drop 163 = dktX14_isUnbounded_7 := dk_seg dksX14_isUnbounded_6 23 rfl rfl
theorem dksX14_isUnbounded_8 : cX14_isUnbounded.data.toList.drop 187 = dktX14_isUnbounded_8 := dk_seg dksX14_isUnbounded_7 24 rfl rfl
theorem dX14_isUnbounded_0 : decode cX14_isUnbounded 0 = .ok (.bipush 8, 2) := dk_16 8 (dk_at dksX14_isUnbounded_0 0 rfl rfl)
theorem dX14_isUnbounded_2 : decode cX14_isUnbounded 2 = .ok (.newarray .long, 2) := dk_188_11 (dk_at dksX14_isUnbounded_0 2 rfl rfl)
theorem dX14_isUnbounded_4 : decode cX14_isUnbounded 4 = .ok (.astore_n 2, 1) := dk_77 (dk_at dksX14_isUnbounded_0 4 rfl rfl)
theorem dX14_isUnbounded_5 : decode cX14_isUnbounded 5 = .ok (.iconst 1, 1) := dk_4 (dk_at dksX14_isUnbounded_0 5 rfl rfl)
theorem dX14_isUnbounded_6 : decode cX14_isUnbounded 6 = .ok (.istore_n 3, 1) := dk_62 (dk_at dksX14_isUnbounded_0 6 rfl rfl)
theorem dX14_isUnbounded_7 : decode cX14_isUnbounded 7 = .ok (.iconst 0, 1) := dk_3 (dk_at dksX14_isUnbounded_0 7 rfl rfl)
theorem dX14_isUnbounded_8 : decode cX14_isUnbounded 8 = .ok (.istore 4, 2) := dk_54 4 (dk_at dksX14_isUnbounded_0 8 rfl rfl)
theorem dX14_isUnbounded_10 : decode cX14_isUnbounded 10 = .ok (.iload 4, 2) := dk_21 4 (dk_at dksX14_isUnbounded_0 10 rfl rfl)
theorem dX14_isUnbounded_12 : decode cX14_isUnbounded 12 = .ok (.bipush 8, 2) := dk_16 8 (dk_at dksX14_isUnbounded_0 12 rfl rfl)
theorem dX14_isUnbounded_14 : decode cX14_isUnbounded 14 = .ok (.if_icmp .gt 182, 3) := dk_163 0 182 (dk_at dksX14_isUnbounded_0 14 rfl rfl)
theorem dX14_isUnbounded_17 : decode cX14_isUnbounded 17 = .ok (.iload_n 3, 1) := dk_29 (dk_at dksX14_isUnbounded_0 17 rfl rfl)
theorem dX14_isUnbounded_18 : decode cX14_isUnbounded 18 = .ok (.ifCond .eq 178, 3) := dk_153 0 178 (dk_at dksX14_isUnbounded_0 18 rfl rfl)
theorem dX14_isUnbounded_21 : decode cX14_isUnbounded 21 = .ok (.iconst 0, 1) := dk_3 (dk_at dksX14_isUnbounded_0 21 rfl rfl)
theorem dX14_isUnbounded_22 : decode cX14_isUnbounded 22 = .ok (.istore_n 3, 1) := dk_62 (dk_at dksX14_isUnbounded_0 22 rfl rfl)
theorem dX14_isUnbounded_23 : decode cX14_isUnbounded 23 = .ok (.iconst 0, 1) := dk_3 (dk_at dksX14_isUnbounded_0 23 rfl rfl)
theorem dX14_isUnbounded_24 : decode cX14_isUnbounded 24 = .ok (.istore 5, 2) := dk_54 5 (dk_at dksX14_isUnbounded_1 0 rfl rfl)
theorem dX14_isUnbounded_26 : decode cX14_isUnbounded 26 = .ok (.iload 5, 2) := dk_21 5 (dk_at dksX14_isUnbounded_1 2 rfl rfl)
theorem dX14_isUnbounded_28 : decode cX14_isUnbounded 28 = .ok (.aload_n 0, 1) := dk_42 (dk_at dksX14_isUnbounded_1 4 rfl rfl)
theorem dX14_isUnbounded_29 : decode cX14_isUnbounded 29 = .ok (.getfield 3, 3) := dk_180 0 3 (dk_at dksX14_isUnbounded_1 5 rfl rfl)
theorem dX14_isUnbounded_32 : decode cX14_isUnbounded 32 = .ok (.getfield 35, 3) := dk_180 0 35 (dk_at dksX14_isUnbounded_1 8 rfl rfl)
theorem dX14_isUnbounded_35 : decode cX14_isUnbounded 35 = .ok (.invokevirtual 39, 3) := dk_182 0 39 (dk_at dksX14_isUnbounded_1 11 rfl rfl)
theorem dX14_isUnbounded_38 : decode cX14_isUnbounded 38 = .ok (.if_icmp .ge 152, 3) := dk_162 0 152 (dk_at dksX14_isUnbounded_1 14 rfl rfl)
theorem dX14_isUnbounded_41 : decode cX14_isUnbounded 41 = .ok (.aload_n 0, 1) := dk_42 (dk_at dksX14_isUnbounded_1 17 rfl rfl)
theorem dX14_isUnbounded_42 : decode cX14_isUnbounded 42 = .ok (.getfield 3, 3) := dk_180 0 3 (dk_at dksX14_isUnbounded_1 18 rfl rfl)
theorem dX14_isUnbounded_45 : decode cX14_isUnbounded 45 = .ok (.getfield 35, 3) := dk_180 0 35 (dk_at dksX14_isUnbounded_1 21 rfl rfl)
theorem dX14_isUnbounded_48 : decode cX14_isUnbounded 48 = .ok (.iload 5, 2) := dk_21 5 (dk_at dksX14_isUnbounded_2 0 rfl rfl)
theorem dX14_isUnbounded_50 : decode cX14_isUnbounded 50 = .ok (.invokevirtual 45, 3) := dk_182 0 45 (dk_at dksX14_isUnbounded_2 2 rfl rfl)
theorem dX14_isUnbounded_53 : decode cX14_isUnbounded 53 = .ok (.checkcast 49, 3) := dk_192 0 49 (dk_at dksX14_isUnbounded_2 5 rfl rfl)
theorem dX14_isUnbounded_56 : decode cX14_isUnbounded 56 = .ok (.astore 6, 2) := dk_58 6 (dk_at dksX14_isUnbounded_2 8 rfl rfl)
theorem dX14_isUnbounded_58 : decode cX14_isUnbounded 58 = .ok (.aload_n 0, 1) := dk_42 (dk_at dksX14_isUnbounded_2 10 rfl rfl)
theorem dX14_isUnbounded_59 : decode cX14_isUnbounded 59 = .ok (.getfield 32, 3) := dk_180 0 32 (dk_at dksX14_isUnbounded_2 11 rfl rfl)
theorem dX14_isUnbounded_62 : decode cX14_isUnbounded 62 = .ok (.aload 6, 2) := dk_25 6 (dk_at dksX14_isUnbounded_2 14 rfl rfl)
theorem dX14_isUnbounded_64 : decode cX14_isUnbounded 64 = .ok (.getfield 51, 3) := dk_180 0 51 (dk_at dksX14_isUnbounded_2 16 rfl rfl)
theorem dX14_isUnbounded_67 : decode cX14_isUnbounded 67 = .ok (.ishr, 1) := dk_122 (dk_at dksX14_isUnbounded_2 19 rfl rfl)
theorem dX14_isUnbounded_68 : decode cX14_isUnbounded 68 = .ok (.iconst 1, 1) := dk_4 (dk_at dksX14_isUnbounded_2 20 rfl rfl)
theorem dX14_isUnbounded_69 : decode cX14_isUnbounded 69 = .ok (.iand, 1) := dk_126 (dk_at dksX14_isUnbounded_2 21 rfl rfl)
theorem dX14_isUnbounded_70 : decode cX14_isUnbounded 70 = .ok (.iconst 1, 1) := dk_4 (dk_at dksX14_isUnbounded_2 22 rfl rfl)
theorem dX14_isUnbounded_71 : decode cX14_isUnbounded 71 = .ok (.if_icmp .ne 23, 3) := dk_160 0 23 (dk_at dksX14_isUnbounded_3 0 rfl rfl)
theorem dX14_isUnbounded_74 : decode cX14_isUnbounded 74 = .ok (.aload_n 0, 1) := dk_42 (dk_at dksX14_isUnbounded_3 3 rfl rfl)
theorem dX14_isUnbounded_75 : decode cX14_isUnbounded 75 = .ok (.getfield 32, 3) := dk_180 0 32 (dk_at dksX14_isUnbounded_3 4 rfl rfl)
theorem dX14_isUnbounded_78 : decode cX14_isUnbounded 78 = .ok (.aload 6, 2) := dk_25 6 (dk_at dksX14_isUnbounded_3 7 rfl rfl)
theorem dX14_isUnbounded_80 : decode cX14_isUnbounded 80 = .ok (.getfield 52, 3) := dk_180 0 52 (dk_at dksX14_isUnbounded_3 9 rfl rfl)
theorem dX14_isUnbounded_83 : decode cX14_isUnbounded 83 = .ok (.ishr, 1) := dk_122 (dk_at dksX14_isUnbounded_3 12 rfl rfl)
theorem dX14_isUnbounded_84 : decode cX14_isUnbounded 84 = .ok (.iconst 1, 1) := dk_4 (dk_at dksX14_isUnbounded_3 13 rfl rfl)
theorem dX14_isUnbounded_85 : decode cX14_isUnbounded 85 = .ok (.iand, 1) := dk_126 (dk_at dksX14_isUnbounded_3 14 rfl rfl)
theorem dX14_isUnbounded_86 : decode cX14_isUnbounded 86 = .ok (.iconst 1, 1) := dk_4 (dk_at dksX14_isUnbounded_3 15 rfl rfl)
theorem dX14_isUnbounded_87 : decode cX14_isUnbounded 87 = .ok (.if_icmp .ne 7, 3) := dk_160 0 7 (dk_at dksX14_isUnbounded_3 16 rfl rfl)
theorem dX14_isUnbounded_90 : decode cX14_isUnbounded 90 = .ok (.iconst 1, 1) := dk_4 (dk_at dksX14_isUnbounded_3 19 rfl rfl)
theorem dX14_isUnbounded_91 : decode cX14_isUnbounded 91 = .ok (.goto 4, 3) := dk_167 0 4 (dk_at dksX14_isUnbounded_3 20 rfl rfl)
theorem dX14_isUnbounded_94 : decode cX14_isUnbounded 94 = .ok (.iconst 0, 1) := dk_3 (dk_at dksX14_isUnbounded_3 23 rfl rfl)
theorem dX14_isUnbounded_95 : decode cX14_isUnbounded 95 = .ok (.istore 7, 2) := dk_54 7 (dk_at dksX14_isUnbounded_4 0 rfl rfl)
theorem dX14_isUnbounded_97 : decode cX14_isUnbounded 97 = .ok (.aload_n 2, 1) := dk_44 (dk_at dksX14_isUnbounded_4 2 rfl rfl)
theorem dX14_isUnbounded_98 : decode cX14_isUnbounded 98 = .ok (.aload 6, 2) := dk_25 6 (dk_at dksX14_isUnbounded_4 3 rfl rfl)
theorem dX14_isUnbounded_100 : decode cX14_isUnbounded 100 = .ok (.getfield 51, 3) := dk_180 0 51 (dk_at dksX14_isUnbounded_4 5 rfl rfl)
theorem dX14_isUnbounded_103 : decode cX14_isUnbounded 103 = .ok (.laload, 1) := dk_47 (dk_at dksX14_isUnbounded_4 8 rfl rfl)
theorem dX14_isUnbounded_104 : decode cX14_isUnbounded 104 = .ok (.aload_n 1, 1) := dk_43 (dk_at dksX14_isUnbounded_4 9 rfl rfl)
theorem dX14_isUnbounded_105 : decode cX14_isUnbounded 105 = .ok (.getfield 81, 3) := dk_180 0 81 (dk_at dksX14_isUnbounded_4 10 rfl rfl)
theorem dX14_isUnbounded_108 : decode cX14_isUnbounded 108 = .ok (.aload 6, 2) := dk_25 6 (dk_at dksX14_isUnbounded_4 13 rfl rfl)
theorem dX14_isUnbounded_110 : decode cX14_isUnbounded 110 = .ok (.getfield 64, 3) := dk_180 0 64 (dk_at dksX14_isUnbounded_4 15 rfl rfl)
theorem dX14_isUnbounded_113 : decode cX14_isUnbounded 113 = .ok (.i2l, 1) := dk_133 (dk_at dksX14_isUnbounded_4 18 rfl rfl)
theorem dX14_isUnbounded_114 : decode cX14_isUnbounded 114 = .ok (.lmul, 1) := dk_105 (dk_at dksX14_isUnbounded_4 19 rfl rfl)
theorem dX14_isUnbounded_115 : decode cX14_isUnbounded 115 = .ok (.ladd, 1) := dk_97 (dk_at dksX14_isUnbounded_4 20 rfl rfl)
theorem dX14_isUnbounded_116 : decode cX14_isUnbounded 116 = .ok (.aload_n 1, 1) := dk_43 (dk_at dksX14_isUnbounded_4 21 rfl rfl)
theorem dX14_isUnbounded_117 : decode cX14_isUnbounded 117 = .ok (.getfield 86, 3) := dk_180 0 86 (dk_at dksX14_isUnbounded_5 0 rfl rfl)
theorem dX14_isUnbounded_120 : decode cX14_isUnbounded 120 = .ok (.aload 6, 2) := dk_25 6 (dk_at dksX14_isUnbounded_5 3 rfl rfl)
theorem dX14_isUnbounded_122 : decode cX14_isUnbounded 122 = .ok (.getfield 67, 3) := dk_180 0 67 (dk_at dksX14_isUnbounded_5 5 rfl rfl)
theorem dX14_isUnbounded_125 : decode cX14_isUnbounded 125 = .ok (.i2l, 1) := dk_133 (dk_at dksX14_isUnbounded_5 8 rfl rfl)
theorem dX14_isUnbounded_126 : decode cX14_isUnbounded 126 = .ok (.lmul, 1) := dk_105 (dk_at dksX14_isUnbounded_5 9 rfl rfl)
theorem dX14_isUnbounded_127 : decode cX14_isUnbounded 127 = .ok (.ladd, 1) := dk_97 (dk_at dksX14_isUnbounded_5 10 rfl rfl)
theorem dX14_isUnbounded_128 : decode cX14_isUnbounded 128 = .ok (.lstore 8, 2) := dk_55 8 (dk_at dksX14_isUnbounded_5 11 rfl rfl)
theorem dX14_isUnbounded_130 : decode cX14_isUnbounded 130 = .ok (.iload 7, 2) := dk_21 7 (dk_at dksX14_isUnbounded_5 13 rfl rfl)
theorem dX14_isUnbounded_132 : decode cX14_isUnbounded 132 = .ok (.ifCond .eq 20, 3) := dk_153 0 20 (dk_at dksX14_isUnbounded_5 15 rfl rfl)
theorem dX14_isUnbounded_135 : decode cX14_isUnbounded 135 = .ok (.lload 8, 2) := dk_22 8 (dk_at dksX14_isUnbounded_5 18 rfl rfl)
theorem dX14_isUnbounded_137 : decode cX14_isUnbounded 137 = .ok (.aload_n 2, 1) := dk_44 (dk_at dksX14_isUnbounded_5 20 rfl rfl)
theorem dX14_isUnbounded_138 : decode cX14_isUnbounded 138 = .ok (.aload 6, 2) := dk_25 6 (dk_at dksX14_isUnbounded_5 21 rfl rfl)
theorem dX14_isUnbounded_140 : decode cX14_isUnbounded 140 = .ok (.getfield 52, 3) := dk_180 0 52 (dk_at dksX14_isUnbounded_6 0 rfl rfl)
theorem dX14_isUnbounded_143 : decode cX14_isUnbounded 143 = .ok (.laload, 1) := dk_47 (dk_at dksX14_isUnbounded_6 3 rfl rfl)
theorem dX14_isUnbounded_144 : decode cX14_isUnbounded 144 = .ok (.lcmp, 1) := dk_148 (dk_at dksX14_isUnbounded_6 4 rfl rfl)
theorem dX14_isUnbounded_145 : decode cX14_isUnbounded 145 = .ok (.ifCond .ge 7, 3) := dk_156 0 7 (dk_at dksX14_isUnbounded_6 5 rfl rfl)
theorem dX14_isUnbounded_148 : decode cX14_isUnbounded 148 = .ok (.iconst 1, 1) := dk_4 (dk_at dksX14_isUnbounded_6 8 rfl rfl)
theorem dX14_isUnbounded_149 : decode cX14_isUnbounded 149 = .ok (.goto 4, 3) := dk_167 0 4 (dk_at dksX14_isUnbounded_6 9 rfl rfl)
theorem dX14_isUnbounded_152 : decode cX14_isUnbounded 152 = .ok (.iconst 0, 1) := dk_3 (dk_at dksX14_isUnbounded_6 12 rfl rfl)
theorem dX14_isUnbounded_153 : decode cX14_isUnbounded 153 = .ok (.istore 10, 2) := dk_54 10 (dk_at dksX14_isUnbounded_6 13 rfl rfl)
theorem dX14_isUnbounded_155 : decode cX14_isUnbounded 155 = .ok (.aload_n 2, 1) := dk_44 (dk_at dksX14_isUnbounded_6 15 rfl rfl)
theorem dX14_isUnbounded_156 : decode cX14_isUnbounded 156 = .ok (.aload 6, 2) := dk_25 6 (dk_at dksX14_isUnbounded_6 16 rfl rfl)
theorem dX14_isUnbounded_158 : decode cX14_isUnbounded 158 = .ok (.getfield 52, 3) := dk_180 0 52 (dk_at dksX14_isUnbounded_6 18 rfl rfl)
theorem dX14_isUnbounded_161 : decode cX14_isUnbounded 161 = .ok (.iload 10, 2) := dk_21 10 (dk_at dksX14_isUnbounded_6 21 rfl rfl)
theorem dX14_isUnbounded_163 : decode cX14_isUnbounded 163 = .ok (.ifCond .eq 8, 3) := dk_153 0 8 (dk_at dksX14_isUnbounded_7 0 rfl rfl)
theorem dX14_isUnbounded_166 : decode cX14_isUnbounded 166 = .ok (.lload 8, 2) := dk_22 8 (dk_at dksX14_isUnbounded_7 3 rfl rfl)
theorem dX14_isUnbounded_168 : decode cX14_isUnbounded 168 = .ok (.goto 10, 3) := dk_167 0 10 (dk_at dksX14_isUnbounded_7 5 rfl rfl)
theorem dX14_isUnbounded_171 : decode cX14_isUnbounded 171 = .ok (.aload_n 2, 1) := dk_44 (dk_at dksX14_isUnbounded_7 8 rfl rfl)
theorem dX14_isUnbounded_172 : decode cX14_isUnbounded 172 = .ok (.aload 6, 2) := dk_25 6 (dk_at dksX14_isUnbounded_7 9 rfl rfl)
theorem dX14_isUnbounded_174 : decode cX14_isUnbounded 174 = .ok (.getfield 52, 3) := dk_180 0 52 (dk_at dksX14_isUnbounded_7 11 rfl rfl)
theorem dX14_isUnbounded_177 : decode cX14_isUnbounded 177 = .ok (.laload, 1) := dk_47 (dk_at dksX14_isUnbounded_7 14 rfl rfl)
theorem dX14_isUnbounded_178 : decode cX14_isUnbounded 178 = .ok (.lastore, 1) := dk_80 (dk_at dksX14_isUnbounded_7 15 rfl rfl)
theorem dX14_isUnbounded_179 : decode cX14_isUnbounded 179 = .ok (.iload_n 3, 1) := dk_29 (dk_at dksX14_isUnbounded_7 16 rfl rfl)
theorem dX14_isUnbounded_180 : decode cX14_isUnbounded 180 = .ok (.iload 10, 2) := dk_21 10 (dk_at dksX14_isUnbounded_7 17 rfl rfl)
theorem dX14_isUnbounded_182 : decode cX14_isUnbounded 182 = .ok (.ior, 1) := dk_128 (dk_at dksX14_isUnbounded_7 19 rfl rfl)
theorem dX14_isUnbounded_183 : decode cX14_isUnbounded 183 = .ok (.istore_n 3, 1) := dk_62 (dk_at dksX14_isUnbounded_7 20 rfl rfl)
theorem dX14_isUnbounded_184 : decode cX14_isUnbounded 184 = .ok (.iinc 5 1, 3) := dk_132 5 1 (dk_at dksX14_isUnbounded_7 21 rfl rfl)
theorem dX14_isUnbounded_187 : decode cX14_isUnbounded 187 = .ok (.goto (-161), 3) := dk_167 255 95 (dk_at dksX14_isUnbounded_8 0 rfl rfl)
theorem dX14_isUnbounded_190 : decode cX14_isUnbounded 190 = .ok (.iinc 4 1, 3) := dk_132 4 1 (dk_at dksX14_isUnbounded_8 3 rfl rfl)
theorem dX14_isUnbounded_193 : decode cX14_isUnbounded 193 = .ok (.goto (-183), 3) := dk_167 255 73 (dk_at dksX14_isUnbounded_8 6 rfl rfl)
theorem dX14_isUnbounded_196 : decode cX14_isUnbounded 196 = .ok (.iload_n 3, 1) := dk_29 (dk_at dksX14_isUnbounded_8 9 rfl rfl)
theorem dX14_isUnbounded_197 : decode cX14_isUnbounded 197 = .ok (.ireturn, 1) := dk_172 (dk_at dksX14_isUnbounded_8 10 rfl rfl)
abbrev cX14_length : ByteArray := prog_13_method_8_code
def yX14_length : MethodName := ⟨RX14, "length", "(LRatioGraph$Fraction;)J"⟩
def dkwX14_length_7 : List UInt8 := [132, 4, 1, 167, 255, 137, 132, 3, 1, 167, 255, 122, 44, 42, 180, 0, 25, 47, 173]
abbrev dktX14_length_7 : List UInt8 := dkwX14_length_7 ++ []
def dkwX14_length_6 : List UInt8 := [25, 5, 180, 0, 67, 133, 105, 97, 184, 0, 91, 167, 0, 10, 44, 25, 5, 180, 0, 52, 47, 80]
abbrev dktX14_length_6 : List UInt8 := dkwX14_length_6 ++ dktX14_length_7
def dkwX14_length_5 : List UInt8 := [44, 25, 5, 180, 0, 51, 47, 43, 180, 0, 81, 25, 5, 180, 0, 64, 133, 105, 97, 43, 180, 0, 86]
abbrev dktX14_length_5 : List UInt8 := dkwX14_length_5 ++ dktX14_length_6
def dkwX14_length_4 : List UInt8 := [167, 0, 4, 3, 54, 6, 44, 25, 5, 180, 0, 52, 21, 6, 153, 0, 47, 44, 25, 5, 180, 0, 52, 47]
abbrev dktX14_length_4 : List UInt8 := dkwX14_length_4 ++ dktX14_length_5
def dkwX14_length_3 : List UInt8 := [182, 0, 45, 192, 0, 49, 58, 5, 44, 25, 5, 180, 0, 51, 47, 20, 0, 89, 148, 156, 0, 7, 4]
abbrev dktX14_length_3 : List UInt8 := dkwX14_length_3 ++ dktX14_length_4
def dkwX14_length_2 : List UInt8 := [21, 4, 42, 180, 0, 3, 180, 0, 35, 182, 0, 39, 162, 0, 110, 42, 180, 0, 3, 180, 0, 35, 21, 4]
abbrev dktX14_length_2 : List UInt8 := dkwX14_length_2 ++ dktX14_length_3
def dkwX14_length_1 : List UInt8 := [167, 0, 6, 20, 0, 89, 80, 132, 3, 1, 167, 255, 229, 3, 62, 29, 16, 8, 162, 0, 134, 3, 54, 4]
abbrev dktX14_length_1 : List UInt8 := dkwX14_length_1 ++ dktX14_length_2
def dkwX14_length_0 : List UInt8 := [16, 8, 188, 11, 77, 3, 62, 29, 16, 8, 162, 0, 27, 44, 29, 29, 42, 180, 0, 21, 160, 0, 7, 9]
abbrev dktX14_length_0 : List UInt8 := dkwX14_length_0 ++ dktX14_length_1
theorem dksX14_length_0 : cX14_length.data.toList.drop 0 = dktX14_length_0 := by decide +kernel
theorem dksX14_length_1 : cX14_length.data.toList.drop 24 = dktX14_length_1 := dk_seg dksX14_length_0 24 rfl rfl
theorem dksX14_length_2 : cX14_length.data.toList.drop 48 = dktX14_length_2 := dk_seg dksX14_length_1 24 rfl rfl
theorem dksX14_length_3 : cX14_length.data.toList.drop 72 = dktX14_length_3 := dk_seg dksX14_length_2 24 rfl rfl
theorem dksX14_length_4 : cX14_length.data.toList.drop 95 = dktX14_length_4 := dk_seg dksX14_length_3 23 rfl rfl
theorem dksX14_length_5 : cX14_length.data.toList.drop 119 = dktX14_length_5 := dk_seg dksX14_length_4 24 rfl rfl
theorem dksX14_length_6 : cX14_length.data.toList.drop 142 = dktX14_length_6 := dk_seg dksX14_length_5 23 rfl rfl
theorem dksX14_length_7 : cX14_length.data.toList.drop 164 = dktX14_length_7 := dk_seg dksX14_length_6 22 rfl rfl
theorem dX14_length_0 : decode cX14_length 0 = .ok (.bipush 8, 2) := dk_16 8 (dk_at dksX14_length_0 0 rfl rfl)
theorem dX14_length_2 : decode cX14_length 2 = .ok (.newarray .long, 2) := dk_188_11 (dk_at dksX14_length_0 2 rfl rfl)
theorem dX14_length_4 : decode cX14_length 4 = .ok (.astore_n 2, 1) := dk_77 (dk_at dksX14_length_0 4 rfl rfl)
theorem dX14_length_5 : decode cX14_length 5 = .ok (.iconst 0, 1) := dk_3 (dk_at dksX14_length_0 5 rfl rfl)
theorem dX14_length_6 : decode cX14_length 6 = .ok (.istore_n 3, 1) := dk_62 (dk_at dksX14_length_0 6 rfl rfl)
theorem dX14_length_7 : decode cX14_length 7 = .ok (.iload_n 3, 1) := dk_29 (dk_at dksX14_length_0 7 rfl rfl)
theorem dX14_length_8 : decode cX14_length 8 = .ok (.bipush 8, 2) := dk_16 8 (dk_at dksX14_length_0 8 rfl rfl)
theorem dX14_length_10 : decode cX14_length 10 = .ok (.if_icmp .ge 27, 3) := dk_162 0 27 (dk_at dksX14_length_0 10 rfl rfl)
theorem dX14_length_13 : decode cX14_length 13 = .ok (.aload_n 2, 1) := dk_44 (dk_at dksX14_length_0 13 rfl rfl)
theorem dX14_length_14 : decode cX14_length 14 = .ok (.iload_n 3, 1) := dk_29 (dk_at dksX14_length_0 14 rfl rfl)
theorem dX14_length_15 : decode cX14_length 15 = .ok (.iload_n 3, 1) := dk_29 (dk_at dksX14_length_0 15 rfl rfl)
theorem dX14_length_16 : decode cX14_length 16 = .ok (.aload_n 0, 1) := dk_42 (dk_at dksX14_length_0 16 rfl rfl)
theorem dX14_length_17 : decode cX14_length 17 = .ok (.getfield 21, 3) := dk_180 0 21 (dk_at dksX14_length_0 17 rfl rfl)
theorem dX14_length_20 : decode cX14_length 20 = .ok (.if_icmp .ne 7, 3) := dk_160 0 7 (dk_at dksX14_length_0 20 rfl rfl)
theorem dX14_length_23 : decode cX14_length 23 = .ok (.lconst 0, 1) := dk_9 (dk_at dksX14_length_0 23 rfl rfl)
theorem dX14_length_24 : decode cX14_length 24 = .ok (.goto 6, 3) := dk_167 0 6 (dk_at dksX14_length_1 0 rfl rfl)
theorem dX14_length_27 : decode cX14_length 27 = .ok (.ldc2_w 89, 3) := dk_20 0 89 (dk_at dksX14_length_1 3 rfl rfl)
theorem dX14_length_30 : decode cX14_length 30 = .ok (.lastore, 1) := dk_80 (dk_at dksX14_length_1 6 rfl rfl)
theorem dX14_length_31 : decode cX14_length 31 = .ok (.iinc 3 1, 3) := dk_132 3 1 (dk_at dksX14_length_1 7 rfl rfl)
theorem dX14_length_34 : decode cX14_length 34 = .ok (.goto (-27), 3) := dk_167 255 229 (dk_at dksX14_length_1 10 rfl rfl)
theorem dX14_length_37 : decode cX14_length 37 = .ok (.iconst 0, 1) := dk_3 (dk_at dksX14_length_1 13 rfl rfl)
theorem dX14_length_38 : decode cX14_length 38 = .ok (.istore_n 3, 1) := dk_62 (dk_at dksX14_length_1 14 rfl rfl)
theorem dX14_length_39 : decode cX14_length 39 = .ok (.iload_n 3, 1) := dk_29 (dk_at dksX14_length_1 15 rfl rfl)
theorem dX14_length_40 : decode cX14_length 40 = .ok (.bipush 8, 2) := dk_16 8 (dk_at dksX14_length_1 16 rfl rfl)
theorem dX14_length_42 : decode cX14_length 42 = .ok (.if_icmp .ge 134, 3) := dk_162 0 134 (dk_at dksX14_length_1 18 rfl rfl)
theorem dX14_length_45 : decode cX14_length 45 = .ok (.iconst 0, 1) := dk_3 (dk_at dksX14_length_1 21 rfl rfl)
theorem dX14_length_46 : decode cX14_length 46 = .ok (.istore 4, 2) := dk_54 4 (dk_at dksX14_length_1 22 rfl rfl)
theorem dX14_length_48 : decode cX14_length 48 = .ok (.iload 4, 2) := dk_21 4 (dk_at dksX14_length_2 0 rfl rfl)
theorem dX14_length_50 : decode cX14_length 50 = .ok (.aload_n 0, 1) := dk_42 (dk_at dksX14_length_2 2 rfl rfl)
theorem dX14_length_51 : decode cX14_length 51 = .ok (.getfield 3, 3) := dk_180 0 3 (dk_at dksX14_length_2 3 rfl rfl)
theorem dX14_length_54 : decode cX14_length 54 = .ok (.getfield 35, 3) := dk_180 0 35 (dk_at dksX14_length_2 6 rfl rfl)
theorem dX14_length_57 : decode cX14_length 57 = .ok (.invokevirtual 39, 3) := dk_182 0 39 (dk_at dksX14_length_2 9 rfl rfl)
theorem dX14_length_60 : decode cX14_length 60 = .ok (.if_icmp .ge 110, 3) := dk_162 0 110 (dk_at dksX14_length_2 12 rfl rfl)
theorem dX14_length_63 : decode cX14_length 63 = .ok (.aload_n 0, 1) := dk_42 (dk_at dksX14_length_2 15 rfl rfl)
theorem dX14_length_64 : decode cX14_length 64 = .ok (.getfield 3, 3) := dk_180 0 3 (dk_at dksX14_length_2 16 rfl rfl)
theorem dX14_length_67 : decode cX14_length 67 = .ok (.getfield 35, 3) := dk_180 0 35 (dk_at dksX14_length_2 19 rfl rfl)
theorem dX14_length_70 : decode cX14_length 70 = .ok (.iload 4, 2) := dk_21 4 (dk_at dksX14_length_2 22 rfl rfl)
theorem dX14_length_72 : decode cX14_length 72 = .ok (.invokevirtual 45, 3) := dk_182 0 45 (dk_at dksX14_length_3 0 rfl rfl)
theorem dX14_length_75 : decode cX14_length 75 = .ok (.checkcast 49, 3) := dk_192 0 49 (dk_at dksX14_length_3 3 rfl rfl)
theorem dX14_length_78 : decode cX14_length 78 = .ok (.astore 5, 2) := dk_58 5 (dk_at dksX14_length_3 6 rfl rfl)
theorem dX14_length_80 : decode cX14_length 80 = .ok (.aload_n 2, 1) := dk_44 (dk_at dksX14_length_3 8 rfl rfl)
theorem dX14_length_81 : decode cX14_length 81 = .ok (.aload 5, 2) := dk_25 5 (dk_at dksX14_length_3 9 rfl rfl)
theorem dX14_length_83 : decode cX14_length 83 = .ok (.getfield 51, 3) := dk_180 0 51 (dk_at dksX14_length_3 11 rfl rfl)
theorem dX14_length_86 : decode cX14_length 86 = .ok (.laload, 1) := dk_47 (dk_at dksX14_length_3 14 rfl rfl)
theorem dX14_length_87 : decode cX14_length 87 = .ok (.ldc2_w 89, 3) := dk_20 0 89 (dk_at dksX14_length_3 15 rfl rfl)
theorem dX14_length_90 : decode cX14_length 90 = .ok (.lcmp, 1) := dk_148 (dk_at dksX14_length_3 18 rfl rfl)
theorem dX14_length_91 : decode cX14_length 91 = .ok (.ifCond .ge 7, 3) := dk_156 0 7 (dk_at dksX14_length_3 19 rfl rfl)
theorem dX14_length_94 : decode cX14_length 94 = .ok (.iconst 1, 1) := dk_4 (dk_at dksX14_length_3 22 rfl rfl)
theorem dX14_length_95 : decode cX14_length 95 = .ok (.goto 4, 3) := dk_167 0 4 (dk_at dksX14_length_4 0 rfl rfl)
theorem dX14_length_98 : decode cX14_length 98 = .ok (.iconst 0, 1) := dk_3 (dk_at dksX14_length_4 3 rfl rfl)
theorem dX14_length_99 : decode cX14_length 99 = .ok (.istore 6, 2) := dk_54 6 (dk_at dksX14_length_4 4 rfl rfl)
theorem dX14_length_101 : decode cX14_length 101 = .ok (.aload_n 2, 1) := dk_44 (dk_at dksX14_length_4 6 rfl rfl)
theorem dX14_length_102 : decode cX14_length 102 = .ok (.aload 5, 2) := dk_25 5 (dk_at dksX14_length_4 7 rfl rfl)
theorem dX14_length_104 : decode cX14_length 104 = .ok (.getfield 52, 3) := dk_180 0 52 (dk_at dksX14_length_4 9 rfl rfl)
theorem dX14_length_107 : decode cX14_length 107 = .ok (.iload 6, 2) := dk_21 6 (dk_at dksX14_length_4 12 rfl rfl)
theorem dX14_length_109 : decode cX14_length 109 = .ok (.ifCond .eq 47, 3) := dk_153 0 47 (dk_at dksX14_length_4 14 rfl rfl)
theorem dX14_length_112 : decode cX14_length 112 = .ok (.aload_n 2, 1) := dk_44 (dk_at dksX14_length_4 17 rfl rfl)
theorem dX14_length_113 : decode cX14_length 113 = .ok (.aload 5, 2) := dk_25 5 (dk_at dksX14_length_4 18 rfl rfl)
theorem dX14_length_115 : decode cX14_length 115 = .ok (.getfield 52, 3) := dk_180 0 52 (dk_at dksX14_length_4 20 rfl rfl)
theorem dX14_length_118 : decode cX14_length 118 = .ok (.laload, 1) := dk_47 (dk_at dksX14_length_4 23 rfl rfl)
theorem dX14_length_119 : decode cX14_length 119 = .ok (.aload_n 2, 1) := dk_44 (dk_at dksX14_length_5 0 rfl rfl)
theorem dX14_length_120 : decode cX14_length 120 = .ok (.aload 5, 2) := dk_25 5 (dk_at dksX14_length_5 1 rfl rfl)
theorem dX14_length_122 : decode cX14_length 122 = .ok (.getfield 51, 3) := dk_180 0 51 (dk_at dksX14_length_5 3 rfl rfl)
theorem dX14_length_125 : decode cX14_length 125 = .ok (.laload, 1) := dk_47 (dk_at dksX14_length_5 6 rfl rfl)
theorem dX14_length_126 : decode cX14_length 126 = .ok (.aload_n 1, 1) := dk_43 (dk_at dksX14_length_5 7 rfl rfl)
theorem dX14_length_127 : decode cX14_length 127 = .ok (.getfield 81, 3) := dk_180 0 81 (dk_at dksX14_length_5 8 rfl rfl)
theorem dX14_length_130 : decode cX14_length 130 = .ok (.aload 5, 2) := dk_25 5 (dk_at dksX14_length_5 11 rfl rfl)
theorem dX14_length_132 : decode cX14_length 132 = .ok (.getfield 64, 3) := dk_180 0 64 (dk_at dksX14_length_5 13 rfl rfl)
theorem dX14_length_135 : decode cX14_length 135 = .ok (.i2l, 1) := dk_133 (dk_at dksX14_length_5 16 rfl rfl)
theorem dX14_length_136 : decode cX14_length 136 = .ok (.lmul, 1) := dk_105 (dk_at dksX14_length_5 17 rfl rfl)
theorem dX14_length_137 : decode cX14_length 137 = .ok (.ladd, 1) := dk_97 (dk_at dksX14_length_5 18 rfl rfl)
theorem dX14_length_138 : decode cX14_length 138 = .ok (.aload_n 1, 1) := dk_43 (dk_at dksX14_length_5 19 rfl rfl)
theorem dX14_length_139 : decode cX14_length 139 = .ok (.getfield 86, 3) := dk_180 0 86 (dk_at dksX14_length_5 20 rfl rfl)
theorem dX14_length_142 : decode cX14_length 142 = .ok (.aload 5, 2) := dk_25 5 (dk_at dksX14_length_6 0 rfl rfl)
theorem dX14_length_144 : decode cX14_length 144 = .ok (.getfield 67, 3) := dk_180 0 67 (dk_at dksX14_length_6 2 rfl rfl)
theorem dX14_length_147 : decode cX14_length 147 = .ok (.i2l, 1) := dk_133 (dk_at dksX14_length_6 5 rfl rfl)
theorem dX14_length_148 : decode cX14_length 148 = .ok (.lmul, 1) := dk_105 (dk_at dksX14_length_6 6 rfl rfl)
theorem dX14_length_149 : decode cX14_length 149 = .ok (.ladd, 1) := dk_97 (dk_at dksX14_length_6 7 rfl rfl)
theorem dX14_length_150 : decode cX14_length 150 = .ok (.invokestatic 91, 3) := dk_184 0 91 (dk_at dksX14_length_6 8 rfl rfl)
theorem dX14_length_153 : decode cX14_length 153 = .ok (.goto 10, 3) := dk_167 0 10 (dk_at dksX14_length_6 11 rfl rfl)
theorem dX14_length_156 : decode cX14_length 156 = .ok (.aload_n 2, 1) := dk_44 (dk_at dksX14_length_6 14 rfl rfl)
theorem dX14_length_157 : decode cX14_length 157 = .ok (.aload 5, 2) := dk_25 5 (dk_at dksX14_length_6 15 rfl rfl)
theorem dX14_length_159 : decode cX14_length 159 = .ok (.getfield 52, 3) := dk_180 0 52 (dk_at dksX14_length_6 17 rfl rfl)
theorem dX14_length_162 : decode cX14_length 162 = .ok (.laload, 1) := dk_47 (dk_at dksX14_length_6 20 rfl rfl)
theorem dX14_length_163 : decode cX14_length 163 = .ok (.lastore, 1) := dk_80 (dk_at dksX14_length_6 21 rfl rfl)
theorem dX14_length_164 : decode cX14_length 164 = .ok (.iinc 4 1, 3) := dk_132 4 1 (dk_at dksX14_length_7 0 rfl rfl)
theorem dX14_length_167 : decode cX14_length 167 = .ok (.goto (-119), 3) := dk_167 255 137 (dk_at dksX14_length_7 3 rfl rfl)
theorem dX14_length_170 : decode cX14_length 170 = .ok (.iinc 3 1, 3) := dk_132 3 1 (dk_at dksX14_length_7 6 rfl rfl)
theorem dX14_length_173 : decode cX14_length 173 = .ok (.goto (-134), 3) := dk_167 255 122 (dk_at dksX14_length_7 9 rfl rfl)
theorem dX14_length_176 : decode cX14_length 176 = .ok (.aload_n 2, 1) := dk_44 (dk_at dksX14_length_7 12 rfl rfl)
theorem dX14_length_177 : decode cX14_length 177 = .ok (.aload_n 0, 1) := dk_42 (dk_at dksX14_length_7 13 rfl rfl)
theorem dX14_length_178 : decode cX14_length 178 = .ok (.getfield 25, 3) := dk_180 0 25 (dk_at dksX14_length_7 14 rfl rfl)
theorem dX14_length_181 : decode cX14_length 181 = .ok (.laload, 1) := dk_47 (dk_at dksX14_length_7 17 rfl rfl)
theorem dX14_length_182 : decode cX14_length 182 = .ok (.lreturn, 1) := dk_173 (dk_at dksX14_length_7 18 rfl rfl)
abbrev cX14_least : ByteArray := prog_13_method_6_code
def yX14_least : MethodName := ⟨RX14, "least", "(LRatioGraph$Fraction;Z)LRatioGraph$Line;"⟩
def dkwX14_least_3 : List UInt8 := [153, 0, 7, 1, 167, 0, 12, 42, 180, 0, 17, 42, 180, 0, 25, 50, 176]
abbrev dktX14_least_3 : List UInt8 := dkwX14_least_3 ++ []
def dkwX14_least_2 : List UInt8 := [16, 8, 163, 0, 20, 29, 153, 0, 16, 42, 43, 28, 182, 0, 77, 62, 132, 4, 1, 167, 255, 235, 29]
abbrev dktX14_least_2 : List UInt8 := dkwX14_least_2 ++ dktX14_least_3
def dkwX14_least_1 : List UInt8 := [180, 0, 17, 42, 180, 0, 21, 187, 0, 15, 89, 9, 9, 183, 0, 70, 83, 4, 62, 3, 54, 4, 21, 4]
abbrev dktX14_least_1 : List UInt8 := dkwX14_least_1 ++ dktX14_least_2
def dkwX14_least_0 : List UInt8 := [3, 62, 29, 16, 8, 162, 0, 16, 42, 180, 0, 17, 29, 1, 83, 132, 3, 1, 167, 255, 240, 42]
abbrev dktX14_least_0 : List UInt8 := dkwX14_least_0 ++ dktX14_least_1
theorem dksX14_least_0 : cX14_least.data.toList.drop 0 = dktX14_least_0 := by decide +kernel
theorem dksX14_least_1 : cX14_least.data.toList.drop 22 = dktX14_least_1 := dk_seg dksX14_least_0 22 rfl rfl
theorem dksX14_least_2 : cX14_least.data.toList.drop 46 = dktX14_least_2 := dk_seg dksX14_least_1 24 rfl rfl
theorem dksX14_least_3 : cX14_least.data.toList.drop 69 = dktX14_least_3 := dk_seg dksX14_least_2 23 rfl rfl
theorem dX14_least_0 : decode cX14_least 0 = .ok (.iconst 0, 1) := dk_3 (dk_at dksX14_least_0 0 rfl rfl)
theorem dX14_least_1 : decode cX14_least 1 = .ok (.istore_n 3, 1) := dk_62 (dk_at dksX14_least_0 1 rfl rfl)
theorem dX14_least_2 : decode cX14_least 2 = .ok (.iload_n 3, 1) := dk_29 (dk_at dksX14_least_0 2 rfl rfl)
theorem dX14_least_3 : decode cX14_least 3 = .ok (.bipush 8, 2) := dk_16 8 (dk_at dksX14_least_0 3 rfl rfl)
theorem dX14_least_5 : decode cX14_least 5 = .ok (.if_icmp .ge 16, 3) := dk_162 0 16 (dk_at dksX14_least_0 5 rfl rfl)
theorem dX14_least_8 : decode cX14_least 8 = .ok (.aload_n 0, 1) := dk_42 (dk_at dksX14_least_0 8 rfl rfl)
theorem dX14_least_9 : decode cX14_least 9 = .ok (.getfield 17, 3) := dk_180 0 17 (dk_at dksX14_least_0 9 rfl rfl)
theorem dX14_least_12 : decode cX14_least 12 = .ok (.iload_n 3, 1) := dk_29 (dk_at dksX14_least_0 12 rfl rfl)
theorem dX14_least_13 : decode cX14_least 13 = .ok (.aconst_null, 1) := dk_1 (dk_at dksX14_least_0 13 rfl rfl)
theorem dX14_least_14 : decode cX14_least 14 = .ok (.aastore, 1) := dk_83 (dk_at dksX14_least_0 14 rfl rfl)
theorem dX14_least_15 : decode cX14_least 15 = .ok (.iinc 3 1, 3) := dk_132 3 1 (dk_at dksX14_least_0 15 rfl rfl)
theorem dX14_least_18 : decode cX14_least 18 = .ok (.goto (-16), 3) := dk_167 255 240 (dk_at dksX14_least_0 18 rfl rfl)
theorem dX14_least_21 : decode cX14_least 21 = .ok (.aload_n 0, 1) := dk_42 (dk_at dksX14_least_0 21 rfl rfl)
theorem dX14_least_22 : decode cX14_least 22 = .ok (.getfield 17, 3) := dk_180 0 17 (dk_at dksX14_least_1 0 rfl rfl)
theorem dX14_least_25 : decode cX14_least 25 = .ok (.aload_n 0, 1) := dk_42 (dk_at dksX14_least_1 3 rfl rfl)
theorem dX14_least_26 : decode cX14_least 26 = .ok (.getfield 21, 3) := dk_180 0 21 (dk_at dksX14_least_1 4 rfl rfl)
theorem dX14_least_29 : decode cX14_least 29 = .ok (.new 15, 3) := dk_187 0 15 (dk_at dksX14_least_1 7 rfl rfl)
theorem dX14_least_32 : decode cX14_least 32 = .ok (.dup, 1) := dk_89 (dk_at dksX14_least_1 10 rfl rfl)
theorem dX14_least_33 : decode cX14_least 33 = .ok (.lconst 0, 1) := dk_9 (dk_at dksX14_least_1 11 rfl rfl)
theorem dX14_least_34 : decode cX14_least 34 = .ok (.lconst 0, 1) := dk_9 (dk_at dksX14_least_1 12 rfl rfl)
theorem dX14_least_35 : decode cX14_least 35 = .ok (.invokespecial 70, 3) := dk_183 0 70 (dk_at dksX14_least_1 13 rfl rfl)
theorem dX14_least_38 : decode cX14_least 38 = .ok (.aastore, 1) := dk_83 (dk_at dksX14_least_1 16 rfl rfl)
theorem dX14_least_39 : decode cX14_least 39 = .ok (.iconst 1, 1) := dk_4 (dk_at dksX14_least_1 17 rfl rfl)
theorem dX14_least_40 : decode cX14_least 40 = .ok (.istore_n 3, 1) := dk_62 (dk_at dksX14_least_1 18 rfl rfl)
theorem dX14_least_41 : decode cX14_least 41 = .ok (.iconst 0, 1) := dk_3 (dk_at dksX14_least_1 19 rfl rfl)
theorem dX14_least_42 : decode cX14_least 42 = .ok (.istore 4, 2) := dk_54 4 (dk_at dksX14_least_1 20 rfl rfl)
theorem dX14_least_44 : decode cX14_least 44 = .ok (.iload 4, 2) := dk_21 4 (dk_at dksX14_least_1 22 rfl rfl)
theorem dX14_least_46 : decode cX14_least 46 = .ok (.bipush 8, 2) := dk_16 8 (dk_at dksX14_least_2 0 rfl rfl)
theorem dX14_least_48 : decode cX14_least 48 = .ok (.if_icmp .gt 20, 3) := dk_163 0 20 (dk_at dksX14_least_2 2 rfl rfl)
theorem dX14_least_51 : decode cX14_least 51 = .ok (.iload_n 3, 1) := dk_29 (dk_at dksX14_least_2 5 rfl rfl)
theorem dX14_least_52 : decode cX14_least 52 = .ok (.ifCond .eq 16, 3) := dk_153 0 16 (dk_at dksX14_least_2 6 rfl rfl)
theorem dX14_least_55 : decode cX14_least 55 = .ok (.aload_n 0, 1) := dk_42 (dk_at dksX14_least_2 9 rfl rfl)
theorem dX14_least_56 : decode cX14_least 56 = .ok (.aload_n 1, 1) := dk_43 (dk_at dksX14_least_2 10 rfl rfl)
theorem dX14_least_57 : decode cX14_least 57 = .ok (.iload_n 2, 1) := dk_28 (dk_at dksX14_least_2 11 rfl rfl)
theorem dX14_least_58 : decode cX14_least 58 = .ok (.invokevirtual 77, 3) := dk_182 0 77 (dk_at dksX14_least_2 12 rfl rfl)
theorem dX14_least_61 : decode cX14_least 61 = .ok (.istore_n 3, 1) := dk_62 (dk_at dksX14_least_2 15 rfl rfl)
theorem dX14_least_62 : decode cX14_least 62 = .ok (.iinc 4 1, 3) := dk_132 4 1 (dk_at dksX14_least_2 16 rfl rfl)
theorem dX14_least_65 : decode cX14_least 65 = .ok (.goto (-21), 3) := dk_167 255 235 (dk_at dksX14_least_2 19 rfl rfl)
theorem dX14_least_68 : decode cX14_least 68 = .ok (.iload_n 3, 1) := dk_29 (dk_at dksX14_least_2 22 rfl rfl)
theorem dX14_least_69 : decode cX14_least 69 = .ok (.ifCond .eq 7, 3) := dk_153 0 7 (dk_at dksX14_least_3 0 rfl rfl)
theorem dX14_least_72 : decode cX14_least 72 = .ok (.aconst_null, 1) := dk_1 (dk_at dksX14_least_3 3 rfl rfl)
theorem dX14_least_73 : decode cX14_least 73 = .ok (.goto 12, 3) := dk_167 0 12 (dk_at dksX14_least_3 4 rfl rfl)
theorem dX14_least_76 : decode cX14_least 76 = .ok (.aload_n 0, 1) := dk_42 (dk_at dksX14_least_3 7 rfl rfl)
theorem dX14_least_77 : decode cX14_least 77 = .ok (.getfield 17, 3) := dk_180 0 17 (dk_at dksX14_least_3 8 rfl rfl)
theorem dX14_least_80 : decode cX14_least 80 = .ok (.aload_n 0, 1) := dk_42 (dk_at dksX14_least_3 11 rfl rfl)
theorem dX14_least_81 : decode cX14_least 81 = .ok (.getfield 25, 3) := dk_180 0 25 (dk_at dksX14_least_3 12 rfl rfl)
theorem dX14_least_84 : decode cX14_least 84 = .ok (.aaload, 1) := dk_50 (dk_at dksX14_least_3 15 rfl rfl)
theorem dX14_least_85 : decode cX14_least 85 = .ok (.areturn, 1) := dk_176 (dk_at dksX14_least_3 16 rfl rfl)
abbrev cX14_relax : ByteArray := prog_13_method_5_code
def yX14_relax : MethodName := ⟨RX14, "relax", "(LRatioGraph$Fraction;Z)Z"⟩
def dkwX14_relax_9 : List UInt8 := [50, 83, 29, 21, 8, 128, 62, 132, 4, 1, 167, 255, 39, 29, 172]
abbrev dktX14_relax_9 : List UInt8 := dkwX14_relax_9 ++ []
def dkwX14_relax_8 : List UInt8 := [25, 5, 180, 0, 52, 21, 8, 153, 0, 8, 25, 7, 167, 0, 13, 42, 180, 0, 17, 25, 5, 180, 0, 52]
abbrev dktX14_relax_8 : List UInt8 := dkwX14_relax_8 ++ dktX14_relax_9
def dkwX14_relax_7 : List UInt8 := [180, 0, 52, 50, 43, 28, 182, 0, 73, 153, 0, 7, 4, 167, 0, 4, 3, 54, 8, 42, 180, 0, 17]
abbrev dktX14_relax_7 : List UInt8 := dkwX14_relax_7 ++ dktX14_relax_8
def dkwX14_relax_6 : List UInt8 := [58, 7, 42, 180, 0, 17, 25, 5, 180, 0, 52, 50, 198, 0, 24, 42, 25, 7, 42, 180, 0, 17, 25, 5]
abbrev dktX14_relax_6 : List UInt8 := dkwX14_relax_6 ++ dktX14_relax_7
def dkwX14_relax_5 : List UInt8 := [42, 180, 0, 17, 25, 5, 180, 0, 51, 50, 180, 0, 57, 25, 5, 180, 0, 67, 133, 97, 183, 0, 70]
abbrev dktX14_relax_5 : List UInt8 := dkwX14_relax_5 ++ dktX14_relax_6
def dkwX14_relax_4 : List UInt8 := [187, 0, 15, 89, 42, 180, 0, 17, 25, 5, 180, 0, 51, 50, 180, 0, 61, 25, 5, 180, 0, 64, 133, 97]
abbrev dktX14_relax_4 : List UInt8 := dkwX14_relax_4 ++ dktX14_relax_5
def dkwX14_relax_3 : List UInt8 := [167, 0, 4, 3, 54, 6, 21, 6, 153, 0, 141, 42, 180, 0, 17, 25, 5, 180, 0, 51, 50, 198, 0, 128]
abbrev dktX14_relax_3 : List UInt8 := dkwX14_relax_3 ++ dktX14_relax_4
def dkwX14_relax_2 : List UInt8 := [126, 4, 160, 0, 23, 42, 180, 0, 32, 25, 5, 180, 0, 52, 122, 4, 126, 4, 160, 0, 7, 4]
abbrev dktX14_relax_2 : List UInt8 := dkwX14_relax_2 ++ dktX14_relax_3
def dkwX14_relax_1 : List UInt8 := [180, 0, 35, 21, 4, 182, 0, 45, 192, 0, 49, 58, 5, 42, 180, 0, 32, 25, 5, 180, 0, 51, 122, 4]
abbrev dktX14_relax_1 : List UInt8 := dkwX14_relax_1 ++ dktX14_relax_2
def dkwX14_relax_0 : List UInt8 := [3, 62, 3, 54, 4, 21, 4, 42, 180, 0, 3, 180, 0, 35, 182, 0, 39, 162, 0, 208, 42, 180, 0, 3]
abbrev dktX14_relax_0 : List UInt8 := dkwX14_relax_0 ++ dktX14_relax_1
theorem dksX14_relax_0 : cX14_relax.data.toList.drop 0 = dktX14_relax_0 := by decide +kernel
theorem dksX14_relax_1 : cX14_relax.data.toList.drop 24 = dktX14_relax_1 := dk_seg dksX14_relax_0 24 rfl rfl
theorem dksX14_relax_2 : cX14_relax.data.toList.drop 48 = dktX14_relax_2 := dk_seg dksX14_relax_1 24 rfl rfl
theorem dksX14_relax_3 : cX14_relax.data.toList.drop 70 = dktX14_relax_3 := dk_seg dksX14_relax_2 22 rfl rfl
theorem dksX14_relax_4 : cX14_relax.data.toList.drop 94 = dktX14_relax_4 := dk_seg dksX14_relax_3 24 rfl rfl
theorem dksX14_relax_5 : cX14_relax.data.toList.drop 118 = dktX14_relax_5 := dk_seg dksX14_relax_4 24 rfl rfl
theorem dksX14_relax_6 : cX14_relax.data.toList.drop 141 = dktX14_relax_6 := dk_seg dksX14_relax_5 23 rfl rfl
theorem dksX14_relax_7 : cX14_relax.data.toList.drop 165 = dktX14_relax_7 := dk_seg dksX14_relax_6 24 rfl rfl
theorem dksX14_relax_8 : cX14_relax.data.toList.drop 188 = dktX14_relax_8 := dk_seg dksX14_relax_7 23 rfl rfl
theorem dksX14_relax_9 : cX14_relax.data.toList.drop 212 = dktX14_relax_9 := dk_seg dksX14_relax_8 24 rfl rfl
theorem dX14_relax_0 : decode cX14_relax 0 = .ok (.iconst 0, 1) := dk_3 (dk_at dksX14_relax_0 0 rfl rfl)
theorem dX14_relax_1 : decode cX14_relax 1 = .ok (.istore_n 3, 1) := dk_62 (dk_at dksX14_relax_0 1 rfl rfl)
theorem dX14_relax_2 : decode cX14_relax 2 = .ok (.iconst 0, 1) := dk_3 (dk_at dksX14_relax_0 2 rfl rfl)
theorem dX14_relax_3 : decode cX14_relax 3 = .ok (.istore 4, 2) := dk_54 4 (dk_at dksX14_relax_0 3 rfl rfl)
theorem dX14_relax_5 : decode cX14_relax 5 = .ok (.iload 4, 2) := dk_21 4 (dk_at dksX14_relax_0 5 rfl rfl)
theorem dX14_relax_7 : decode cX14_relax 7 = .ok (.aload_n 0, 1) := dk_42 (dk_at dksX14_relax_0 7 rfl rfl)
theorem dX14_relax_8 : decode cX14_relax 8 = .ok (.getfield 3, 3) := dk_180 0 3 (dk_at dksX14_relax_0 8 rfl rfl)
theorem dX14_relax_11 : decode cX14_relax 11 = .ok (.getfield 35, 3) := dk_180 0 35 (dk_at dksX14_relax_0 11 rfl rfl)
theorem dX14_relax_14 : decode cX14_relax 14 = .ok (.invokevirtual 39, 3) := dk_182 0 39 (dk_at dksX14_relax_0 14 rfl rfl)
theorem dX14_relax_17 : decode cX14_relax 17 = .ok (.if_icmp .ge 208, 3) := dk_162 0 208 (dk_at dksX14_relax_0 17 rfl rfl)
theorem dX14_relax_20 : decode cX14_relax 20 = .ok (.aload_n 0, 1) := dk_42 (dk_at dksX14_relax_0 20 rfl rfl)
theorem dX14_relax_21 : decode cX14_relax 21 = .ok (.getfield 3, 3) := dk_180 0 3 (dk_at dksX14_relax_0 21 rfl rfl)
theorem dX14_relax_24 : decode cX14_relax 24 = .ok (.getfield 35, 3) := dk_180 0 35 (dk_at dksX14_relax_1 0 rfl rfl)
theorem dX14_relax_27 : decode cX14_relax 27 = .ok (.iload 4, 2) := dk_21 4 (dk_at dksX14_relax_1 3 rfl rfl)
theorem dX14_relax_29 : decode cX14_relax 29 = .ok (.invokevirtual 45, 3) := dk_182 0 45 (dk_at dksX14_relax_1 5 rfl rfl)
theorem dX14_relax_32 : decode cX14_relax 32 = .ok (.checkcast 49, 3) := dk_192 0 49 (dk_at dksX14_relax_1 8 rfl rfl)
theorem dX14_relax_35 : decode cX14_relax 35 = .ok (.astore 5, 2) := dk_58 5 (dk_at dksX14_relax_1 11 rfl rfl)
theorem dX14_relax_37 : decode cX14_relax 37 = .ok (.aload_n 0, 1) := dk_42 (dk_at dksX14_relax_1 13 rfl rfl)
theorem dX14_relax_38 : decode cX14_relax 38 = .ok (.getfield 32, 3) := dk_180 0 32 (dk_at dksX14_relax_1 14 rfl rfl)
theorem dX14_relax_41 : decode cX14_relax 41 = .ok (.aload 5, 2) := dk_25 5 (dk_at dksX14_relax_1 17 rfl rfl)
theorem dX14_relax_43 : decode cX14_relax 43 = .ok (.getfield 51, 3) := dk_180 0 51 (dk_at dksX14_relax_1 19 rfl rfl)
theorem dX14_relax_46 : decode cX14_relax 46 = .ok (.ishr, 1) := dk_122 (dk_at dksX14_relax_1 22 rfl rfl)
theorem dX14_relax_47 : decode cX14_relax 47 = .ok (.iconst 1, 1) := dk_4 (dk_at dksX14_relax_1 23 rfl rfl)
theorem dX14_relax_48 : decode cX14_relax 48 = .ok (.iand, 1) := dk_126 (dk_at dksX14_relax_2 0 rfl rfl)
theorem dX14_relax_49 : decode cX14_relax 49 = .ok (.iconst 1, 1) := dk_4 (dk_at dksX14_relax_2 1 rfl rfl)
theorem dX14_relax_50 : decode cX14_relax 50 = .ok (.if_icmp .ne 23, 3) := dk_160 0 23 (dk_at dksX14_relax_2 2 rfl rfl)
theorem dX14_relax_53 : decode cX14_relax 53 = .ok (.aload_n 0, 1) := dk_42 (dk_at dksX14_relax_2 5 rfl rfl)
theorem dX14_relax_54 : decode cX14_relax 54 = .ok (.getfield 32, 3) := dk_180 0 32 (dk_at dksX14_relax_2 6 rfl rfl)
theorem dX14_relax_57 : decode cX14_relax 57 = .ok (.aload 5, 2) := dk_25 5 (dk_at dksX14_relax_2 9 rfl rfl)
theorem dX14_relax_59 : decode cX14_relax 59 = .ok (.getfield 52, 3) := dk_180 0 52 (dk_at dksX14_relax_2 11 rfl rfl)
theorem dX14_relax_62 : decode cX14_relax 62 = .ok (.ishr, 1) := dk_122 (dk_at dksX14_relax_2 14 rfl rfl)
theorem dX14_relax_63 : decode cX14_relax 63 = .ok (.iconst 1, 1) := dk_4 (dk_at dksX14_relax_2 15 rfl rfl)
theorem dX14_relax_64 : decode cX14_relax 64 = .ok (.iand, 1) := dk_126 (dk_at dksX14_relax_2 16 rfl rfl)
theorem dX14_relax_65 : decode cX14_relax 65 = .ok (.iconst 1, 1) := dk_4 (dk_at dksX14_relax_2 17 rfl rfl)
theorem dX14_relax_66 : decode cX14_relax 66 = .ok (.if_icmp .ne 7, 3) := dk_160 0 7 (dk_at dksX14_relax_2 18 rfl rfl)
theorem dX14_relax_69 : decode cX14_relax 69 = .ok (.iconst 1, 1) := dk_4 (dk_at dksX14_relax_2 21 rfl rfl)
theorem dX14_relax_70 : decode cX14_relax 70 = .ok (.goto 4, 3) := dk_167 0 4 (dk_at dksX14_relax_3 0 rfl rfl)
theorem dX14_relax_73 : decode cX14_relax 73 = .ok (.iconst 0, 1) := dk_3 (dk_at dksX14_relax_3 3 rfl rfl)
theorem dX14_relax_74 : decode cX14_relax 74 = .ok (.istore 6, 2) := dk_54 6 (dk_at dksX14_relax_3 4 rfl rfl)
theorem dX14_relax_76 : decode cX14_relax 76 = .ok (.iload 6, 2) := dk_21 6 (dk_at dksX14_relax_3 6 rfl rfl)
theorem dX14_relax_78 : decode cX14_relax 78 = .ok (.ifCond .eq 141, 3) := dk_153 0 141 (dk_at dksX14_relax_3 8 rfl rfl)
theorem dX14_relax_81 : decode cX14_relax 81 = .ok (.aload_n 0, 1) := dk_42 (dk_at dksX14_relax_3 11 rfl rfl)
theorem dX14_relax_82 : decode cX14_relax 82 = .ok (.getfield 17, 3) := dk_180 0 17 (dk_at dksX14_relax_3 12 rfl rfl)
theorem dX14_relax_85 : decode cX14_relax 85 = .ok (.aload 5, 2) := dk_25 5 (dk_at dksX14_relax_3 15 rfl rfl)
theorem dX14_relax_87 : decode cX14_relax 87 = .ok (.getfield 51, 3) := dk_180 0 51 (dk_at dksX14_relax_3 17 rfl rfl)
theorem dX14_relax_90 : decode cX14_relax 90 = .ok (.aaload, 1) := dk_50 (dk_at dksX14_relax_3 20 rfl rfl)
theorem dX14_relax_91 : decode cX14_relax 91 = .ok (.ifnull 128, 3) := dk_198 0 128 (dk_at dksX14_relax_3 21 rfl rfl)
theorem dX14_relax_94 : decode cX14_relax 94 = .ok (.new 15, 3) := dk_187 0 15 (dk_at dksX14_relax_4 0 rfl rfl)
theorem dX14_relax_97 : decode cX14_relax 97 = .ok (.dup, 1) := dk_89 (dk_at dksX14_relax_4 3 rfl rfl)
theorem dX14_relax_98 : decode cX14_relax 98 = .ok (.aload_n 0, 1) := dk_42 (dk_at dksX14_relax_4 4 rfl rfl)
theorem dX14_relax_99 : decode cX14_relax 99 = .ok (.getfield 17, 3) := dk_180 0 17 (dk_at dksX14_relax_4 5 rfl rfl)
theorem dX14_relax_102 : decode cX14_relax 102 = .ok (.aload 5, 2) := dk_25 5 (dk_at dksX14_relax_4 8 rfl rfl)
theorem dX14_relax_104 : decode cX14_relax 104 = .ok (.getfield 51, 3) := dk_180 0 51 (dk_at dksX14_relax_4 10 rfl rfl)
theorem dX14_relax_107 : decode cX14_relax 107 = .ok (.aaload, 1) := dk_50 (dk_at dksX14_relax_4 13 rfl rfl)
theorem dX14_relax_108 : decode cX14_relax 108 = .ok (.getfield 61, 3) := dk_180 0 61 (dk_at dksX14_relax_4 14 rfl rfl)
theorem dX14_relax_111 : decode cX14_relax 111 = .ok (.aload 5, 2) := dk_25 5 (dk_at dksX14_relax_4 17 rfl rfl)
theorem dX14_relax_113 : decode cX14_relax 113 = .ok (.getfield 64, 3) := dk_180 0 64 (dk_at dksX14_relax_4 19 rfl rfl)
theorem dX14_relax_116 : decode cX14_relax 116 = .ok (.i2l, 1) := dk_133 (dk_at dksX14_relax_4 22 rfl rfl)
theorem dX14_relax_117 : decode cX14_relax 117 = .ok (.ladd, 1) := dk_97 (dk_at dksX14_relax_4 23 rfl rfl)
theorem dX14_relax_118 : decode cX14_relax 118 = .ok (.aload_n 0, 1) := dk_42 (dk_at dksX14_relax_5 0 rfl rfl)
theorem dX14_relax_119 : decode cX14_relax 119 = .ok (.getfield 17, 3) := dk_180 0 17 (dk_at dksX14_relax_5 1 rfl rfl)
theorem dX14_relax_122 : decode cX14_relax 122 = .ok (.aload 5, 2) := dk_25 5 (dk_at dksX14_relax_5 4 rfl rfl)
theorem dX14_relax_124 : decode cX14_relax 124 = .ok (.getfield 51, 3) := dk_180 0 51 (dk_at dksX14_relax_5 6 rfl rfl)
theorem dX14_relax_127 : decode cX14_relax 127 = .ok (.aaload, 1) := dk_50 (dk_at dksX14_relax_5 9 rfl rfl)
theorem dX14_relax_128 : decode cX14_relax 128 = .ok (.getfield 57, 3) := dk_180 0 57 (dk_at dksX14_relax_5 10 rfl rfl)
theorem dX14_relax_131 : decode cX14_relax 131 = .ok (.aload 5, 2) := dk_25 5 (dk_at dksX14_relax_5 13 rfl rfl)
theorem dX14_relax_133 : decode cX14_relax 133 = .ok (.getfield 67, 3) := dk_180 0 67 (dk_at dksX14_relax_5 15 rfl rfl)
theorem dX14_relax_136 : decode cX14_relax 136 = .ok (.i2l, 1) := dk_133 (dk_at dksX14_relax_5 18 rfl rfl)
theorem dX14_relax_137 : decode cX14_relax 137 = .ok (.ladd, 1) := dk_97 (dk_at dksX14_relax_5 19 rfl rfl)
theorem dX14_relax_138 : decode cX14_relax 138 = .ok (.invokespecial 70, 3) := dk_183 0 70 (dk_at dksX14_relax_5 20 rfl rfl)
theorem dX14_relax_141 : decode cX14_relax 141 = .ok (.astore 7, 2) := dk_58 7 (dk_at dksX14_relax_6 0 rfl rfl)
theorem dX14_relax_143 : decode cX14_relax 143 = .ok (.aload_n 0, 1) := dk_42 (dk_at dksX14_relax_6 2 rfl rfl)
theorem dX14_relax_144 : decode cX14_relax 144 = .ok (.getfield 17, 3) := dk_180 0 17 (dk_at dksX14_relax_6 3 rfl rfl)
theorem dX14_relax_147 : decode cX14_relax 147 = .ok (.aload 5, 2) := dk_25 5 (dk_at dksX14_relax_6 6 rfl rfl)
theorem dX14_relax_149 : decode cX14_relax 149 = .ok (.getfield 52, 3) := dk_180 0 52 (dk_at dksX14_relax_6 8 rfl rfl)
theorem dX14_relax_152 : decode cX14_relax 152 = .ok (.aaload, 1) := dk_50 (dk_at dksX14_relax_6 11 rfl rfl)
theorem dX14_relax_153 : decode cX14_relax 153 = .ok (.ifnull 24, 3) := dk_198 0 24 (dk_at dksX14_relax_6 12 rfl rfl)
theorem dX14_relax_156 : decode cX14_relax 156 = .ok (.aload_n 0, 1) := dk_42 (dk_at dksX14_relax_6 15 rfl rfl)
theorem dX14_relax_157 : decode cX14_relax 157 = .ok (.aload 7, 2) := dk_25 7 (dk_at dksX14_relax_6 16 rfl rfl)
theorem dX14_relax_159 : decode cX14_relax 159 = .ok (.aload_n 0, 1) := dk_42 (dk_at dksX14_relax_6 18 rfl rfl)
theorem dX14_relax_160 : decode cX14_relax 160 = .ok (.getfield 17, 3) := dk_180 0 17 (dk_at dksX14_relax_6 19 rfl rfl)
theorem dX14_relax_163 : decode cX14_relax 163 = .ok (.aload 5, 2) := dk_25 5 (dk_at dksX14_relax_6 22 rfl rfl)
theorem dX14_relax_165 : decode cX14_relax 165 = .ok (.getfield 52, 3) := dk_180 0 52 (dk_at dksX14_relax_7 0 rfl rfl)
theorem dX14_relax_168 : decode cX14_relax 168 = .ok (.aaload, 1) := dk_50 (dk_at dksX14_relax_7 3 rfl rfl)
theorem dX14_relax_169 : decode cX14_relax 169 = .ok (.aload_n 1, 1) := dk_43 (dk_at dksX14_relax_7 4 rfl rfl)
theorem dX14_relax_170 : decode cX14_relax 170 = .ok (.iload_n 2, 1) := dk_28 (dk_at dksX14_relax_7 5 rfl rfl)
theorem dX14_relax_171 : decode cX14_relax 171 = .ok (.invokevirtual 73, 3) := dk_182 0 73 (dk_at dksX14_relax_7 6 rfl rfl)
theorem dX14_relax_174 : decode cX14_relax 174 = .ok (.ifCond .eq 7, 3) := dk_153 0 7 (dk_at dksX14_relax_7 9 rfl rfl)
theorem dX14_relax_177 : decode cX14_relax 177 = .ok (.iconst 1, 1) := dk_4 (dk_at dksX14_relax_7 12 rfl rfl)
theorem dX14_relax_178 : decode cX14_relax 178 = .ok (.goto 4, 3) := dk_167 0 4 (dk_at dksX14_relax_7 13 rfl rfl)
theorem dX14_relax_181 : decode cX14_relax 181 = .ok (.iconst 0, 1) := dk_3 (dk_at dksX14_relax_7 16 rfl rfl)
theorem dX14_relax_182 : decode cX14_relax 182 = .ok (.istore 8, 2) := dk_54 8 (dk_at dksX14_relax_7 17 rfl rfl)
theorem dX14_relax_184 : decode cX14_relax 184 = .ok (.aload_n 0, 1) := dk_42 (dk_at dksX14_relax_7 19 rfl rfl)
theorem dX14_relax_185 : decode cX14_relax 185 = .ok (.getfield 17, 3) := dk_180 0 17 (dk_at dksX14_relax_7 20 rfl rfl)
theorem dX14_relax_188 : decode cX14_relax 188 = .ok (.aload 5, 2) := dk_25 5 (dk_at dksX14_relax_8 0 rfl rfl)
theorem dX14_relax_190 : decode cX14_relax 190 = .ok (.getfield 52, 3) := dk_180 0 52 (dk_at dksX14_relax_8 2 rfl rfl)
theorem dX14_relax_193 : decode cX14_relax 193 = .ok (.iload 8, 2) := dk_21 8 (dk_at dksX14_relax_8 5 rfl rfl)
theorem dX14_relax_195 : decode cX14_relax 195 = .ok (.ifCond .eq 8, 3) := dk_153 0 8 (dk_at dksX14_relax_8 7 rfl rfl)
theorem dX14_relax_198 : decode cX14_relax 198 = .ok (.aload 7, 2) := dk_25 7 (dk_at dksX14_relax_8 10 rfl rfl)
theorem dX14_relax_200 : decode cX14_relax 200 = .ok (.goto 13, 3) := dk_167 0 13 (dk_at dksX14_relax_8 12 rfl rfl)
theorem dX14_relax_203 : decode cX14_relax 203 = .ok (.aload_n 0, 1) := dk_42 (dk_at dksX14_relax_8 15 rfl rfl)
theorem dX14_relax_204 : decode cX14_relax 204 = .ok (.getfield 17, 3) := dk_180 0 17 (dk_at dksX14_relax_8 16 rfl rfl)
theorem dX14_relax_207 : decode cX14_relax 207 = .ok (.aload 5, 2) := dk_25 5 (dk_at dksX14_relax_8 19 rfl rfl)
theorem dX14_relax_209 : decode cX14_relax 209 = .ok (.getfield 52, 3) := dk_180 0 52 (dk_at dksX14_relax_8 21 rfl rfl)
theorem dX14_relax_212 : decode cX14_relax 212 = .ok (.aaload, 1) := dk_50 (dk_at dksX14_relax_9 0 rfl rfl)
theorem dX14_relax_213 : decode cX14_relax 213 = .ok (.aastore, 1) := dk_83 (dk_at dksX14_relax_9 1 rfl rfl)
theorem dX14_relax_214 : decode cX14_relax 214 = .ok (.iload_n 3, 1) := dk_29 (dk_at dksX14_relax_9 2 rfl rfl)
theorem dX14_relax_215 : decode cX14_relax 215 = .ok (.iload 8, 2) := dk_21 8 (dk_at dksX14_relax_9 3 rfl rfl)
theorem dX14_relax_217 : decode cX14_relax 217 = .ok (.ior, 1) := dk_128 (dk_at dksX14_relax_9 5 rfl rfl)
theorem dX14_relax_218 : decode cX14_relax 218 = .ok (.istore_n 3, 1) := dk_62 (dk_at dksX14_relax_9 6 rfl rfl)
theorem dX14_relax_219 : decode cX14_relax 219 = .ok (.iinc 4 1, 3) := dk_132 4 1 (dk_at dksX14_relax_9 7 rfl rfl)
theorem dX14_relax_222 : decode cX14_relax 222 = .ok (.goto (-217), 3) := dk_167 255 39 (dk_at dksX14_relax_9 10 rfl rfl)
theorem dX14_relax_225 : decode cX14_relax 225 = .ok (.iload_n 3, 1) := dk_29 (dk_at dksX14_relax_9 13 rfl rfl)
theorem dX14_relax_226 : decode cX14_relax 226 = .ok (.ireturn, 1) := dk_172 (dk_at dksX14_relax_9 14 rfl rfl)
abbrev cX14_isBetter : ByteArray := prog_13_method_4_code
def yX14_isBetter : MethodName := ⟨RX14, "isBetter", "(LRatioGraph$Line;LRatioGraph$Line;LRatioGraph$Fraction;Z)Z"⟩
def dkwX14_isBetter_2 : List UInt8 := [180, 0, 57, 44, 180, 0, 57, 148, 156, 0, 7, 4, 167, 0, 4, 3, 172]
abbrev dktX14_isBetter_2 : List UInt8 := dkwX14_isBetter_2 ++ []
def dkwX14_isBetter_1 : List UInt8 := [154, 0, 39, 21, 4, 153, 0, 18, 43, 180, 0, 57, 44, 180, 0, 57, 148, 158, 0, 22, 167, 0, 15, 43]
abbrev dktX14_isBetter_1 : List UInt8 := dkwX14_isBetter_1 ++ dktX14_isBetter_2
def dkwX14_isBetter_0 : List UInt8 := [43, 45, 182, 0, 53, 44, 45, 182, 0, 53, 101, 55, 5, 22, 5, 9, 148, 155, 0, 42, 22, 5, 9, 148]
abbrev dktX14_isBetter_0 : List UInt8 := dkwX14_isBetter_0 ++ dktX14_isBetter_1
theorem dksX14_isBetter_0 : cX14_isBetter.data.toList.drop 0 = dktX14_isBetter_0 := by decide +kernel
theorem dksX14_isBetter_1 : cX14_isBetter.data.toList.drop 24 = dktX14_isBetter_1 := dk_seg dksX14_isBetter_0 24 rfl rfl
theorem dksX14_isBetter_2 : cX14_isBetter.data.toList.drop 48 = dktX14_isBetter_2 := dk_seg dksX14_isBetter_1 24 rfl rfl
theorem dX14_isBetter_0 : decode cX14_isBetter 0 = .ok (.aload_n 1, 1) := dk_43 (dk_at dksX14_isBetter_0 0 rfl rfl)
theorem dX14_isBetter_1 : decode cX14_isBetter 1 = .ok (.aload_n 3, 1) := dk_45 (dk_at dksX14_isBetter_0 1 rfl rfl)
theorem dX14_isBetter_2 : decode cX14_isBetter 2 = .ok (.invokevirtual 53, 3) := dk_182 0 53 (dk_at dksX14_isBetter_0 2 rfl rfl)
theorem dX14_isBetter_5 : decode cX14_isBetter 5 = .ok (.aload_n 2, 1) := dk_44 (dk_at dksX14_isBetter_0 5 rfl rfl)
theorem dX14_isBetter_6 : decode cX14_isBetter 6 = .ok (.aload_n 3, 1) := dk_45 (dk_at dksX14_isBetter_0 6 rfl rfl)
theorem dX14_isBetter_7 : decode cX14_isBetter 7 = .ok (.invokevirtual 53, 3) := dk_182 0 53 (dk_at dksX14_isBetter_0 7 rfl rfl)
theorem dX14_isBetter_10 : decode cX14_isBetter 10 = .ok (.lsub, 1) := dk_101 (dk_at dksX14_isBetter_0 10 rfl rfl)
theorem dX14_isBetter_11 : decode cX14_isBetter 11 = .ok (.lstore 5, 2) := dk_55 5 (dk_at dksX14_isBetter_0 11 rfl rfl)
theorem dX14_isBetter_13 : decode cX14_isBetter 13 = .ok (.lload 5, 2) := dk_22 5 (dk_at dksX14_isBetter_0 13 rfl rfl)
theorem dX14_isBetter_15 : decode cX14_isBetter 15 = .ok (.lconst 0, 1) := dk_9 (dk_at dksX14_isBetter_0 15 rfl rfl)
theorem dX14_isBetter_16 : decode cX14_isBetter 16 = .ok (.lcmp, 1) := dk_148 (dk_at dksX14_isBetter_0 16 rfl rfl)
theorem dX14_isBetter_17 : decode cX14_isBetter 17 = .ok (.ifCond .lt 42, 3) := dk_155 0 42 (dk_at dksX14_isBetter_0 17 rfl rfl)
theorem dX14_isBetter_20 : decode cX14_isBetter 20 = .ok (.lload 5, 2) := dk_22 5 (dk_at dksX14_isBetter_0 20 rfl rfl)
theorem dX14_isBetter_22 : decode cX14_isBetter 22 = .ok (.lconst 0, 1) := dk_9 (dk_at dksX14_isBetter_0 22 rfl rfl)
theorem dX14_isBetter_23 : decode cX14_isBetter 23 = .ok (.lcmp, 1) := dk_148 (dk_at dksX14_isBetter_0 23 rfl rfl)
theorem dX14_isBetter_24 : decode cX14_isBetter 24 = .ok (.ifCond .ne 39, 3) := dk_154 0 39 (dk_at dksX14_isBetter_1 0 rfl rfl)
theorem dX14_isBetter_27 : decode cX14_isBetter 27 = .ok (.iload 4, 2) := dk_21 4 (dk_at dksX14_isBetter_1 3 rfl rfl)
theorem dX14_isBetter_29 : decode cX14_isBetter 29 = .ok (.ifCond .eq 18, 3) := dk_153 0 18 (dk_at dksX14_isBetter_1 5 rfl rfl)
theorem dX14_isBetter_32 : decode cX14_isBetter 32 = .ok (.aload_n 1, 1) := dk_43 (dk_at dksX14_isBetter_1 8 rfl rfl)
theorem dX14_isBetter_33 : decode cX14_isBetter 33 = .ok (.getfield 57, 3) := dk_180 0 57 (dk_at dksX14_isBetter_1 9 rfl rfl)
theorem dX14_isBetter_36 : decode cX14_isBetter 36 = .ok (.aload_n 2, 1) := dk_44 (dk_at dksX14_isBetter_1 12 rfl rfl)
theorem dX14_isBetter_37 : decode cX14_isBetter 37 = .ok (.getfield 57, 3) := dk_180 0 57 (dk_at dksX14_isBetter_1 13 rfl rfl)
theorem dX14_isBetter_40 : decode cX14_isBetter 40 = .ok (.lcmp, 1) := dk_148 (dk_at dksX14_isBetter_1 16 rfl rfl)
theorem dX14_isBetter_41 : decode cX14_isBetter 41 = .ok (.ifCond .le 22, 3) := dk_158 0 22 (dk_at dksX14_isBetter_1 17 rfl rfl)
theorem dX14_isBetter_44 : decode cX14_isBetter 44 = .ok (.goto 15, 3) := dk_167 0 15 (dk_at dksX14_isBetter_1 20 rfl rfl)
theorem dX14_isBetter_47 : decode cX14_isBetter 47 = .ok (.aload_n 1, 1) := dk_43 (dk_at dksX14_isBetter_1 23 rfl rfl)
theorem dX14_isBetter_48 : decode cX14_isBetter 48 = .ok (.getfield 57, 3) := dk_180 0 57 (dk_at dksX14_isBetter_2 0 rfl rfl)
theorem dX14_isBetter_51 : decode cX14_isBetter 51 = .ok (.aload_n 2, 1) := dk_44 (dk_at dksX14_isBetter_2 3 rfl rfl)
theorem dX14_isBetter_52 : decode cX14_isBetter 52 = .ok (.getfield 57, 3) := dk_180 0 57 (dk_at dksX14_isBetter_2 4 rfl rfl)
theorem dX14_isBetter_55 : decode cX14_isBetter 55 = .ok (.lcmp, 1) := dk_148 (dk_at dksX14_isBetter_2 7 rfl rfl)
theorem dX14_isBetter_56 : decode cX14_isBetter 56 = .ok (.ifCond .ge 7, 3) := dk_156 0 7 (dk_at dksX14_isBetter_2 8 rfl rfl)
theorem dX14_isBetter_59 : decode cX14_isBetter 59 = .ok (.iconst 1, 1) := dk_4 (dk_at dksX14_isBetter_2 11 rfl rfl)
theorem dX14_isBetter_60 : decode cX14_isBetter 60 = .ok (.goto 4, 3) := dk_167 0 4 (dk_at dksX14_isBetter_2 12 rfl rfl)
theorem dX14_isBetter_63 : decode cX14_isBetter 63 = .ok (.iconst 0, 1) := dk_3 (dk_at dksX14_isBetter_2 15 rfl rfl)
theorem dX14_isBetter_64 : decode cX14_isBetter 64 = .ok (.ireturn, 1) := dk_172 (dk_at dksX14_isBetter_2 16 rfl rfl)
theorem q93 : (Jvm.Cond.initialized "RatioGraph$Paths") ∈ lw_all := lw_g (lw_at lw_m1 29 rfl) rfl
theorem q157 : (Jvm.Cond.fieldLinkNest "RatioGraph$Paths" (35 : Nat) "RatioGraph" "edges" "Ljava/util/ArrayList;" "RatioGraph") ∈ lw_tbl := lw_at lw_m1 93 rfl
theorem q275 : (Jvm.Cond.selects "RatioGraph$Paths" ({ cls := "java/lang/Object", name := "getClass", desc := "()Ljava/lang/Class;" } : Jvm.MethodName) ({ cls := "java/lang/Object", name := "getClass", desc := "()Ljava/lang/Class;" } : Jvm.MethodName)) ∈ lw_all := lw_g (lw_at lw_m1 211 rfl) rfl
theorem q335 : (Jvm.Cond.fieldLinkNest "RatioGraph$Paths" (51 : Nat) "RatioGraph$Edge" "from" "I" "RatioGraph") ∈ lw_tbl := lw_at lw_m2 31 rfl
theorem q340 : (Jvm.Cond.fieldLinkNest "RatioGraph$Paths" (52 : Nat) "RatioGraph$Edge" "to" "I" "RatioGraph") ∈ lw_tbl := lw_at lw_m2 36 rfl
theorem q346 : (Jvm.Cond.fieldLinkNest "RatioGraph$Paths" (64 : Nat) "RatioGraph$Edge" "weight" "I" "RatioGraph") ∈ lw_tbl := lw_at lw_m2 42 rfl
theorem q349 : (Jvm.Cond.fieldLinkNest "RatioGraph$Paths" (67 : Nat) "RatioGraph$Edge" "slope" "I" "RatioGraph") ∈ lw_tbl := lw_at lw_m2 45 rfl
theorem q690 : (Jvm.Cond.fieldLinkNest "RatioGraph$Paths" (86 : Nat) "RatioGraph$Fraction" "n" "J" "RatioGraph") ∈ lw_tbl := lw_at lw_m3 146 rfl
theorem q697 : (Jvm.Cond.fieldLinkNest "RatioGraph$Paths" (81 : Nat) "RatioGraph$Fraction" "d" "J" "RatioGraph") ∈ lw_tbl := lw_at lw_m3 153 rfl
theorem q1130 : (Jvm.Cond.instantiable "RatioGraph$Paths" (5 : Nat)) ∈ lw_all := lw_g (lw_at lw_m5 106 rfl) rfl
theorem q1132 : (Jvm.Cond.instanceMethod ({ cls := "RatioGraph$Paths", name := "<init>", desc := "(LRatioGraph;II)V" } : Jvm.MethodName)) ∈ lw_all := lw_g (lw_at lw_m5 108 rfl) rfl
theorem q1133 : (Jvm.Cond.code ({ cls := "RatioGraph$Paths", name := "<init>", desc := "(LRatioGraph;II)V" } : Jvm.MethodName) prog_13_method_1_code (4 : Nat) (Option.none : Option Jvm.ClassFile.FieldType)) ∈ lw_all := lw_g (lw_at lw_m5 109 rfl) rfl
theorem q1134 : (Jvm.Cond.methodLink "RatioGraph$Paths" (9 : Nat) ({ cls := "java/lang/Object", name := "<init>", desc := "()V" } : Jvm.MethodName)) ∈ lw_all := lw_g (lw_at lw_m5 110 rfl) rfl
theorem q1135 : (Jvm.Cond.classLink "RatioGraph$Paths" (15 : Nat) "RatioGraph$Line") ∈ lw_all := lw_g (lw_at lw_m5 111 rfl) rfl
theorem q1137 : (Jvm.Cond.methodLink "RatioGraph$Paths" (28 : Nat) ({ cls := "RatioGraph$Paths", name := "spread", desc := "(IZ)I" } : Jvm.MethodName)) ∈ lw_all := lw_g (lw_at lw_m5 113 rfl) rfl
theorem q1138 : (Jvm.Cond.privateMethod ({ cls := "RatioGraph$Paths", name := "spread", desc := "(IZ)I" } : Jvm.MethodName)) ∈ lw_tbl := lw_at lw_m5 114 rfl
theorem q1139 : (Jvm.Cond.instanceMethod ({ cls := "RatioGraph$Paths", name := "spread", desc := "(IZ)I" } : Jvm.MethodName)) ∈ lw_all := lw_g (lw_at lw_m5 115 rfl) rfl
theorem q1140 : (Jvm.Cond.code ({ cls := "RatioGraph$Paths", name := "spread", desc := "(IZ)I" } : Jvm.MethodName) prog_13_method_2_code (8 : Nat) (Option.some Jvm.ClassFile.FieldType.int)) ∈ lw_all := lw_g (lw_at lw_m5 116 rfl) rfl
theorem q1141 : (Jvm.Cond.methodLink "RatioGraph$Paths" (39 : Nat) ({ cls := "java/util/ArrayList", name := "size", desc := "()I" } : Jvm.MethodName)) ∈ lw_all := lw_g (lw_at lw_m5 117 rfl) rfl
theorem q1142 : (Jvm.Cond.methodLink "RatioGraph$Paths" (45 : Nat) ({ cls := "java/util/ArrayList", name := "get", desc := "(I)Ljava/lang/Object;" } : Jvm.MethodName)) ∈ lw_all := lw_g (lw_at lw_m5 118 rfl) rfl
theorem q1143 : (Jvm.Cond.classLink "RatioGraph$Paths" (49 : Nat) "RatioGraph$Edge") ∈ lw_all := lw_g (lw_at lw_m5 119 rfl) rfl
theorem q1144 : (Jvm.Cond.fieldLink "RatioGraph$Paths" (21 : Nat) "RatioGraph$Paths" "from" "I") ∈ lw_all := lw_g (lw_at lw_m5 120 rfl) rfl
theorem q1145 : (Jvm.Cond.fieldLink "RatioGraph$Paths" (25 : Nat) "RatioGraph$Paths" "to" "I") ∈ lw_all := lw_g (lw_at lw_m5 121 rfl) rfl
theorem q1146 : (Jvm.Cond.fieldLink "RatioGraph$Paths" (32 : Nat) "RatioGraph$Paths" "between" "I") ∈ lw_all := lw_g (lw_at lw_m5 122 rfl) rfl
theorem q1147 : (Jvm.Cond.fieldLink "RatioGraph$Paths" (17 : Nat) "RatioGraph$Paths" "lines" "[LRatioGraph$Line;") ∈ lw_all := lw_g (lw_at lw_m5 123 rfl) rfl
theorem q1148 : (Jvm.Cond.fieldLink "RatioGraph$Paths" (3 : Nat) "RatioGraph$Paths" "this$0" "LRatioGraph;") ∈ lw_all := lw_g (lw_at lw_m5 124 rfl) rfl
theorem q1149 : (Jvm.Cond.laysFinal "RatioGraph$Paths" "RatioGraph$Paths" "from" "I") ∈ lw_all := lw_g (lw_at lw_m5 125 rfl) rfl
theorem q1150 : (Jvm.Cond.soleField "RatioGraph$Paths" "from") ∈ lw_all := lw_g (lw_at lw_m5 126 rfl) rfl
theorem q1151 : (Jvm.Cond.laysFinal "RatioGraph$Paths" "RatioGraph$Paths" "to" "I") ∈ lw_all := lw_g (lw_at lw_m5 127 rfl) rfl
theorem q1152 : (Jvm.Cond.soleField "RatioGraph$Paths" "to") ∈ lw_all := lw_g (lw_at lw_m5 128 rfl) rfl
theorem q1153 : (Jvm.Cond.laysFinal "RatioGraph$Paths" "RatioGraph$Paths" "between" "I") ∈ lw_all := lw_g (lw_at lw_m5 129 rfl) rfl
theorem q1154 : (Jvm.Cond.soleField "RatioGraph$Paths" "between") ∈ lw_all := lw_g (lw_at lw_m5 130 rfl) rfl
theorem q1155 : (Jvm.Cond.laysFinal "RatioGraph$Paths" "RatioGraph$Paths" "lines" "[LRatioGraph$Line;") ∈ lw_all := lw_g (lw_at lw_m5 131 rfl) rfl
theorem q1156 : (Jvm.Cond.soleField "RatioGraph$Paths" "lines") ∈ lw_all := lw_g (lw_at lw_m5 132 rfl) rfl
theorem q1157 : (Jvm.Cond.laysFinal "RatioGraph$Paths" "RatioGraph$Paths" "this$0" "LRatioGraph;") ∈ lw_all := lw_g (lw_at lw_m5 133 rfl) rfl
theorem q1158 : (Jvm.Cond.soleField "RatioGraph$Paths" "this$0") ∈ lw_all := lw_g (lw_at lw_m5 134 rfl) rfl
theorem q1159 : (Jvm.Cond.superclass "RatioGraph$Paths" "java/lang/Object") ∈ lw_all := lw_g (lw_at lw_m5 135 rfl) rfl
theorem q1161 : (Jvm.Cond.instanceMethod ({ cls := "RatioGraph$Paths", name := "exist", desc := "()Z" } : Jvm.MethodName)) ∈ lw_all := lw_g (lw_at lw_m5 137 rfl) rfl
theorem q1162 : (Jvm.Cond.selects "RatioGraph$Paths" ({ cls := "RatioGraph$Paths", name := "exist", desc := "()Z" } : Jvm.MethodName) ({ cls := "RatioGraph$Paths", name := "exist", desc := "()Z" } : Jvm.MethodName)) ∈ lw_all := lw_g (lw_at lw_m5 138 rfl) rfl
theorem q1163 : (Jvm.Cond.code ({ cls := "RatioGraph$Paths", name := "exist", desc := "()Z" } : Jvm.MethodName) prog_13_method_3_code (1 : Nat) (Option.some Jvm.ClassFile.FieldType.boolean)) ∈ lw_all := lw_g (lw_at lw_m5 139 rfl) rfl
theorem q1165 : (Jvm.Cond.instanceMethod ({ cls := "RatioGraph$Paths", name := "isUnbounded", desc := "(LRatioGraph$Fraction;)Z" } : Jvm.MethodName)) ∈ lw_all := lw_g (lw_at lw_m5 141 rfl) rfl
theorem q1166 : (Jvm.Cond.selects "RatioGraph$Paths" ({ cls := "RatioGraph$Paths", name := "isUnbounded", desc := "(LRatioGraph$Fraction;)Z" } : Jvm.MethodName) ({ cls := "RatioGraph$Paths", name := "isUnbounded", desc := "(LRatioGraph$Fraction;)Z" } : Jvm.MethodName)) ∈ lw_all := lw_g (lw_at lw_m5 142 rfl) rfl
theorem q1167 : (Jvm.Cond.code ({ cls := "RatioGraph$Paths", name := "isUnbounded", desc := "(LRatioGraph$Fraction;)Z" } : Jvm.MethodName) prog_13_method_7_code (11 : Nat) (Option.some Jvm.ClassFile.FieldType.boolean)) ∈ lw_all := lw_g (lw_at lw_m5 143 rfl) rfl
theorem q1170 : (Jvm.Cond.instanceMethod ({ cls := "RatioGraph$Paths", name := "length", desc := "(LRatioGraph$Fraction;)J" } : Jvm.MethodName)) ∈ lw_all := lw_g (lw_at lw_m5 146 rfl) rfl
theorem q1171 : (Jvm.Cond.selects "RatioGraph$Paths" ({ cls := "RatioGraph$Paths", name := "length", desc := "(LRatioGraph$Fraction;)J" } : Jvm.MethodName) ({ cls := "RatioGraph$Paths", name := "length", desc := "(LRatioGraph$Fraction;)J" } : Jvm.MethodName)) ∈ lw_all := lw_g (lw_at lw_m5 147 rfl) rfl
theorem q1172 : (Jvm.Cond.code ({ cls := "RatioGraph$Paths", name := "length", desc := "(LRatioGraph$Fraction;)J" } : Jvm.MethodName) prog_13_method_8_code (7 : Nat) (Option.some Jvm.ClassFile.FieldType.long)) ∈ lw_all := lw_g (lw_at lw_m5 148 rfl) rfl
theorem q1173 : (Jvm.Cond.constantLong "RatioGraph$Paths" (89 : Nat) (1125899906842624 : Int64)) ∈ lw_all := lw_g (lw_at lw_m5 149 rfl) rfl
theorem q1174 : (Jvm.Cond.methodLink "RatioGraph$Paths" (91 : Nat) ({ cls := "java/lang/Math", name := "min", desc := "(JJ)J" } : Jvm.MethodName)) ∈ lw_all := lw_g (lw_at lw_m5 150 rfl) rfl
theorem q1188 : (Jvm.Cond.instanceMethod ({ cls := "RatioGraph$Paths", name := "least", desc := "(LRatioGraph$Fraction;Z)LRatioGraph$Line;" } : Jvm.MethodName)) ∈ lw_all := lw_g (lw_at lw_m5 164 rfl) rfl
theorem q1189 : (Jvm.Cond.selects "RatioGraph$Paths" ({ cls := "RatioGraph$Paths", name := "least", desc := "(LRatioGraph$Fraction;Z)LRatioGraph$Line;" } : Jvm.MethodName) ({ cls := "RatioGraph$Paths", name := "least", desc := "(LRatioGraph$Fraction;Z)LRatioGraph$Line;" } : Jvm.MethodName)) ∈ lw_all := lw_g (lw_at lw_m5 165 rfl) rfl
theorem q1190 : (Jvm.Cond.code ({ cls := "RatioGraph$Paths", name := "least", desc := "(LRatioGraph$Fraction;Z)LRatioGraph$Line;" } : Jvm.MethodName) prog_13_method_6_code (5 : Nat) (Option.some (Jvm.ClassFile.FieldType.object "RatioGraph$Line"))) ∈ lw_all := lw_g (lw_at lw_m5 166 rfl) rfl
theorem q1192 : (Jvm.Cond.methodLink "RatioGraph$Paths" (70 : Nat) ({ cls := "RatioGraph$Line", name := "<init>", desc := "(JJ)V" } : Jvm.MethodName)) ∈ lw_all := lw_g (lw_at lw_m5 168 rfl) rfl
theorem q1198 : (Jvm.Cond.fieldLinkNest "RatioGraph$Paths" (61 : Nat) "RatioGraph$Line" "a" "J" "RatioGraph") ∈ lw_tbl := lw_at lw_m5 174 rfl
theorem q1202 : (Jvm.Cond.fieldLinkNest "RatioGraph$Paths" (57 : Nat) "RatioGraph$Line" "b" "J" "RatioGraph") ∈ lw_tbl := lw_at lw_m5 178 rfl
theorem q1209 : (Jvm.Cond.methodLink "RatioGraph$Paths" (77 : Nat) ({ cls := "RatioGraph$Paths", name := "relax", desc := "(LRatioGraph$Fraction;Z)Z" } : Jvm.MethodName)) ∈ lw_all := lw_g (lw_at lw_m5 185 rfl) rfl
theorem q1210 : (Jvm.Cond.privateMethod ({ cls := "RatioGraph$Paths", name := "relax", desc := "(LRatioGraph$Fraction;Z)Z" } : Jvm.MethodName)) ∈ lw_tbl := lw_at lw_m5 186 rfl
theorem q1211 : (Jvm.Cond.instanceMethod ({ cls := "RatioGraph$Paths", name := "relax", desc := "(LRatioGraph$Fraction;Z)Z" } : Jvm.MethodName)) ∈ lw_all := lw_g (lw_at lw_m5 187 rfl) rfl
theorem q1212 : (Jvm.Cond.code ({ cls := "RatioGraph$Paths", name := "relax", desc := "(LRatioGraph$Fraction;Z)Z" } : Jvm.MethodName) prog_13_method_5_code (9 : Nat) (Option.some Jvm.ClassFile.FieldType.boolean)) ∈ lw_all := lw_g (lw_at lw_m5 188 rfl) rfl
theorem q1213 : (Jvm.Cond.methodLink "RatioGraph$Paths" (73 : Nat) ({ cls := "RatioGraph$Paths", name := "isBetter", desc := "(LRatioGraph$Line;LRatioGraph$Line;LRatioGraph$Fraction;Z)Z" } : Jvm.MethodName)) ∈ lw_all := lw_g (lw_at lw_m5 189 rfl) rfl
theorem q1214 : (Jvm.Cond.privateMethod ({ cls := "RatioGraph$Paths", name := "isBetter", desc := "(LRatioGraph$Line;LRatioGraph$Line;LRatioGraph$Fraction;Z)Z" } : Jvm.MethodName)) ∈ lw_tbl := lw_at lw_m5 190 rfl
theorem q1215 : (Jvm.Cond.instanceMethod ({ cls := "RatioGraph$Paths", name := "isBetter", desc := "(LRatioGraph$Line;LRatioGraph$Line;LRatioGraph$Fraction;Z)Z" } : Jvm.MethodName)) ∈ lw_all := lw_g (lw_at lw_m5 191 rfl) rfl
theorem q1216 : (Jvm.Cond.code ({ cls := "RatioGraph$Paths", name := "isBetter", desc := "(LRatioGraph$Line;LRatioGraph$Line;LRatioGraph$Fraction;Z)Z" } : Jvm.MethodName) prog_13_method_4_code (7 : Nat) (Option.some Jvm.ClassFile.FieldType.boolean)) ∈ lw_all := lw_g (lw_at lw_m5 192 rfl) rfl
theorem q1217 : (Jvm.Cond.methodLink "RatioGraph$Paths" (53 : Nat) ({ cls := "RatioGraph$Line", name := "at", desc := "(LRatioGraph$Fraction;)J" } : Jvm.MethodName)) ∈ lw_all := lw_g (lw_at lw_m5 193 rfl) rfl
theorem q1810 : (Jvm.Cond.castable "RatioGraph$Paths" "java/lang/Object") ∈ lw_tbl := lw_at lw_m8 66 rfl
theorem in_X14 : ∀ w ∈ wsX140, w ∈ lw_all := lw_in wsX140 [1149, 1151, 1153, 1155, 1157] (by decide +kernel) (by decide +kernel)

/-! RatioGraph$Line -/
set_option maxRecDepth 100000
def RX15 : String := "RatioGraph$Line"
def TX15 : u_T := fun k => match k with
  | 0 => ("RatioGraph$Line", "a", "J", true)
  | _ => ("RatioGraph$Line", "b", "J", true)
def tyX15 : Nat → FieldType := fun k => match k with
  | 0 => .long
  | _ => .long
abbrev wsX150 : List Cond := u_ws RX15 TX15 2
theorem nmX15 : ∀ a, a < 2 → ∀ b, b < 2 → a ≠ b → (TX15 a).2.1 ≠ (TX15 b).2.1 := by decide +kernel
theorem tyX15_ok : ∀ k, k < 2 → parseFieldDescriptor (TX15 k).2.2.1 = some (tyX15 k) := by decide +kernel
abbrev cX15_init : ByteArray := prog_12_method_1_code
def yX15_init : MethodName := ⟨RX15, "<init>", "(JJ)V"⟩
def dkwX15_init_0 : List UInt8 := [42, 183, 0, 1, 42, 31, 181, 0, 7, 42, 33, 181, 0, 13, 177]
abbrev dktX15_init_0 : List UInt8 := dkwX15_init_0 ++ []
theorem dksX15_init_0 : cX15_init.data.toList.drop 0 = dktX15_init_0 := by decide +kernel
theorem dX15_init_0 : decode cX15_init 0 = .ok (.aload_n 0, 1) := dk_42 (dk_at dksX15_init_0 0 rfl rfl)
theorem dX15_init_1 : decode cX15_init 1 = .ok (.invokespecial 1, 3) := dk_183 0 1 (dk_at dksX15_init_0 1 rfl rfl)
theorem dX15_init_4 : decode cX15_init 4 = .ok (.aload_n 0, 1) := dk_42 (dk_at dksX15_init_0 4 rfl rfl)
theorem dX15_init_5 : decode cX15_init 5 = .ok (.lload_n 1, 1) := dk_31 (dk_at dksX15_init_0 5 rfl rfl)
theorem dX15_init_6 : decode cX15_init 6 = .ok (.putfield 7, 3) := dk_181 0 7 (dk_at dksX15_init_0 6 rfl rfl)
theorem dX15_init_9 : decode cX15_init 9 = .ok (.aload_n 0, 1) := dk_42 (dk_at dksX15_init_0 9 rfl rfl)
theorem dX15_init_10 : decode cX15_init 10 = .ok (.lload_n 3, 1) := dk_33 (dk_at dksX15_init_0 10 rfl rfl)
theorem dX15_init_11 : decode cX15_init 11 = .ok (.putfield 13, 3) := dk_181 0 13 (dk_at dksX15_init_0 11 rfl rfl)
theorem dX15_init_14 : decode cX15_init 14 = .ok (.return_, 1) := dk_177 (dk_at dksX15_init_0 14 rfl rfl)
abbrev cX15_at : ByteArray := prog_12_method_3_code
def yX15_at : MethodName := ⟨RX15, "at", "(LRatioGraph$Fraction;)J"⟩
def dkwX15_at_0 : List UInt8 := [43, 180, 0, 16, 42, 180, 0, 7, 105, 43, 180, 0, 21, 42, 180, 0, 13, 105, 97, 173]
abbrev dktX15_at_0 : List UInt8 := dkwX15_at_0 ++ []
theorem dksX15_at_0 : cX15_at.data.toList.drop 0 = dktX15_at_0 := by decide +kernel
theorem dX15_at_0 : decode cX15_at 0 = .ok (.aload_n 1, 1) := dk_43 (dk_at dksX15_at_0 0 rfl rfl)
theorem dX15_at_1 : decode cX15_at 1 = .ok (.getfield 16, 3) := dk_180 0 16 (dk_at dksX15_at_0 1 rfl rfl)
theorem dX15_at_4 : decode cX15_at 4 = .ok (.aload_n 0, 1) := dk_42 (dk_at dksX15_at_0 4 rfl rfl)
theorem dX15_at_5 : decode cX15_at 5 = .ok (.getfield 7, 3) := dk_180 0 7 (dk_at dksX15_at_0 5 rfl rfl)
theorem dX15_at_8 : decode cX15_at 8 = .ok (.lmul, 1) := dk_105 (dk_at dksX15_at_0 8 rfl rfl)
theorem dX15_at_9 : decode cX15_at 9 = .ok (.aload_n 1, 1) := dk_43 (dk_at dksX15_at_0 9 rfl rfl)
theorem dX15_at_10 : decode cX15_at 10 = .ok (.getfield 21, 3) := dk_180 0 21 (dk_at dksX15_at_0 10 rfl rfl)
theorem dX15_at_13 : decode cX15_at 13 = .ok (.aload_n 0, 1) := dk_42 (dk_at dksX15_at_0 13 rfl rfl)
theorem dX15_at_14 : decode cX15_at 14 = .ok (.getfield 13, 3) := dk_180 0 13 (dk_at dksX15_at_0 14 rfl rfl)
theorem dX15_at_17 : decode cX15_at 17 = .ok (.lmul, 1) := dk_105 (dk_at dksX15_at_0 17 rfl rfl)
theorem dX15_at_18 : decode cX15_at 18 = .ok (.ladd, 1) := dk_97 (dk_at dksX15_at_0 18 rfl rfl)
theorem dX15_at_19 : decode cX15_at 19 = .ok (.lreturn, 1) := dk_173 (dk_at dksX15_at_0 19 rfl rfl)
abbrev cX15_isSame : ByteArray := prog_12_method_2_code
def yX15_isSame : MethodName := ⟨RX15, "isSame", "(LRatioGraph$Line;)Z"⟩
def dkwX15_isSame_1 : List UInt8 := [4, 167, 0, 4, 3, 172]
abbrev dktX15_isSame_1 : List UInt8 := dkwX15_isSame_1 ++ []
def dkwX15_isSame_0 : List UInt8 := [42, 180, 0, 7, 43, 180, 0, 7, 148, 154, 0, 19, 42, 180, 0, 13, 43, 180, 0, 13, 148, 154, 0, 7]
abbrev dktX15_isSame_0 : List UInt8 := dkwX15_isSame_0 ++ dktX15_isSame_1
theorem dksX15_isSame_0 : cX15_isSame.data.toList.drop 0 = dktX15_isSame_0 := by decide +kernel
theorem dksX15_isSame_1 : cX15_isSame.data.toList.drop 24 = dktX15_isSame_1 := dk_seg dksX15_isSame_0 24 rfl rfl
theorem dX15_isSame_0 : decode cX15_isSame 0 = .ok (.aload_n 0, 1) := dk_42 (dk_at dksX15_isSame_0 0 rfl rfl)
theorem dX15_isSame_1 : decode cX15_isSame 1 = .ok (.getfield 7, 3) := dk_180 0 7 (dk_at dksX15_isSame_0 1 rfl rfl)
theorem dX15_isSame_4 : decode cX15_isSame 4 = .ok (.aload_n 1, 1) := dk_43 (dk_at dksX15_isSame_0 4 rfl rfl)
theorem dX15_isSame_5 : decode cX15_isSame 5 = .ok (.getfield 7, 3) := dk_180 0 7 (dk_at dksX15_isSame_0 5 rfl rfl)
theorem dX15_isSame_8 : decode cX15_isSame 8 = .ok (.lcmp, 1) := dk_148 (dk_at dksX15_isSame_0 8 rfl rfl)
theorem dX15_isSame_9 : decode cX15_isSame 9 = .ok (.ifCond .ne 19, 3) := dk_154 0 19 (dk_at dksX15_isSame_0 9 rfl rfl)
theorem dX15_isSame_12 : decode cX15_isSame 12 = .ok (.aload_n 0, 1) := dk_42 (dk_at dksX15_isSame_0 12 rfl rfl)
theorem dX15_isSame_13 : decode cX15_isSame 13 = .ok (.getfield 13, 3) := dk_180 0 13 (dk_at dksX15_isSame_0 13 rfl rfl)
theorem dX15_isSame_16 : decode cX15_isSame 16 = .ok (.aload_n 1, 1) := dk_43 (dk_at dksX15_isSame_0 16 rfl rfl)
theorem dX15_isSame_17 : decode cX15_isSame 17 = .ok (.getfield 13, 3) := dk_180 0 13 (dk_at dksX15_isSame_0 17 rfl rfl)
theorem dX15_isSame_20 : decode cX15_isSame 20 = .ok (.lcmp, 1) := dk_148 (dk_at dksX15_isSame_0 20 rfl rfl)
theorem dX15_isSame_21 : decode cX15_isSame 21 = .ok (.ifCond .ne 7, 3) := dk_154 0 7 (dk_at dksX15_isSame_0 21 rfl rfl)
theorem dX15_isSame_24 : decode cX15_isSame 24 = .ok (.iconst 1, 1) := dk_4 (dk_at dksX15_isSame_1 0 rfl rfl)
theorem dX15_isSame_25 : decode cX15_isSame 25 = .ok (.goto 4, 3) := dk_167 0 4 (dk_at dksX15_isSame_1 1 rfl rfl)
theorem dX15_isSame_28 : decode cX15_isSame 28 = .ok (.iconst 0, 1) := dk_3 (dk_at dksX15_isSame_1 4 rfl rfl)
theorem dX15_isSame_29 : decode cX15_isSame 29 = .ok (.ireturn, 1) := dk_172 (dk_at dksX15_isSame_1 5 rfl rfl)
theorem q94 : (Jvm.Cond.initialized "RatioGraph$Line") ∈ lw_all := lw_g (lw_at lw_m1 30 rfl) rfl
theorem q274 : (Jvm.Cond.selects "RatioGraph$Line" ({ cls := "java/lang/Object", name := "getClass", desc := "()Ljava/lang/Class;" } : Jvm.MethodName) ({ cls := "java/lang/Object", name := "getClass", desc := "()Ljava/lang/Class;" } : Jvm.MethodName)) ∈ lw_all := lw_g (lw_at lw_m1 210 rfl) rfl
theorem q689 : (Jvm.Cond.fieldLinkNest "RatioGraph$Line" (21 : Nat) "RatioGraph$Fraction" "n" "J" "RatioGraph") ∈ lw_tbl := lw_at lw_m3 145 rfl
theorem q696 : (Jvm.Cond.fieldLinkNest "RatioGraph$Line" (16 : Nat) "RatioGraph$Fraction" "d" "J" "RatioGraph") ∈ lw_tbl := lw_at lw_m3 152 rfl
theorem q1191 : (Jvm.Cond.instantiable "RatioGraph$Line" (2 : Nat)) ∈ lw_all := lw_g (lw_at lw_m5 167 rfl) rfl
theorem q1193 : (Jvm.Cond.instanceMethod ({ cls := "RatioGraph$Line", name := "<init>", desc := "(JJ)V" } : Jvm.MethodName)) ∈ lw_all := lw_g (lw_at lw_m5 169 rfl) rfl
theorem q1194 : (Jvm.Cond.code ({ cls := "RatioGraph$Line", name := "<init>", desc := "(JJ)V" } : Jvm.MethodName) prog_12_method_1_code (5 : Nat) (Option.none : Option Jvm.ClassFile.FieldType)) ∈ lw_all := lw_g (lw_at lw_m5 170 rfl) rfl
theorem q1195 : (Jvm.Cond.methodLink "RatioGraph$Line" (1 : Nat) ({ cls := "java/lang/Object", name := "<init>", desc := "()V" } : Jvm.MethodName)) ∈ lw_all := lw_g (lw_at lw_m5 171 rfl) rfl
theorem q1196 : (Jvm.Cond.fieldLink "RatioGraph$Line" (7 : Nat) "RatioGraph$Line" "a" "J") ∈ lw_all := lw_g (lw_at lw_m5 172 rfl) rfl
theorem q1200 : (Jvm.Cond.fieldLink "RatioGraph$Line" (13 : Nat) "RatioGraph$Line" "b" "J") ∈ lw_all := lw_g (lw_at lw_m5 176 rfl) rfl
theorem q1204 : (Jvm.Cond.laysFinal "RatioGraph$Line" "RatioGraph$Line" "a" "J") ∈ lw_all := lw_g (lw_at lw_m5 180 rfl) rfl
theorem q1205 : (Jvm.Cond.soleField "RatioGraph$Line" "a") ∈ lw_all := lw_g (lw_at lw_m5 181 rfl) rfl
theorem q1206 : (Jvm.Cond.laysFinal "RatioGraph$Line" "RatioGraph$Line" "b" "J") ∈ lw_all := lw_g (lw_at lw_m5 182 rfl) rfl
theorem q1207 : (Jvm.Cond.soleField "RatioGraph$Line" "b") ∈ lw_all := lw_g (lw_at lw_m5 183 rfl) rfl
theorem q1208 : (Jvm.Cond.superclass "RatioGraph$Line" "java/lang/Object") ∈ lw_all := lw_g (lw_at lw_m5 184 rfl) rfl
theorem q1218 : (Jvm.Cond.instanceMethod ({ cls := "RatioGraph$Line", name := "at", desc := "(LRatioGraph$Fraction;)J" } : Jvm.MethodName)) ∈ lw_all := lw_g (lw_at lw_m5 194 rfl) rfl
theorem q1219 : (Jvm.Cond.selects "RatioGraph$Line" ({ cls := "RatioGraph$Line", name := "at", desc := "(LRatioGraph$Fraction;)J" } : Jvm.MethodName) ({ cls := "RatioGraph$Line", name := "at", desc := "(LRatioGraph$Fraction;)J" } : Jvm.MethodName)) ∈ lw_all := lw_g (lw_at lw_m5 195 rfl) rfl
theorem q1220 : (Jvm.Cond.code ({ cls := "RatioGraph$Line", name := "at", desc := "(LRatioGraph$Fraction;)J" } : Jvm.MethodName) prog_12_method_3_code (2 : Nat) (Option.some Jvm.ClassFile.FieldType.long)) ∈ lw_all := lw_g (lw_at lw_m5 196 rfl) rfl
theorem q1239 : (Jvm.Cond.instanceMethod ({ cls := "RatioGraph$Line", name := "isSame", desc := "(LRatioGraph$Line;)Z" } : Jvm.MethodName)) ∈ lw_all := lw_g (lw_at lw_m5 215 rfl) rfl
theorem q1240 : (Jvm.Cond.selects "RatioGraph$Line" ({ cls := "RatioGraph$Line", name := "isSame", desc := "(LRatioGraph$Line;)Z" } : Jvm.MethodName) ({ cls := "RatioGraph$Line", name := "isSame", desc := "(LRatioGraph$Line;)Z" } : Jvm.MethodName)) ∈ lw_all := lw_g (lw_at lw_m5 216 rfl) rfl
theorem q1241 : (Jvm.Cond.code ({ cls := "RatioGraph$Line", name := "isSame", desc := "(LRatioGraph$Line;)Z" } : Jvm.MethodName) prog_12_method_2_code (2 : Nat) (Option.some Jvm.ClassFile.FieldType.boolean)) ∈ lw_all := lw_g (lw_at lw_m5 217 rfl) rfl
theorem q1794 : (Jvm.Cond.castable "RatioGraph$Line" "java/lang/Object") ∈ lw_tbl := lw_at lw_m8 50 rfl
theorem in_X15 : ∀ w ∈ wsX150, w ∈ lw_all := lw_in wsX150 [1204, 1206] (by decide +kernel) (by decide +kernel)

/-! RatioGraph$Piece -/
set_option maxRecDepth 100000
def RX16 : String := "RatioGraph$Piece"
def TX16 : u_T := fun k => match k with
  | 0 => ("RatioGraph$Piece", "line", "LRatioGraph$Line;", true)
  | _ => ("RatioGraph$Piece", "begin", "LRatioGraph$Fraction;", true)
def tyX16 : Nat → FieldType := fun k => match k with
  | 0 => .object "RatioGraph$Line"
  | _ => .object "RatioGraph$Fraction"
abbrev wsX160 : List Cond := u_ws RX16 TX16 2
theorem nmX16 : ∀ a, a < 2 → ∀ b, b < 2 → a ≠ b → (TX16 a).2.1 ≠ (TX16 b).2.1 := by decide +kernel
theorem tyX16_ok : ∀ k, k < 2 → parseFieldDescriptor (TX16 k).2.2.1 = some (tyX16 k) := by decide +kernel
abbrev cX16_init : ByteArray := prog_14_method_1_code
def yX16_init : MethodName := ⟨RX16, "<init>", "(LRatioGraph$Line;LRatioGraph$Fraction;)V"⟩
def dkwX16_init_0 : List UInt8 := [42, 183, 0, 1, 42, 43, 181, 0, 7, 42, 44, 181, 0, 13, 177]
abbrev dktX16_init_0 : List UInt8 := dkwX16_init_0 ++ []
theorem dksX16_init_0 : cX16_init.data.toList.drop 0 = dktX16_init_0 := by decide +kernel
theorem dX16_init_0 : decode cX16_init 0 = .ok (.aload_n 0, 1) := dk_42 (dk_at dksX16_init_0 0 rfl rfl)
theorem dX16_init_1 : decode cX16_init 1 = .ok (.invokespecial 1, 3) := dk_183 0 1 (dk_at dksX16_init_0 1 rfl rfl)
theorem dX16_init_4 : decode cX16_init 4 = .ok (.aload_n 0, 1) := dk_42 (dk_at dksX16_init_0 4 rfl rfl)
theorem dX16_init_5 : decode cX16_init 5 = .ok (.aload_n 1, 1) := dk_43 (dk_at dksX16_init_0 5 rfl rfl)
theorem dX16_init_6 : decode cX16_init 6 = .ok (.putfield 7, 3) := dk_181 0 7 (dk_at dksX16_init_0 6 rfl rfl)
theorem dX16_init_9 : decode cX16_init 9 = .ok (.aload_n 0, 1) := dk_42 (dk_at dksX16_init_0 9 rfl rfl)
theorem dX16_init_10 : decode cX16_init 10 = .ok (.aload_n 2, 1) := dk_44 (dk_at dksX16_init_0 10 rfl rfl)
theorem dX16_init_11 : decode cX16_init 11 = .ok (.putfield 13, 3) := dk_181 0 13 (dk_at dksX16_init_0 11 rfl rfl)
theorem dX16_init_14 : decode cX16_init 14 = .ok (.return_, 1) := dk_177 (dk_at dksX16_init_0 14 rfl rfl)
abbrev cX16_part : ByteArray := prog_14_method_2_code
def yX16_part : MethodName := ⟨RX16, "part", "(I)J"⟩
def dkwX16_part_3 : List UInt8 := [42, 180, 0, 13, 180, 0, 31, 173]
abbrev dktX16_part_3 : List UInt8 := dkwX16_part_3 ++ []
def dkwX16_part_2 : List UInt8 := [42, 180, 0, 7, 180, 0, 17, 173, 42, 180, 0, 7, 180, 0, 23, 173, 42, 180, 0, 13, 180, 0, 26, 173]
abbrev dktX16_part_2 : List UInt8 := dkwX16_part_2 ++ dktX16_part_3
def dkwX16_part_1 : List UInt8 := [170, 0, 0, 0, 0, 0, 51, 0, 0, 0, 0, 0, 0, 0, 2, 0, 0, 0, 27, 0, 0, 0, 35, 0, 0, 0, 43]
abbrev dktX16_part_1 : List UInt8 := dkwX16_part_1 ++ dktX16_part_2
def dkwX16_part_0 : List UInt8 := [27]
abbrev dktX16_part_0 : List UInt8 := dkwX16_part_0 ++ dktX16_part_1
theorem dksX16_part_0 : cX16_part.data.toList.drop 0 = dktX16_part_0 := by decide +kernel
theorem dksX16_part_1 : cX16_part.data.toList.drop 1 = dktX16_part_1 := dk_seg dksX16_part_0 1 rfl rfl
theorem dksX16_part_2 : cX16_part.data.toList.drop 28 = dktX16_part_2 := dk_seg dksX16_part_1 27 rfl rfl
theorem dksX16_part_3 : cX16_part.data.toList.drop 52 = dktX16_part_3 := dk_seg dksX16_part_2 24 rfl rfl
theorem dX16_part_0 : decode cX16_part 0 = .ok (.iload_n 1, 1) := dk_27 (dk_at dksX16_part_0 0 rfl rfl)
theorem dX16_part_1 : decode cX16_part 1 = .ok (.tableswitch 51 0 2 #[27, 35, 43], 27) := by decide +kernel
theorem dX16_part_28 : decode cX16_part 28 = .ok (.aload_n 0, 1) := dk_42 (dk_at dksX16_part_2 0 rfl rfl)
theorem dX16_part_29 : decode cX16_part 29 = .ok (.getfield 7, 3) := dk_180 0 7 (dk_at dksX16_part_2 1 rfl rfl)
theorem dX16_part_32 : decode cX16_part 32 = .ok (.getfield 17, 3) := dk_180 0 17 (dk_at dksX16_part_2 4 rfl rfl)
theorem dX16_part_35 : decode cX16_part 35 = .ok (.lreturn, 1) := dk_173 (dk_at dksX16_part_2 7 rfl rfl)
theorem dX16_part_36 : decode cX16_part 36 = .ok (.aload_n 0, 1) := dk_42 (dk_at dksX16_part_2 8 rfl rfl)
theorem dX16_part_37 : decode cX16_part 37 = .ok (.getfield 7, 3) := dk_180 0 7 (dk_at dksX16_part_2 9 rfl rfl)
theorem dX16_part_40 : decode cX16_part 40 = .ok (.getfield 23, 3) := dk_180 0 23 (dk_at dksX16_part_2 12 rfl rfl)
theorem dX16_part_43 : decode cX16_part 43 = .ok (.lreturn, 1) := dk_173 (dk_at dksX16_part_2 15 rfl rfl)
theorem dX16_part_44 : decode cX16_part 44 = .ok (.aload_n 0, 1) := dk_42 (dk_at dksX16_part_2 16 rfl rfl)
theorem dX16_part_45 : decode cX16_part 45 = .ok (.getfield 13, 3) := dk_180 0 13 (dk_at dksX16_part_2 17 rfl rfl)
theorem dX16_part_48 : decode cX16_part 48 = .ok (.getfield 26, 3) := dk_180 0 26 (dk_at dksX16_part_2 20 rfl rfl)
theorem dX16_part_51 : decode cX16_part 51 = .ok (.lreturn, 1) := dk_173 (dk_at dksX16_part_2 23 rfl rfl)
theorem dX16_part_52 : decode cX16_part 52 = .ok (.aload_n 0, 1) := dk_42 (dk_at dksX16_part_3 0 rfl rfl)
theorem dX16_part_53 : decode cX16_part 53 = .ok (.getfield 13, 3) := dk_180 0 13 (dk_at dksX16_part_3 1 rfl rfl)
theorem dX16_part_56 : decode cX16_part 56 = .ok (.getfield 31, 3) := dk_180 0 31 (dk_at dksX16_part_3 4 rfl rfl)
theorem dX16_part_59 : decode cX16_part 59 = .ok (.lreturn, 1) := dk_173 (dk_at dksX16_part_3 7 rfl rfl)
theorem q95 : (Jvm.Cond.initialized "RatioGraph$Piece") ∈ lw_all := lw_g (lw_at lw_m1 31 rfl) rfl
theorem q276 : (Jvm.Cond.selects "RatioGraph$Piece" ({ cls := "java/lang/Object", name := "getClass", desc := "()Ljava/lang/Class;" } : Jvm.MethodName) ({ cls := "java/lang/Object", name := "getClass", desc := "()Ljava/lang/Class;" } : Jvm.MethodName)) ∈ lw_all := lw_g (lw_at lw_m1 212 rfl) rfl
theorem q688 : (Jvm.Cond.fieldLinkNest "RatioGraph$Piece" (26 : Nat) "RatioGraph$Fraction" "n" "J" "RatioGraph") ∈ lw_tbl := lw_at lw_m3 144 rfl
theorem q695 : (Jvm.Cond.fieldLinkNest "RatioGraph$Piece" (31 : Nat) "RatioGraph$Fraction" "d" "J" "RatioGraph") ∈ lw_tbl := lw_at lw_m3 151 rfl
theorem q1197 : (Jvm.Cond.fieldLinkNest "RatioGraph$Piece" (17 : Nat) "RatioGraph$Line" "a" "J" "RatioGraph") ∈ lw_tbl := lw_at lw_m5 173 rfl
theorem q1201 : (Jvm.Cond.fieldLinkNest "RatioGraph$Piece" (23 : Nat) "RatioGraph$Line" "b" "J" "RatioGraph") ∈ lw_tbl := lw_at lw_m5 177 rfl
theorem q1222 : (Jvm.Cond.instantiable "RatioGraph$Piece" (2 : Nat)) ∈ lw_all := lw_g (lw_at lw_m5 198 rfl) rfl
theorem q1224 : (Jvm.Cond.instanceMethod ({ cls := "RatioGraph$Piece", name := "<init>", desc := "(LRatioGraph$Line;LRatioGraph$Fraction;)V" } : Jvm.MethodName)) ∈ lw_all := lw_g (lw_at lw_m5 200 rfl) rfl
theorem q1225 : (Jvm.Cond.code ({ cls := "RatioGraph$Piece", name := "<init>", desc := "(LRatioGraph$Line;LRatioGraph$Fraction;)V" } : Jvm.MethodName) prog_14_method_1_code (3 : Nat) (Option.none : Option Jvm.ClassFile.FieldType)) ∈ lw_all := lw_g (lw_at lw_m5 201 rfl) rfl
theorem q1226 : (Jvm.Cond.methodLink "RatioGraph$Piece" (1 : Nat) ({ cls := "java/lang/Object", name := "<init>", desc := "()V" } : Jvm.MethodName)) ∈ lw_all := lw_g (lw_at lw_m5 202 rfl) rfl
theorem q1227 : (Jvm.Cond.fieldLink "RatioGraph$Piece" (7 : Nat) "RatioGraph$Piece" "line" "LRatioGraph$Line;") ∈ lw_all := lw_g (lw_at lw_m5 203 rfl) rfl
theorem q1228 : (Jvm.Cond.fieldLink "RatioGraph$Piece" (13 : Nat) "RatioGraph$Piece" "begin" "LRatioGraph$Fraction;") ∈ lw_all := lw_g (lw_at lw_m5 204 rfl) rfl
theorem q1229 : (Jvm.Cond.laysFinal "RatioGraph$Piece" "RatioGraph$Piece" "line" "LRatioGraph$Line;") ∈ lw_all := lw_g (lw_at lw_m5 205 rfl) rfl
theorem q1230 : (Jvm.Cond.soleField "RatioGraph$Piece" "line") ∈ lw_all := lw_g (lw_at lw_m5 206 rfl) rfl
theorem q1231 : (Jvm.Cond.laysFinal "RatioGraph$Piece" "RatioGraph$Piece" "begin" "LRatioGraph$Fraction;") ∈ lw_all := lw_g (lw_at lw_m5 207 rfl) rfl
theorem q1232 : (Jvm.Cond.soleField "RatioGraph$Piece" "begin") ∈ lw_all := lw_g (lw_at lw_m5 208 rfl) rfl
theorem q1233 : (Jvm.Cond.superclass "RatioGraph$Piece" "java/lang/Object") ∈ lw_all := lw_g (lw_at lw_m5 209 rfl) rfl
theorem q1249 : (Jvm.Cond.instanceMethod ({ cls := "RatioGraph$Piece", name := "part", desc := "(I)J" } : Jvm.MethodName)) ∈ lw_all := lw_g (lw_at lw_m5 225 rfl) rfl
theorem q1250 : (Jvm.Cond.selects "RatioGraph$Piece" ({ cls := "RatioGraph$Piece", name := "part", desc := "(I)J" } : Jvm.MethodName) ({ cls := "RatioGraph$Piece", name := "part", desc := "(I)J" } : Jvm.MethodName)) ∈ lw_all := lw_g (lw_at lw_m5 226 rfl) rfl
theorem q1251 : (Jvm.Cond.code ({ cls := "RatioGraph$Piece", name := "part", desc := "(I)J" } : Jvm.MethodName) prog_14_method_2_code (2 : Nat) (Option.some Jvm.ClassFile.FieldType.long)) ∈ lw_all := lw_g (lw_at lw_m5 227 rfl) rfl
theorem q1811 : (Jvm.Cond.castable "RatioGraph$Piece" "java/lang/Object") ∈ lw_tbl := lw_at lw_m8 67 rfl
theorem in_X16 : ∀ w ∈ wsX160, w ∈ lw_all := lw_in wsX160 [1229, 1231] (by decide +kernel) (by decide +kernel)

/-! RatioGraph$Bounds -/
set_option maxRecDepth 100000
def RX17 : String := "RatioGraph$Bounds"
def TX17 : u_T := fun k => match k with
  | 0 => ("RatioGraph$Cycles", "start", "I", false)
  | 1 => ("RatioGraph$Cycles", "this$0", "LRatioGraph;", true)
  | 2 => ("RatioGraph$Walk", "allowed", "I", true)
  | 3 => ("RatioGraph$Walk", "sequence", "[I", true)
  | 4 => ("RatioGraph$Walk", "count", "I", false)
  | 5 => ("RatioGraph$Walk", "seen", "I", false)
  | 6 => ("RatioGraph$Walk", "this$0", "LRatioGraph;", true)
  | 7 => ("RatioGraph$Bounds", "least", "LRatioGraph$Fraction;", false)
  | 8 => ("RatioGraph$Bounds", "greatest", "LRatioGraph$Fraction;", false)
  | 9 => ("RatioGraph$Bounds", "isNever", "Z", false)
  | _ => ("RatioGraph$Bounds", "this$0", "LRatioGraph;", true)
def tyX17 : Nat → FieldType := fun k => match k with
  | 0 => .int
  | 1 => .object "RatioGraph"
  | 2 => .int
  | 3 => .array .int
  | 4 => .int
  | 5 => .int
  | 6 => .object "RatioGraph"
  | 7 => .object "RatioGraph$Fraction"
  | 8 => .object "RatioGraph$Fraction"
  | 9 => .boolean
  | _ => .object "RatioGraph"
abbrev wsX170 : List Cond := u_ws RX17 TX17 11
-- two fields of one name: no nmX17
theorem tyX17_ok : ∀ k, k < 11 → parseFieldDescriptor (TX17 k).2.2.1 = some (tyX17 k) := by decide +kernel
abbrev cX17_close : ByteArray := prog_2_method_2_code
def yX17_close : MethodName := ⟨RX17, "close", "()V"⟩
def dkwX17_close_5 : List UInt8 := [181, 0, 40, 177]
abbrev dktX17_close_5 : List UInt8 := dkwX17_close_5 ++ []
def dkwX17_close_4 : List UInt8 := [198, 0, 14, 45, 42, 180, 0, 40, 182, 0, 36, 156, 0, 7, 45, 167, 0, 7, 42, 180, 0, 40]
abbrev dktX17_close_4 : List UInt8 := dkwX17_close_4 ++ dktX17_close_5
def dkwX17_close_3 : List UInt8 := [158, 0, 7, 45, 167, 0, 7, 42, 180, 0, 32, 181, 0, 32, 167, 0, 33, 42, 42, 180, 0, 40]
abbrev dktX17_close_3 : List UInt8 := dkwX17_close_3 ++ dktX17_close_4
def dkwX17_close_2 : List UInt8 := [183, 0, 29, 78, 28, 158, 0, 36, 42, 42, 180, 0, 32, 198, 0, 14, 45, 42, 180, 0, 32, 182, 0, 36]
abbrev dktX17_close_2 : List UInt8 := dkwX17_close_2 ++ dktX17_close_3
def dkwX17_close_1 : List UInt8 := [156, 0, 7, 4, 167, 0, 4, 3, 128, 181, 0, 23, 177, 187, 0, 27, 89, 27, 116, 133, 28, 133]
abbrev dktX17_close_1 : List UInt8 := dkwX17_close_1 ++ dktX17_close_2
def dkwX17_close_0 : List UInt8 := [42, 5, 182, 0, 19, 60, 42, 6, 182, 0, 19, 61, 28, 154, 0, 22, 42, 89, 180, 0, 23, 27]
abbrev dktX17_close_0 : List UInt8 := dkwX17_close_0 ++ dktX17_close_1
theorem dksX17_close_0 : cX17_close.data.toList.drop 0 = dktX17_close_0 := by decide +kernel
theorem dksX17_close_1 : cX17_close.data.toList.drop 22 = dktX17_close_1 := dk_seg dksX17_close_0 22 rfl rfl
theorem dksX17_close_2 : cX17_close.data.toList.drop 44 = dktX17_close_2 := dk_seg dksX17_close_1 22 rfl rfl
theorem dksX17_close_3 : cX17_close.data.toList.drop 68 = dktX17_close_3 := dk_seg dksX17_close_2 24 rfl rfl
theorem dksX17_close_4 : cX17_close.data.toList.drop 90 = dktX17_close_4 := dk_seg dksX17_close_3 22 rfl rfl
theorem dksX17_close_5 : cX17_close.data.toList.drop 112 = dktX17_close_5 := dk_seg dksX17_close_4 22 rfl rfl
theorem dX17_close_0 : decode cX17_close 0 = .ok (.aload_n 0, 1) := dk_42 (dk_at dksX17_close_0 0 rfl rfl)
theorem dX17_close_1 : decode cX17_close 1 = .ok (.iconst 2, 1) := dk_5 (dk_at dksX17_close_0 1 rfl rfl)
theorem dX17_close_2 : decode cX17_close 2 = .ok (.invokevirtual 19, 3) := dk_182 0 19 (dk_at dksX17_close_0 2 rfl rfl)
theorem dX17_close_5 : decode cX17_close 5 = .ok (.istore_n 1, 1) := dk_60 (dk_at dksX17_close_0 5 rfl rfl)
theorem dX17_close_6 : decode cX17_close 6 = .ok (.aload_n 0, 1) := dk_42 (dk_at dksX17_close_0 6 rfl rfl)
theorem dX17_close_7 : decode cX17_close 7 = .ok (.iconst 3, 1) := dk_6 (dk_at dksX17_close_0 7 rfl rfl)
theorem dX17_close_8 : decode cX17_close 8 = .ok (.invokevirtual 19, 3) := dk_182 0 19 (dk_at dksX17_close_0 8 rfl rfl)
theorem dX17_close_11 : decode cX17_close 11 = .ok (.istore_n 2, 1) := dk_61 (dk_at dksX17_close_0 11 rfl rfl)
theorem dX17_close_12 : decode cX17_close 12 = .ok (.iload_n 2, 1) := dk_28 (dk_at dksX17_close_0 12 rfl rfl)
theorem dX17_close_13 : decode cX17_close 13 = .ok (.ifCond .ne 22, 3) := dk_154 0 22 (dk_at dksX17_close_0 13 rfl rfl)
theorem dX17_close_16 : decode cX17_close 16 = .ok (.aload_n 0, 1) := dk_42 (dk_at dksX17_close_0 16 rfl rfl)
theorem dX17_close_17 : decode cX17_close 17 = .ok (.dup, 1) := dk_89 (dk_at dksX17_close_0 17 rfl rfl)
theorem dX17_close_18 : decode cX17_close 18 = .ok (.getfield 23, 3) := dk_180 0 23 (dk_at dksX17_close_0 18 rfl rfl)
theorem dX17_close_21 : decode cX17_close 21 = .ok (.iload_n 1, 1) := dk_27 (dk_at dksX17_close_0 21 rfl rfl)
theorem dX17_close_22 : decode cX17_close 22 = .ok (.ifCond .ge 7, 3) := dk_156 0 7 (dk_at dksX17_close_1 0 rfl rfl)
theorem dX17_close_25 : decode cX17_close 25 = .ok (.iconst 1, 1) := dk_4 (dk_at dksX17_close_1 3 rfl rfl)
theorem dX17_close_26 : decode cX17_close 26 = .ok (.goto 4, 3) := dk_167 0 4 (dk_at dksX17_close_1 4 rfl rfl)
theorem dX17_close_29 : decode cX17_close 29 = .ok (.iconst 0, 1) := dk_3 (dk_at dksX17_close_1 7 rfl rfl)
theorem dX17_close_30 : decode cX17_close 30 = .ok (.ior, 1) := dk_128 (dk_at dksX17_close_1 8 rfl rfl)
theorem dX17_close_31 : decode cX17_close 31 = .ok (.putfield 23, 3) := dk_181 0 23 (dk_at dksX17_close_1 9 rfl rfl)
theorem dX17_close_34 : decode cX17_close 34 = .ok (.return_, 1) := dk_177 (dk_at dksX17_close_1 12 rfl rfl)
theorem dX17_close_35 : decode cX17_close 35 = .ok (.new 27, 3) := dk_187 0 27 (dk_at dksX17_close_1 13 rfl rfl)
theorem dX17_close_38 : decode cX17_close 38 = .ok (.dup, 1) := dk_89 (dk_at dksX17_close_1 16 rfl rfl)
theorem dX17_close_39 : decode cX17_close 39 = .ok (.iload_n 1, 1) := dk_27 (dk_at dksX17_close_1 17 rfl rfl)
theorem dX17_close_40 : decode cX17_close 40 = .ok (.ineg, 1) := dk_116 (dk_at dksX17_close_1 18 rfl rfl)
theorem dX17_close_41 : decode cX17_close 41 = .ok (.i2l, 1) := dk_133 (dk_at dksX17_close_1 19 rfl rfl)
theorem dX17_close_42 : decode cX17_close 42 = .ok (.iload_n 2, 1) := dk_28 (dk_at dksX17_close_1 20 rfl rfl)
theorem dX17_close_43 : decode cX17_close 43 = .ok (.i2l, 1) := dk_133 (dk_at dksX17_close_1 21 rfl rfl)
theorem dX17_close_44 : decode cX17_close 44 = .ok (.invokespecial 29, 3) := dk_183 0 29 (dk_at dksX17_close_2 0 rfl rfl)
theorem dX17_close_47 : decode cX17_close 47 = .ok (.astore_n 3, 1) := dk_78 (dk_at dksX17_close_2 3 rfl rfl)
theorem dX17_close_48 : decode cX17_close 48 = .ok (.iload_n 2, 1) := dk_28 (dk_at dksX17_close_2 4 rfl rfl)
theorem dX17_close_49 : decode cX17_close 49 = .ok (.ifCond .le 36, 3) := dk_158 0 36 (dk_at dksX17_close_2 5 rfl rfl)
theorem dX17_close_52 : decode cX17_close 52 = .ok (.aload_n 0, 1) := dk_42 (dk_at dksX17_close_2 8 rfl rfl)
theorem dX17_close_53 : decode cX17_close 53 = .ok (.aload_n 0, 1) := dk_42 (dk_at dksX17_close_2 9 rfl rfl)
theorem dX17_close_54 : decode cX17_close 54 = .ok (.getfield 32, 3) := dk_180 0 32 (dk_at dksX17_close_2 10 rfl rfl)
theorem dX17_close_57 : decode cX17_close 57 = .ok (.ifnull 14, 3) := dk_198 0 14 (dk_at dksX17_close_2 13 rfl rfl)
theorem dX17_close_60 : decode cX17_close 60 = .ok (.aload_n 3, 1) := dk_45 (dk_at dksX17_close_2 16 rfl rfl)
theorem dX17_close_61 : decode cX17_close 61 = .ok (.aload_n 0, 1) := dk_42 (dk_at dksX17_close_2 17 rfl rfl)
theorem dX17_close_62 : decode cX17_close 62 = .ok (.getfield 32, 3) := dk_180 0 32 (dk_at dksX17_close_2 18 rfl rfl)
theorem dX17_close_65 : decode cX17_close 65 = .ok (.invokevirtual 36, 3) := dk_182 0 36 (dk_at dksX17_close_2 21 rfl rfl)
theorem dX17_close_68 : decode cX17_close 68 = .ok (.ifCond .le 7, 3) := dk_158 0 7 (dk_at dksX17_close_3 0 rfl rfl)
theorem dX17_close_71 : decode cX17_close 71 = .ok (.aload_n 3, 1) := dk_45 (dk_at dksX17_close_3 3 rfl rfl)
theorem dX17_close_72 : decode cX17_close 72 = .ok (.goto 7, 3) := dk_167 0 7 (dk_at dksX17_close_3 4 rfl rfl)
theorem dX17_close_75 : decode cX17_close 75 = .ok (.aload_n 0, 1) := dk_42 (dk_at dksX17_close_3 7 rfl rfl)
theorem dX17_close_76 : decode cX17_close 76 = .ok (.getfield 32, 3) := dk_180 0 32 (dk_at dksX17_close_3 8 rfl rfl)
theorem dX17_close_79 : decode cX17_close 79 = .ok (.putfield 32, 3) := dk_181 0 32 (dk_at dksX17_close_3 11 rfl rfl)
theorem dX17_close_82 : decode cX17_close 82 = .ok (.goto 33, 3) := dk_167 0 33 (dk_at dksX17_close_3 14 rfl rfl)
theorem dX17_close_85 : decode cX17_close 85 = .ok (.aload_n 0, 1) := dk_42 (dk_at dksX17_close_3 17 rfl rfl)
theorem dX17_close_86 : decode cX17_close 86 = .ok (.aload_n 0, 1) := dk_42 (dk_at dksX17_close_3 18 rfl rfl)
theorem dX17_close_87 : decode cX17_close 87 = .ok (.getfield 40, 3) := dk_180 0 40 (dk_at dksX17_close_3 19 rfl rfl)
theorem dX17_close_90 : decode cX17_close 90 = .ok (.ifnull 14, 3) := dk_198 0 14 (dk_at dksX17_close_4 0 rfl rfl)
theorem dX17_close_93 : decode cX17_close 93 = .ok (.aload_n 3, 1) := dk_45 (dk_at dksX17_close_4 3 rfl rfl)
theorem dX17_close_94 : decode cX17_close 94 = .ok (.aload_n 0, 1) := dk_42 (dk_at dksX17_close_4 4 rfl rfl)
theorem dX17_close_95 : decode cX17_close 95 = .ok (.getfield 40, 3) := dk_180 0 40 (dk_at dksX17_close_4 5 rfl rfl)
theorem dX17_close_98 : decode cX17_close 98 = .ok (.invokevirtual 36, 3) := dk_182 0 36 (dk_at dksX17_close_4 8 rfl rfl)
theorem dX17_close_101 : decode cX17_close 101 = .ok (.ifCond .ge 7, 3) := dk_156 0 7 (dk_at dksX17_close_4 11 rfl rfl)
theorem dX17_close_104 : decode cX17_close 104 = .ok (.aload_n 3, 1) := dk_45 (dk_at dksX17_close_4 14 rfl rfl)
theorem dX17_close_105 : decode cX17_close 105 = .ok (.goto 7, 3) := dk_167 0 7 (dk_at dksX17_close_4 15 rfl rfl)
theorem dX17_close_108 : decode cX17_close 108 = .ok (.aload_n 0, 1) := dk_42 (dk_at dksX17_close_4 18 rfl rfl)
theorem dX17_close_109 : decode cX17_close 109 = .ok (.getfield 40, 3) := dk_180 0 40 (dk_at dksX17_close_4 19 rfl rfl)
theorem dX17_close_112 : decode cX17_close 112 = .ok (.putfield 40, 3) := dk_181 0 40 (dk_at dksX17_close_5 0 rfl rfl)
theorem dX17_close_115 : decode cX17_close 115 = .ok (.return_, 1) := dk_177 (dk_at dksX17_close_5 3 rfl rfl)
abbrev cX17_init : ByteArray := prog_2_method_1_code
def yX17_init : MethodName := ⟨RX17, "<init>", "(LRatioGraph;)V"⟩
def dkwX17_init_0 : List UInt8 := [42, 43, 181, 0, 1, 42, 43, 43, 182, 0, 7, 183, 0, 13, 177]
abbrev dktX17_init_0 : List UInt8 := dkwX17_init_0 ++ []
theorem dksX17_init_0 : cX17_init.data.toList.drop 0 = dktX17_init_0 := by decide +kernel
theorem dX17_init_0 : decode cX17_init 0 = .ok (.aload_n 0, 1) := dk_42 (dk_at dksX17_init_0 0 rfl rfl)
theorem dX17_init_1 : decode cX17_init 1 = .ok (.aload_n 1, 1) := dk_43 (dk_at dksX17_init_0 1 rfl rfl)
theorem dX17_init_2 : decode cX17_init 2 = .ok (.putfield 1, 3) := dk_181 0 1 (dk_at dksX17_init_0 2 rfl rfl)
theorem dX17_init_5 : decode cX17_init 5 = .ok (.aload_n 0, 1) := dk_42 (dk_at dksX17_init_0 5 rfl rfl)
theorem dX17_init_6 : decode cX17_init 6 = .ok (.aload_n 1, 1) := dk_43 (dk_at dksX17_init_0 6 rfl rfl)
theorem dX17_init_7 : decode cX17_init 7 = .ok (.aload_n 1, 1) := dk_43 (dk_at dksX17_init_0 7 rfl rfl)
theorem dX17_init_8 : decode cX17_init 8 = .ok (.invokevirtual 7, 3) := dk_182 0 7 (dk_at dksX17_init_0 8 rfl rfl)
theorem dX17_init_11 : decode cX17_init 11 = .ok (.invokespecial 13, 3) := dk_183 0 13 (dk_at dksX17_init_0 11 rfl rfl)
theorem dX17_init_14 : decode cX17_init 14 = .ok (.return_, 1) := dk_177 (dk_at dksX17_init_0 14 rfl rfl)
abbrev cX17_isEmpty : ByteArray := prog_2_method_3_code
def yX17_isEmpty : MethodName := ⟨RX17, "isEmpty", "()Z"⟩
def dkwX17_isEmpty_1 : List UInt8 := [198, 0, 21, 42, 180, 0, 32, 42, 180, 0, 40, 182, 0, 36, 158, 0, 7, 4, 167, 0, 4, 3, 172]
abbrev dktX17_isEmpty_1 : List UInt8 := dkwX17_isEmpty_1 ++ []
def dkwX17_isEmpty_0 : List UInt8 := [42, 182, 0, 43, 42, 180, 0, 23, 154, 0, 31, 42, 180, 0, 32, 198, 0, 28, 42, 180, 0, 40]
abbrev dktX17_isEmpty_0 : List UInt8 := dkwX17_isEmpty_0 ++ dktX17_isEmpty_1
theorem dksX17_isEmpty_0 : cX17_isEmpty.data.toList.drop 0 = dktX17_isEmpty_0 := by decide +kernel
theorem dksX17_isEmpty_1 : cX17_isEmpty.data.toList.drop 22 = dktX17_isEmpty_1 := dk_seg dksX17_isEmpty_0 22 rfl rfl
theorem dX17_isEmpty_0 : decode cX17_isEmpty 0 = .ok (.aload_n 0, 1) := dk_42 (dk_at dksX17_isEmpty_0 0 rfl rfl)
theorem dX17_isEmpty_1 : decode cX17_isEmpty 1 = .ok (.invokevirtual 43, 3) := dk_182 0 43 (dk_at dksX17_isEmpty_0 1 rfl rfl)
theorem dX17_isEmpty_4 : decode cX17_isEmpty 4 = .ok (.aload_n 0, 1) := dk_42 (dk_at dksX17_isEmpty_0 4 rfl rfl)
theorem dX17_isEmpty_5 : decode cX17_isEmpty 5 = .ok (.getfield 23, 3) := dk_180 0 23 (dk_at dksX17_isEmpty_0 5 rfl rfl)
theorem dX17_isEmpty_8 : decode cX17_isEmpty 8 = .ok (.ifCond .ne 31, 3) := dk_154 0 31 (dk_at dksX17_isEmpty_0 8 rfl rfl)
theorem dX17_isEmpty_11 : decode cX17_isEmpty 11 = .ok (.aload_n 0, 1) := dk_42 (dk_at dksX17_isEmpty_0 11 rfl rfl)
theorem dX17_isEmpty_12 : decode cX17_isEmpty 12 = .ok (.getfield 32, 3) := dk_180 0 32 (dk_at dksX17_isEmpty_0 12 rfl rfl)
theorem dX17_isEmpty_15 : decode cX17_isEmpty 15 = .ok (.ifnull 28, 3) := dk_198 0 28 (dk_at dksX17_isEmpty_0 15 rfl rfl)
theorem dX17_isEmpty_18 : decode cX17_isEmpty 18 = .ok (.aload_n 0, 1) := dk_42 (dk_at dksX17_isEmpty_0 18 rfl rfl)
theorem dX17_isEmpty_19 : decode cX17_isEmpty 19 = .ok (.getfield 40, 3) := dk_180 0 40 (dk_at dksX17_isEmpty_0 19 rfl rfl)
theorem dX17_isEmpty_22 : decode cX17_isEmpty 22 = .ok (.ifnull 21, 3) := dk_198 0 21 (dk_at dksX17_isEmpty_1 0 rfl rfl)
theorem dX17_isEmpty_25 : decode cX17_isEmpty 25 = .ok (.aload_n 0, 1) := dk_42 (dk_at dksX17_isEmpty_1 3 rfl rfl)
theorem dX17_isEmpty_26 : decode cX17_isEmpty 26 = .ok (.getfield 32, 3) := dk_180 0 32 (dk_at dksX17_isEmpty_1 4 rfl rfl)
theorem dX17_isEmpty_29 : decode cX17_isEmpty 29 = .ok (.aload_n 0, 1) := dk_42 (dk_at dksX17_isEmpty_1 7 rfl rfl)
theorem dX17_isEmpty_30 : decode cX17_isEmpty 30 = .ok (.getfield 40, 3) := dk_180 0 40 (dk_at dksX17_isEmpty_1 8 rfl rfl)
theorem dX17_isEmpty_33 : decode cX17_isEmpty 33 = .ok (.invokevirtual 36, 3) := dk_182 0 36 (dk_at dksX17_isEmpty_1 11 rfl rfl)
theorem dX17_isEmpty_36 : decode cX17_isEmpty 36 = .ok (.ifCond .le 7, 3) := dk_158 0 7 (dk_at dksX17_isEmpty_1 14 rfl rfl)
theorem dX17_isEmpty_39 : decode cX17_isEmpty 39 = .ok (.iconst 1, 1) := dk_4 (dk_at dksX17_isEmpty_1 17 rfl rfl)
theorem dX17_isEmpty_40 : decode cX17_isEmpty 40 = .ok (.goto 4, 3) := dk_167 0 4 (dk_at dksX17_isEmpty_1 18 rfl rfl)
theorem dX17_isEmpty_43 : decode cX17_isEmpty 43 = .ok (.iconst 0, 1) := dk_3 (dk_at dksX17_isEmpty_1 21 rfl rfl)
theorem dX17_isEmpty_44 : decode cX17_isEmpty 44 = .ok (.ireturn, 1) := dk_172 (dk_at dksX17_isEmpty_1 22 rfl rfl)
theorem q96 : (Jvm.Cond.initialized "RatioGraph$Bounds") ∈ lw_all := lw_g (lw_at lw_m1 32 rfl) rfl
theorem q265 : (Jvm.Cond.selects "RatioGraph$Bounds" ({ cls := "java/lang/Object", name := "getClass", desc := "()Ljava/lang/Class;" } : Jvm.MethodName) ({ cls := "java/lang/Object", name := "getClass", desc := "()Ljava/lang/Class;" } : Jvm.MethodName)) ∈ lw_all := lw_g (lw_at lw_m1 201 rfl) rfl
theorem q809 : (Jvm.Cond.selects "RatioGraph$Bounds" ({ cls := "RatioGraph$Cycles", name := "walk", desc := "(I)V" } : Jvm.MethodName) ({ cls := "RatioGraph$Walk", name := "walk", desc := "(I)V" } : Jvm.MethodName)) ∈ lw_all := lw_g (lw_at lw_m4 25 rfl) rfl
theorem q826 : (Jvm.Cond.selects "RatioGraph$Bounds" ({ cls := "RatioGraph$Walk", name := "arrive", desc := "(I)V" } : Jvm.MethodName) ({ cls := "RatioGraph$Cycles", name := "arrive", desc := "(I)V" } : Jvm.MethodName)) ∈ lw_all := lw_g (lw_at lw_m4 42 rfl) rfl
theorem q832 : (Jvm.Cond.selects "RatioGraph$Bounds" ({ cls := "RatioGraph$Cycles", name := "close", desc := "()V" } : Jvm.MethodName) ({ cls := "RatioGraph$Bounds", name := "close", desc := "()V" } : Jvm.MethodName)) ∈ lw_all := lw_g (lw_at lw_m4 48 rfl) rfl
theorem q833 : (Jvm.Cond.instanceMethod ({ cls := "RatioGraph$Bounds", name := "close", desc := "()V" } : Jvm.MethodName)) ∈ lw_all := lw_g (lw_at lw_m4 49 rfl) rfl
theorem q834 : (Jvm.Cond.code ({ cls := "RatioGraph$Bounds", name := "close", desc := "()V" } : Jvm.MethodName) prog_2_method_2_code (4 : Nat) (Option.none : Option Jvm.ClassFile.FieldType)) ∈ lw_all := lw_g (lw_at lw_m4 50 rfl) rfl
theorem q835 : (Jvm.Cond.methodLink "RatioGraph$Bounds" (19 : Nat) ({ cls := "RatioGraph$Bounds", name := "sum", desc := "(I)I" } : Jvm.MethodName)) ∈ lw_all := lw_g (lw_at lw_m4 51 rfl) rfl
theorem q836 : (Jvm.Cond.sameMethod "RatioGraph$Bounds" "RatioGraph$Cycles" "sum" "(I)I") ∈ lw_all := lw_g (lw_at lw_m4 52 rfl) rfl
theorem q838 : (Jvm.Cond.selects "RatioGraph$Bounds" ({ cls := "RatioGraph$Bounds", name := "sum", desc := "(I)I" } : Jvm.MethodName) ({ cls := "RatioGraph$Cycles", name := "sum", desc := "(I)I" } : Jvm.MethodName)) ∈ lw_all := lw_g (lw_at lw_m4 54 rfl) rfl
theorem q844 : (Jvm.Cond.selects "RatioGraph$Bounds" ({ cls := "RatioGraph$Cycles", name := "count", desc := "()I" } : Jvm.MethodName) ({ cls := "RatioGraph$Walk", name := "count", desc := "()I" } : Jvm.MethodName)) ∈ lw_all := lw_g (lw_at lw_m4 60 rfl) rfl
theorem q854 : (Jvm.Cond.selects "RatioGraph$Bounds" ({ cls := "RatioGraph$Cycles", name := "edgeAt", desc := "(I)LRatioGraph$Edge;" } : Jvm.MethodName) ({ cls := "RatioGraph$Walk", name := "edgeAt", desc := "(I)LRatioGraph$Edge;" } : Jvm.MethodName)) ∈ lw_all := lw_g (lw_at lw_m4 70 rfl) rfl
theorem q862 : (Jvm.Cond.classLink "RatioGraph$Bounds" (27 : Nat) "RatioGraph$Fraction") ∈ lw_all := lw_g (lw_at lw_m4 78 rfl) rfl
theorem q863 : (Jvm.Cond.methodLink "RatioGraph$Bounds" (29 : Nat) ({ cls := "RatioGraph$Fraction", name := "<init>", desc := "(JJ)V" } : Jvm.MethodName)) ∈ lw_all := lw_g (lw_at lw_m4 79 rfl) rfl
theorem q864 : (Jvm.Cond.methodLink "RatioGraph$Bounds" (36 : Nat) ({ cls := "RatioGraph$Fraction", name := "compareTo", desc := "(LRatioGraph$Fraction;)I" } : Jvm.MethodName)) ∈ lw_all := lw_g (lw_at lw_m4 80 rfl) rfl
theorem q966 : (Jvm.Cond.selects "RatioGraph$Bounds" ({ cls := "RatioGraph$Walk", name := "hasSeen", desc := "(I)Z" } : Jvm.MethodName) ({ cls := "RatioGraph$Walk", name := "hasSeen", desc := "(I)Z" } : Jvm.MethodName)) ∈ lw_all := lw_g (lw_at lw_m4 182 rfl) rfl
theorem q976 : (Jvm.Cond.selects "RatioGraph$Bounds" ({ cls := "RatioGraph$Walk", name := "goesOn", desc := "(I)Z" } : Jvm.MethodName) ({ cls := "RatioGraph$Cycles", name := "goesOn", desc := "(I)Z" } : Jvm.MethodName)) ∈ lw_all := lw_g (lw_at lw_m4 192 rfl) rfl
theorem q1257 : (Jvm.Cond.instantiable "RatioGraph$Bounds" (11 : Nat)) ∈ lw_all := lw_g (lw_at lw_m5 233 rfl) rfl
theorem q1259 : (Jvm.Cond.instanceMethod ({ cls := "RatioGraph$Bounds", name := "<init>", desc := "(LRatioGraph;)V" } : Jvm.MethodName)) ∈ lw_all := lw_g (lw_at lw_m5 235 rfl) rfl
theorem q1260 : (Jvm.Cond.code ({ cls := "RatioGraph$Bounds", name := "<init>", desc := "(LRatioGraph;)V" } : Jvm.MethodName) prog_2_method_1_code (2 : Nat) (Option.none : Option Jvm.ClassFile.FieldType)) ∈ lw_all := lw_g (lw_at lw_m5 236 rfl) rfl
theorem q1261 : (Jvm.Cond.methodLinkNest "RatioGraph$Bounds" (7 : Nat) ({ cls := "RatioGraph", name := "allEdges", desc := "()I" } : Jvm.MethodName) "RatioGraph") ∈ lw_tbl := lw_at lw_m5 237 rfl
theorem q1262 : (Jvm.Cond.methodLink "RatioGraph$Bounds" (13 : Nat) ({ cls := "RatioGraph$Cycles", name := "<init>", desc := "(LRatioGraph;I)V" } : Jvm.MethodName)) ∈ lw_all := lw_g (lw_at lw_m5 238 rfl) rfl
theorem q1263 : (Jvm.Cond.fieldLink "RatioGraph$Bounds" (32 : Nat) "RatioGraph$Bounds" "least" "LRatioGraph$Fraction;") ∈ lw_all := lw_g (lw_at lw_m5 239 rfl) rfl
theorem q1265 : (Jvm.Cond.fieldLink "RatioGraph$Bounds" (40 : Nat) "RatioGraph$Bounds" "greatest" "LRatioGraph$Fraction;") ∈ lw_all := lw_g (lw_at lw_m6 1 rfl) rfl
theorem q1267 : (Jvm.Cond.fieldLink "RatioGraph$Bounds" (23 : Nat) "RatioGraph$Bounds" "isNever" "Z") ∈ lw_all := lw_g (lw_at lw_m6 3 rfl) rfl
theorem q1268 : (Jvm.Cond.fieldLink "RatioGraph$Bounds" (1 : Nat) "RatioGraph$Bounds" "this$0" "LRatioGraph;") ∈ lw_all := lw_g (lw_at lw_m6 4 rfl) rfl
theorem q1269 : (Jvm.Cond.lays "RatioGraph$Bounds" "RatioGraph$Bounds" "least" "LRatioGraph$Fraction;") ∈ lw_all := lw_g (lw_at lw_m6 5 rfl) rfl
theorem q1270 : (Jvm.Cond.soleField "RatioGraph$Bounds" "least") ∈ lw_all := lw_g (lw_at lw_m6 6 rfl) rfl
theorem q1271 : (Jvm.Cond.lays "RatioGraph$Bounds" "RatioGraph$Bounds" "greatest" "LRatioGraph$Fraction;") ∈ lw_all := lw_g (lw_at lw_m6 7 rfl) rfl
theorem q1272 : (Jvm.Cond.soleField "RatioGraph$Bounds" "greatest") ∈ lw_all := lw_g (lw_at lw_m6 8 rfl) rfl
theorem q1273 : (Jvm.Cond.lays "RatioGraph$Bounds" "RatioGraph$Bounds" "isNever" "Z") ∈ lw_all := lw_g (lw_at lw_m6 9 rfl) rfl
theorem q1274 : (Jvm.Cond.soleField "RatioGraph$Bounds" "isNever") ∈ lw_all := lw_g (lw_at lw_m6 10 rfl) rfl
theorem q1275 : (Jvm.Cond.laysFinal "RatioGraph$Bounds" "RatioGraph$Bounds" "this$0" "LRatioGraph;") ∈ lw_all := lw_g (lw_at lw_m6 11 rfl) rfl
theorem q1276 : (Jvm.Cond.soleField "RatioGraph$Bounds" "this$0") ∈ lw_all := lw_g (lw_at lw_m6 12 rfl) rfl
theorem q1277 : (Jvm.Cond.lays "RatioGraph$Bounds" "RatioGraph$Cycles" "start" "I") ∈ lw_all := lw_g (lw_at lw_m6 13 rfl) rfl
theorem q1278 : (Jvm.Cond.laysFinal "RatioGraph$Bounds" "RatioGraph$Cycles" "this$0" "LRatioGraph;") ∈ lw_all := lw_g (lw_at lw_m6 14 rfl) rfl
theorem q1279 : (Jvm.Cond.laysFinal "RatioGraph$Bounds" "RatioGraph$Walk" "allowed" "I") ∈ lw_all := lw_g (lw_at lw_m6 15 rfl) rfl
theorem q1280 : (Jvm.Cond.laysFinal "RatioGraph$Bounds" "RatioGraph$Walk" "sequence" "[I") ∈ lw_all := lw_g (lw_at lw_m6 16 rfl) rfl
theorem q1281 : (Jvm.Cond.lays "RatioGraph$Bounds" "RatioGraph$Walk" "count" "I") ∈ lw_all := lw_g (lw_at lw_m6 17 rfl) rfl
theorem q1282 : (Jvm.Cond.lays "RatioGraph$Bounds" "RatioGraph$Walk" "seen" "I") ∈ lw_all := lw_g (lw_at lw_m6 18 rfl) rfl
theorem q1283 : (Jvm.Cond.laysFinal "RatioGraph$Bounds" "RatioGraph$Walk" "this$0" "LRatioGraph;") ∈ lw_all := lw_g (lw_at lw_m6 19 rfl) rfl
theorem q1284 : (Jvm.Cond.superclass "RatioGraph$Bounds" "RatioGraph$Cycles") ∈ lw_all := lw_g (lw_at lw_m6 20 rfl) rfl
theorem q1286 : (Jvm.Cond.instanceMethod ({ cls := "RatioGraph$Bounds", name := "isEmpty", desc := "()Z" } : Jvm.MethodName)) ∈ lw_all := lw_g (lw_at lw_m6 22 rfl) rfl
theorem q1287 : (Jvm.Cond.selects "RatioGraph$Bounds" ({ cls := "RatioGraph$Bounds", name := "isEmpty", desc := "()Z" } : Jvm.MethodName) ({ cls := "RatioGraph$Bounds", name := "isEmpty", desc := "()Z" } : Jvm.MethodName)) ∈ lw_all := lw_g (lw_at lw_m6 23 rfl) rfl
theorem q1288 : (Jvm.Cond.code ({ cls := "RatioGraph$Bounds", name := "isEmpty", desc := "()Z" } : Jvm.MethodName) prog_2_method_3_code (1 : Nat) (Option.some Jvm.ClassFile.FieldType.boolean)) ∈ lw_all := lw_g (lw_at lw_m6 24 rfl) rfl
theorem q1289 : (Jvm.Cond.methodLink "RatioGraph$Bounds" (43 : Nat) ({ cls := "RatioGraph$Bounds", name := "walkAll", desc := "()V" } : Jvm.MethodName)) ∈ lw_all := lw_g (lw_at lw_m6 25 rfl) rfl
theorem q1290 : (Jvm.Cond.sameMethod "RatioGraph$Bounds" "RatioGraph$Cycles" "walkAll" "()V") ∈ lw_all := lw_g (lw_at lw_m6 26 rfl) rfl
theorem q1291 : (Jvm.Cond.selects "RatioGraph$Bounds" ({ cls := "RatioGraph$Bounds", name := "walkAll", desc := "()V" } : Jvm.MethodName) ({ cls := "RatioGraph$Cycles", name := "walkAll", desc := "()V" } : Jvm.MethodName)) ∈ lw_all := lw_g (lw_at lw_m6 27 rfl) rfl
theorem q1787 : (Jvm.Cond.selects "RatioGraph$Bounds" ({ cls := "RatioGraph$Walk", name := "walk", desc := "(I)V" } : Jvm.MethodName) ({ cls := "RatioGraph$Walk", name := "walk", desc := "(I)V" } : Jvm.MethodName)) ∈ lw_all := lw_g (lw_at lw_m8 43 rfl) rfl
theorem q1812 : (Jvm.Cond.castable "RatioGraph$Bounds" "java/lang/Object") ∈ lw_tbl := lw_at lw_m8 68 rfl
theorem in_X17 : ∀ w ∈ wsX170, w ∈ lw_all := lw_in wsX170 [1277, 1278, 1279, 1280, 1281, 1282, 1283, 1269, 1271, 1273, 1275] (by decide +kernel) (by decide +kernel)

/-! RatioGraph$Conversions -/
set_option maxRecDepth 100000
def RX18 : String := "RatioGraph$Conversions"
def TX18 : u_T := fun k => match k with
  | 0 => ("RatioGraph$Walk", "allowed", "I", true)
  | 1 => ("RatioGraph$Walk", "sequence", "[I", true)
  | 2 => ("RatioGraph$Walk", "count", "I", false)
  | 3 => ("RatioGraph$Walk", "seen", "I", false)
  | 4 => ("RatioGraph$Walk", "this$0", "LRatioGraph;", true)
  | 5 => ("RatioGraph$Conversions", "to", "I", true)
  | 6 => ("RatioGraph$Conversions", "best", "LRatioGraph$Finding;", false)
  | _ => ("RatioGraph$Conversions", "this$0", "LRatioGraph;", true)
def tyX18 : Nat → FieldType := fun k => match k with
  | 0 => .int
  | 1 => .array .int
  | 2 => .int
  | 3 => .int
  | 4 => .object "RatioGraph"
  | 5 => .int
  | 6 => .object "RatioGraph$Finding"
  | _ => .object "RatioGraph"
abbrev wsX180 : List Cond := u_ws RX18 TX18 8
-- two fields of one name: no nmX18
theorem tyX18_ok : ∀ k, k < 8 → parseFieldDescriptor (TX18 k).2.2.1 = some (tyX18 k) := by decide +kernel
abbrev cX18_arrive : ByteArray := prog_4_method_3_code
def yX18_arrive : MethodName := ⟨RX18, "arrive", "(I)V"⟩
def dkwX18_arrive_5 : List UInt8 := [181, 0, 47, 177]
abbrev dktX18_arrive_5 : List UInt8 := dkwX18_arrive_5 ++ []
def dkwX18_arrive_4 : List UInt8 := [157, 0, 15, 25, 4, 42, 180, 0, 47, 182, 0, 65, 153, 0, 8, 25, 4, 167, 0, 7, 42, 180, 0, 47]
abbrev dktX18_arrive_4 : List UInt8 := dkwX18_arrive_4 ++ dktX18_arrive_5
def dkwX18_arrive_3 : List UInt8 := [180, 0, 47, 180, 0, 51, 182, 0, 57, 62, 29, 155, 0, 39, 42, 44, 182, 0, 61, 58, 4, 42, 29]
abbrev dktX18_arrive_3 : List UInt8 := dkwX18_arrive_3 ++ dktX18_arrive_4
def dkwX18_arrive_2 : List UInt8 := [133, 182, 0, 43, 77, 132, 3, 1, 167, 255, 222, 42, 180, 0, 47, 199, 0, 7, 4, 167, 0, 14, 44, 42]
abbrev dktX18_arrive_2 : List UInt8 := dkwX18_arrive_2 ++ dktX18_arrive_3
def dkwX18_arrive_1 : List UInt8 := [182, 0, 28, 162, 0, 32, 44, 42, 29, 182, 0, 31, 180, 0, 35, 133, 42, 29, 182, 0, 31, 180, 0, 40]
abbrev dktX18_arrive_1 : List UInt8 := dkwX18_arrive_1 ++ dktX18_arrive_2
def dkwX18_arrive_0 : List UInt8 := [27, 42, 180, 0, 19, 159, 0, 4, 177, 187, 0, 23, 89, 10, 183, 0, 25, 77, 3, 62, 29, 42]
abbrev dktX18_arrive_0 : List UInt8 := dkwX18_arrive_0 ++ dktX18_arrive_1
theorem dksX18_arrive_0 : cX18_arrive.data.toList.drop 0 = dktX18_arrive_0 := by decide +kernel
theorem dksX18_arrive_1 : cX18_arrive.data.toList.drop 22 = dktX18_arrive_1 := dk_seg dksX18_arrive_0 22 rfl rfl
theorem dksX18_arrive_2 : cX18_arrive.data.toList.drop 46 = dktX18_arrive_2 := dk_seg dksX18_arrive_1 24 rfl rfl
theorem dksX18_arrive_3 : cX18_arrive.data.toList.drop 70 = dktX18_arrive_3 := dk_seg dksX18_arrive_2 24 rfl rfl
theorem dksX18_arrive_4 : cX18_arrive.data.toList.drop 93 = dktX18_arrive_4 := dk_seg dksX18_arrive_3 23 rfl rfl
theorem dksX18_arrive_5 : cX18_arrive.data.toList.drop 117 = dktX18_arrive_5 := dk_seg dksX18_arrive_4 24 rfl rfl
theorem dX18_arrive_0 : decode cX18_arrive 0 = .ok (.iload_n 1, 1) := dk_27 (dk_at dksX18_arrive_0 0 rfl rfl)
theorem dX18_arrive_1 : decode cX18_arrive 1 = .ok (.aload_n 0, 1) := dk_42 (dk_at dksX18_arrive_0 1 rfl rfl)
theorem dX18_arrive_2 : decode cX18_arrive 2 = .ok (.getfield 19, 3) := dk_180 0 19 (dk_at dksX18_arrive_0 2 rfl rfl)
theorem dX18_arrive_5 : decode cX18_arrive 5 = .ok (.if_icmp .eq 4, 3) := dk_159 0 4 (dk_at dksX18_arrive_0 5 rfl rfl)
theorem dX18_arrive_8 : decode cX18_arrive 8 = .ok (.return_, 1) := dk_177 (dk_at dksX18_arrive_0 8 rfl rfl)
theorem dX18_arrive_9 : decode cX18_arrive 9 = .ok (.new 23, 3) := dk_187 0 23 (dk_at dksX18_arrive_0 9 rfl rfl)
theorem dX18_arrive_12 : decode cX18_arrive 12 = .ok (.dup, 1) := dk_89 (dk_at dksX18_arrive_0 12 rfl rfl)
theorem dX18_arrive_13 : decode cX18_arrive 13 = .ok (.lconst 1, 1) := dk_10 (dk_at dksX18_arrive_0 13 rfl rfl)
theorem dX18_arrive_14 : decode cX18_arrive 14 = .ok (.invokespecial 25, 3) := dk_183 0 25 (dk_at dksX18_arrive_0 14 rfl rfl)
theorem dX18_arrive_17 : decode cX18_arrive 17 = .ok (.astore_n 2, 1) := dk_77 (dk_at dksX18_arrive_0 17 rfl rfl)
theorem dX18_arrive_18 : decode cX18_arrive 18 = .ok (.iconst 0, 1) := dk_3 (dk_at dksX18_arrive_0 18 rfl rfl)
theorem dX18_arrive_19 : decode cX18_arrive 19 = .ok (.istore_n 3, 1) := dk_62 (dk_at dksX18_arrive_0 19 rfl rfl)
theorem dX18_arrive_20 : decode cX18_arrive 20 = .ok (.iload_n 3, 1) := dk_29 (dk_at dksX18_arrive_0 20 rfl rfl)
theorem dX18_arrive_21 : decode cX18_arrive 21 = .ok (.aload_n 0, 1) := dk_42 (dk_at dksX18_arrive_0 21 rfl rfl)
theorem dX18_arrive_22 : decode cX18_arrive 22 = .ok (.invokevirtual 28, 3) := dk_182 0 28 (dk_at dksX18_arrive_1 0 rfl rfl)
theorem dX18_arrive_25 : decode cX18_arrive 25 = .ok (.if_icmp .ge 32, 3) := dk_162 0 32 (dk_at dksX18_arrive_1 3 rfl rfl)
theorem dX18_arrive_28 : decode cX18_arrive 28 = .ok (.aload_n 2, 1) := dk_44 (dk_at dksX18_arrive_1 6 rfl rfl)
theorem dX18_arrive_29 : decode cX18_arrive 29 = .ok (.aload_n 0, 1) := dk_42 (dk_at dksX18_arrive_1 7 rfl rfl)
theorem dX18_arrive_30 : decode cX18_arrive 30 = .ok (.iload_n 3, 1) := dk_29 (dk_at dksX18_arrive_1 8 rfl rfl)
theorem dX18_arrive_31 : decode cX18_arrive 31 = .ok (.invokevirtual 31, 3) := dk_182 0 31 (dk_at dksX18_arrive_1 9 rfl rfl)
theorem dX18_arrive_34 : decode cX18_arrive 34 = .ok (.getfield 35, 3) := dk_180 0 35 (dk_at dksX18_arrive_1 12 rfl rfl)
theorem dX18_arrive_37 : decode cX18_arrive 37 = .ok (.i2l, 1) := dk_133 (dk_at dksX18_arrive_1 15 rfl rfl)
theorem dX18_arrive_38 : decode cX18_arrive 38 = .ok (.aload_n 0, 1) := dk_42 (dk_at dksX18_arrive_1 16 rfl rfl)
theorem dX18_arrive_39 : decode cX18_arrive 39 = .ok (.iload_n 3, 1) := dk_29 (dk_at dksX18_arrive_1 17 rfl rfl)
theorem dX18_arrive_40 : decode cX18_arrive 40 = .ok (.invokevirtual 31, 3) := dk_182 0 31 (dk_at dksX18_arrive_1 18 rfl rfl)
theorem dX18_arrive_43 : decode cX18_arrive 43 = .ok (.getfield 40, 3) := dk_180 0 40 (dk_at dksX18_arrive_1 21 rfl rfl)
theorem dX18_arrive_46 : decode cX18_arrive 46 = .ok (.i2l, 1) := dk_133 (dk_at dksX18_arrive_2 0 rfl rfl)
theorem dX18_arrive_47 : decode cX18_arrive 47 = .ok (.invokevirtual 43, 3) := dk_182 0 43 (dk_at dksX18_arrive_2 1 rfl rfl)
theorem dX18_arrive_50 : decode cX18_arrive 50 = .ok (.astore_n 2, 1) := dk_77 (dk_at dksX18_arrive_2 4 rfl rfl)
theorem dX18_arrive_51 : decode cX18_arrive 51 = .ok (.iinc 3 1, 3) := dk_132 3 1 (dk_at dksX18_arrive_2 5 rfl rfl)
theorem dX18_arrive_54 : decode cX18_arrive 54 = .ok (.goto (-34), 3) := dk_167 255 222 (dk_at dksX18_arrive_2 8 rfl rfl)
theorem dX18_arrive_57 : decode cX18_arrive 57 = .ok (.aload_n 0, 1) := dk_42 (dk_at dksX18_arrive_2 11 rfl rfl)
theorem dX18_arrive_58 : decode cX18_arrive 58 = .ok (.getfield 47, 3) := dk_180 0 47 (dk_at dksX18_arrive_2 12 rfl rfl)
theorem dX18_arrive_61 : decode cX18_arrive 61 = .ok (.ifnonnull 7, 3) := dk_199 0 7 (dk_at dksX18_arrive_2 15 rfl rfl)
theorem dX18_arrive_64 : decode cX18_arrive 64 = .ok (.iconst 1, 1) := dk_4 (dk_at dksX18_arrive_2 18 rfl rfl)
theorem dX18_arrive_65 : decode cX18_arrive 65 = .ok (.goto 14, 3) := dk_167 0 14 (dk_at dksX18_arrive_2 19 rfl rfl)
theorem dX18_arrive_68 : decode cX18_arrive 68 = .ok (.aload_n 2, 1) := dk_44 (dk_at dksX18_arrive_2 22 rfl rfl)
theorem dX18_arrive_69 : decode cX18_arrive 69 = .ok (.aload_n 0, 1) := dk_42 (dk_at dksX18_arrive_2 23 rfl rfl)
theorem dX18_arrive_70 : decode cX18_arrive 70 = .ok (.getfield 47, 3) := dk_180 0 47 (dk_at dksX18_arrive_3 0 rfl rfl)
theorem dX18_arrive_73 : decode cX18_arrive 73 = .ok (.getfield 51, 3) := dk_180 0 51 (dk_at dksX18_arrive_3 3 rfl rfl)
theorem dX18_arrive_76 : decode cX18_arrive 76 = .ok (.invokevirtual 57, 3) := dk_182 0 57 (dk_at dksX18_arrive_3 6 rfl rfl)
theorem dX18_arrive_79 : decode cX18_arrive 79 = .ok (.istore_n 3, 1) := dk_62 (dk_at dksX18_arrive_3 9 rfl rfl)
theorem dX18_arrive_80 : decode cX18_arrive 80 = .ok (.iload_n 3, 1) := dk_29 (dk_at dksX18_arrive_3 10 rfl rfl)
theorem dX18_arrive_81 : decode cX18_arrive 81 = .ok (.ifCond .lt 39, 3) := dk_155 0 39 (dk_at dksX18_arrive_3 11 rfl rfl)
theorem dX18_arrive_84 : decode cX18_arrive 84 = .ok (.aload_n 0, 1) := dk_42 (dk_at dksX18_arrive_3 14 rfl rfl)
theorem dX18_arrive_85 : decode cX18_arrive 85 = .ok (.aload_n 2, 1) := dk_44 (dk_at dksX18_arrive_3 15 rfl rfl)
theorem dX18_arrive_86 : decode cX18_arrive 86 = .ok (.invokevirtual 61, 3) := dk_182 0 61 (dk_at dksX18_arrive_3 16 rfl rfl)
theorem dX18_arrive_89 : decode cX18_arrive 89 = .ok (.astore 4, 2) := dk_58 4 (dk_at dksX18_arrive_3 19 rfl rfl)
theorem dX18_arrive_91 : decode cX18_arrive 91 = .ok (.aload_n 0, 1) := dk_42 (dk_at dksX18_arrive_3 21 rfl rfl)
theorem dX18_arrive_92 : decode cX18_arrive 92 = .ok (.iload_n 3, 1) := dk_29 (dk_at dksX18_arrive_3 22 rfl rfl)
theorem dX18_arrive_93 : decode cX18_arrive 93 = .ok (.ifCond .gt 15, 3) := dk_157 0 15 (dk_at dksX18_arrive_4 0 rfl rfl)
theorem dX18_arrive_96 : decode cX18_arrive 96 = .ok (.aload 4, 2) := dk_25 4 (dk_at dksX18_arrive_4 3 rfl rfl)
theorem dX18_arrive_98 : decode cX18_arrive 98 = .ok (.aload_n 0, 1) := dk_42 (dk_at dksX18_arrive_4 5 rfl rfl)
theorem dX18_arrive_99 : decode cX18_arrive 99 = .ok (.getfield 47, 3) := dk_180 0 47 (dk_at dksX18_arrive_4 6 rfl rfl)
theorem dX18_arrive_102 : decode cX18_arrive 102 = .ok (.invokevirtual 65, 3) := dk_182 0 65 (dk_at dksX18_arrive_4 9 rfl rfl)
theorem dX18_arrive_105 : decode cX18_arrive 105 = .ok (.ifCond .eq 8, 3) := dk_153 0 8 (dk_at dksX18_arrive_4 12 rfl rfl)
theorem dX18_arrive_108 : decode cX18_arrive 108 = .ok (.aload 4, 2) := dk_25 4 (dk_at dksX18_arrive_4 15 rfl rfl)
theorem dX18_arrive_110 : decode cX18_arrive 110 = .ok (.goto 7, 3) := dk_167 0 7 (dk_at dksX18_arrive_4 17 rfl rfl)
theorem dX18_arrive_113 : decode cX18_arrive 113 = .ok (.aload_n 0, 1) := dk_42 (dk_at dksX18_arrive_4 20 rfl rfl)
theorem dX18_arrive_114 : decode cX18_arrive 114 = .ok (.getfield 47, 3) := dk_180 0 47 (dk_at dksX18_arrive_4 21 rfl rfl)
theorem dX18_arrive_117 : decode cX18_arrive 117 = .ok (.putfield 47, 3) := dk_181 0 47 (dk_at dksX18_arrive_5 0 rfl rfl)
theorem dX18_arrive_120 : decode cX18_arrive 120 = .ok (.return_, 1) := dk_177 (dk_at dksX18_arrive_5 3 rfl rfl)
abbrev cX18_goesOn : ByteArray := prog_4_method_2_code
def yX18_goesOn : MethodName := ⟨RX18, "goesOn", "(I)Z"⟩
def dkwX18_goesOn_0 : List UInt8 := [27, 42, 180, 0, 19, 159, 0, 7, 4, 167, 0, 4, 3, 172]
abbrev dktX18_goesOn_0 : List UInt8 := dkwX18_goesOn_0 ++ []
theorem dksX18_goesOn_0 : cX18_goesOn.data.toList.drop 0 = dktX18_goesOn_0 := by decide +kernel
theorem dX18_goesOn_0 : decode cX18_goesOn 0 = .ok (.iload_n 1, 1) := dk_27 (dk_at dksX18_goesOn_0 0 rfl rfl)
theorem dX18_goesOn_1 : decode cX18_goesOn 1 = .ok (.aload_n 0, 1) := dk_42 (dk_at dksX18_goesOn_0 1 rfl rfl)
theorem dX18_goesOn_2 : decode cX18_goesOn 2 = .ok (.getfield 19, 3) := dk_180 0 19 (dk_at dksX18_goesOn_0 2 rfl rfl)
theorem dX18_goesOn_5 : decode cX18_goesOn 5 = .ok (.if_icmp .eq 7, 3) := dk_159 0 7 (dk_at dksX18_goesOn_0 5 rfl rfl)
theorem dX18_goesOn_8 : decode cX18_goesOn 8 = .ok (.iconst 1, 1) := dk_4 (dk_at dksX18_goesOn_0 8 rfl rfl)
theorem dX18_goesOn_9 : decode cX18_goesOn 9 = .ok (.goto 4, 3) := dk_167 0 4 (dk_at dksX18_goesOn_0 9 rfl rfl)
theorem dX18_goesOn_12 : decode cX18_goesOn 12 = .ok (.iconst 0, 1) := dk_3 (dk_at dksX18_goesOn_0 12 rfl rfl)
theorem dX18_goesOn_13 : decode cX18_goesOn 13 = .ok (.ireturn, 1) := dk_172 (dk_at dksX18_goesOn_0 13 rfl rfl)
abbrev cX18_init : ByteArray := prog_4_method_1_code
def yX18_init : MethodName := ⟨RX18, "<init>", "(LRatioGraph;I)V"⟩
def dkwX18_init_0 : List UInt8 := [42, 43, 181, 0, 1, 42, 43, 43, 182, 0, 7, 183, 0, 13, 42, 28, 181, 0, 19, 177]
abbrev dktX18_init_0 : List UInt8 := dkwX18_init_0 ++ []
theorem dksX18_init_0 : cX18_init.data.toList.drop 0 = dktX18_init_0 := by decide +kernel
theorem dX18_init_0 : decode cX18_init 0 = .ok (.aload_n 0, 1) := dk_42 (dk_at dksX18_init_0 0 rfl rfl)
theorem dX18_init_1 : decode cX18_init 1 = .ok (.aload_n 1, 1) := dk_43 (dk_at dksX18_init_0 1 rfl rfl)
theorem dX18_init_2 : decode cX18_init 2 = .ok (.putfield 1, 3) := dk_181 0 1 (dk_at dksX18_init_0 2 rfl rfl)
theorem dX18_init_5 : decode cX18_init 5 = .ok (.aload_n 0, 1) := dk_42 (dk_at dksX18_init_0 5 rfl rfl)
theorem dX18_init_6 : decode cX18_init 6 = .ok (.aload_n 1, 1) := dk_43 (dk_at dksX18_init_0 6 rfl rfl)
theorem dX18_init_7 : decode cX18_init 7 = .ok (.aload_n 1, 1) := dk_43 (dk_at dksX18_init_0 7 rfl rfl)
theorem dX18_init_8 : decode cX18_init 8 = .ok (.invokevirtual 7, 3) := dk_182 0 7 (dk_at dksX18_init_0 8 rfl rfl)
theorem dX18_init_11 : decode cX18_init 11 = .ok (.invokespecial 13, 3) := dk_183 0 13 (dk_at dksX18_init_0 11 rfl rfl)
theorem dX18_init_14 : decode cX18_init 14 = .ok (.aload_n 0, 1) := dk_42 (dk_at dksX18_init_0 14 rfl rfl)
theorem dX18_init_15 : decode cX18_init 15 = .ok (.iload_n 2, 1) := dk_28 (dk_at dksX18_init_0 15 rfl rfl)
theorem dX18_init_16 : decode cX18_init 16 = .ok (.putfield 19, 3) := dk_181 0 19 (dk_at dksX18_init_0 16 rfl rfl)
theorem dX18_init_19 : decode cX18_init 19 = .ok (.return_, 1) := dk_177 (dk_at dksX18_init_0 19 rfl rfl)
abbrev cX18_best : ByteArray := prog_4_method_4_code
def yX18_best : MethodName := ⟨RX18, "best", "(I)LRatioGraph$Finding;"⟩
def dkwX18_best_0 : List UInt8 := [42, 27, 182, 0, 69, 42, 180, 0, 47, 176]
abbrev dktX18_best_0 : List UInt8 := dkwX18_best_0 ++ []
theorem dksX18_best_0 : cX18_best.data.toList.drop 0 = dktX18_best_0 := by decide +kernel
theorem dX18_best_0 : decode cX18_best 0 = .ok (.aload_n 0, 1) := dk_42 (dk_at dksX18_best_0 0 rfl rfl)
theorem dX18_best_1 : decode cX18_best 1 = .ok (.iload_n 1, 1) := dk_27 (dk_at dksX18_best_0 1 rfl rfl)
theorem dX18_best_2 : decode cX18_best 2 = .ok (.invokevirtual 69, 3) := dk_182 0 69 (dk_at dksX18_best_0 2 rfl rfl)
theorem dX18_best_5 : decode cX18_best 5 = .ok (.aload_n 0, 1) := dk_42 (dk_at dksX18_best_0 5 rfl rfl)
theorem dX18_best_6 : decode cX18_best 6 = .ok (.getfield 47, 3) := dk_180 0 47 (dk_at dksX18_best_0 6 rfl rfl)
theorem dX18_best_9 : decode cX18_best 9 = .ok (.areturn, 1) := dk_176 (dk_at dksX18_best_0 9 rfl rfl)
theorem q97 : (Jvm.Cond.initialized "RatioGraph$Conversions") ∈ lw_all := lw_g (lw_at lw_m1 33 rfl) rfl
theorem q267 : (Jvm.Cond.selects "RatioGraph$Conversions" ({ cls := "java/lang/Object", name := "getClass", desc := "()Ljava/lang/Class;" } : Jvm.MethodName) ({ cls := "java/lang/Object", name := "getClass", desc := "()Ljava/lang/Class;" } : Jvm.MethodName)) ∈ lw_all := lw_g (lw_at lw_m1 203 rfl) rfl
theorem q353 : (Jvm.Cond.fieldLinkNest "RatioGraph$Conversions" (35 : Nat) "RatioGraph$Edge" "top" "I" "RatioGraph") ∈ lw_tbl := lw_at lw_m2 49 rfl
theorem q357 : (Jvm.Cond.fieldLinkNest "RatioGraph$Conversions" (40 : Nat) "RatioGraph$Edge" "bottom" "I" "RatioGraph") ∈ lw_tbl := lw_at lw_m2 53 rfl
theorem q911 : (Jvm.Cond.fieldLinkNest "RatioGraph$Conversions" (51 : Nat) "RatioGraph$Finding" "value" "LRatioGraph$Fraction;" "RatioGraph") ∈ lw_tbl := lw_at lw_m4 127 rfl
theorem q943 : (Jvm.Cond.selects "RatioGraph$Conversions" ({ cls := "RatioGraph$Walk", name := "arrive", desc := "(I)V" } : Jvm.MethodName) ({ cls := "RatioGraph$Conversions", name := "arrive", desc := "(I)V" } : Jvm.MethodName)) ∈ lw_all := lw_g (lw_at lw_m4 159 rfl) rfl
theorem q944 : (Jvm.Cond.instanceMethod ({ cls := "RatioGraph$Conversions", name := "arrive", desc := "(I)V" } : Jvm.MethodName)) ∈ lw_all := lw_g (lw_at lw_m4 160 rfl) rfl
theorem q945 : (Jvm.Cond.code ({ cls := "RatioGraph$Conversions", name := "arrive", desc := "(I)V" } : Jvm.MethodName) prog_4_method_3_code (5 : Nat) (Option.none : Option Jvm.ClassFile.FieldType)) ∈ lw_all := lw_g (lw_at lw_m4 161 rfl) rfl
theorem q946 : (Jvm.Cond.classLink "RatioGraph$Conversions" (23 : Nat) "RatioGraph$Fraction") ∈ lw_all := lw_g (lw_at lw_m4 162 rfl) rfl
theorem q947 : (Jvm.Cond.methodLink "RatioGraph$Conversions" (25 : Nat) ({ cls := "RatioGraph$Fraction", name := "<init>", desc := "(J)V" } : Jvm.MethodName)) ∈ lw_all := lw_g (lw_at lw_m4 163 rfl) rfl
theorem q948 : (Jvm.Cond.methodLink "RatioGraph$Conversions" (28 : Nat) ({ cls := "RatioGraph$Conversions", name := "count", desc := "()I" } : Jvm.MethodName)) ∈ lw_all := lw_g (lw_at lw_m4 164 rfl) rfl
theorem q949 : (Jvm.Cond.sameMethod "RatioGraph$Conversions" "RatioGraph$Walk" "count" "()I") ∈ lw_all := lw_g (lw_at lw_m4 165 rfl) rfl
theorem q950 : (Jvm.Cond.selects "RatioGraph$Conversions" ({ cls := "RatioGraph$Conversions", name := "count", desc := "()I" } : Jvm.MethodName) ({ cls := "RatioGraph$Walk", name := "count", desc := "()I" } : Jvm.MethodName)) ∈ lw_all := lw_g (lw_at lw_m4 166 rfl) rfl
theorem q951 : (Jvm.Cond.methodLink "RatioGraph$Conversions" (31 : Nat) ({ cls := "RatioGraph$Conversions", name := "edgeAt", desc := "(I)LRatioGraph$Edge;" } : Jvm.MethodName)) ∈ lw_all := lw_g (lw_at lw_m4 167 rfl) rfl
theorem q952 : (Jvm.Cond.sameMethod "RatioGraph$Conversions" "RatioGraph$Walk" "edgeAt" "(I)LRatioGraph$Edge;") ∈ lw_all := lw_g (lw_at lw_m4 168 rfl) rfl
theorem q953 : (Jvm.Cond.selects "RatioGraph$Conversions" ({ cls := "RatioGraph$Conversions", name := "edgeAt", desc := "(I)LRatioGraph$Edge;" } : Jvm.MethodName) ({ cls := "RatioGraph$Walk", name := "edgeAt", desc := "(I)LRatioGraph$Edge;" } : Jvm.MethodName)) ∈ lw_all := lw_g (lw_at lw_m4 169 rfl) rfl
theorem q954 : (Jvm.Cond.methodLink "RatioGraph$Conversions" (43 : Nat) ({ cls := "RatioGraph$Fraction", name := "times", desc := "(JJ)LRatioGraph$Fraction;" } : Jvm.MethodName)) ∈ lw_all := lw_g (lw_at lw_m4 170 rfl) rfl
theorem q955 : (Jvm.Cond.methodLink "RatioGraph$Conversions" (57 : Nat) ({ cls := "RatioGraph$Fraction", name := "compareTo", desc := "(LRatioGraph$Fraction;)I" } : Jvm.MethodName)) ∈ lw_all := lw_g (lw_at lw_m4 171 rfl) rfl
theorem q956 : (Jvm.Cond.methodLink "RatioGraph$Conversions" (61 : Nat) ({ cls := "RatioGraph$Conversions", name := "finding", desc := "(LRatioGraph$Fraction;)LRatioGraph$Finding;" } : Jvm.MethodName)) ∈ lw_all := lw_g (lw_at lw_m4 172 rfl) rfl
theorem q957 : (Jvm.Cond.sameMethod "RatioGraph$Conversions" "RatioGraph$Walk" "finding" "(LRatioGraph$Fraction;)LRatioGraph$Finding;") ∈ lw_all := lw_g (lw_at lw_m4 173 rfl) rfl
theorem q958 : (Jvm.Cond.selects "RatioGraph$Conversions" ({ cls := "RatioGraph$Conversions", name := "finding", desc := "(LRatioGraph$Fraction;)LRatioGraph$Finding;" } : Jvm.MethodName) ({ cls := "RatioGraph$Walk", name := "finding", desc := "(LRatioGraph$Fraction;)LRatioGraph$Finding;" } : Jvm.MethodName)) ∈ lw_all := lw_g (lw_at lw_m4 174 rfl) rfl
theorem q959 : (Jvm.Cond.methodLink "RatioGraph$Conversions" (65 : Nat) ({ cls := "RatioGraph$Finding", name := "isBefore", desc := "(LRatioGraph$Finding;)Z" } : Jvm.MethodName)) ∈ lw_all := lw_g (lw_at lw_m4 175 rfl) rfl
theorem q968 : (Jvm.Cond.selects "RatioGraph$Conversions" ({ cls := "RatioGraph$Walk", name := "hasSeen", desc := "(I)Z" } : Jvm.MethodName) ({ cls := "RatioGraph$Walk", name := "hasSeen", desc := "(I)Z" } : Jvm.MethodName)) ∈ lw_all := lw_g (lw_at lw_m4 184 rfl) rfl
theorem q980 : (Jvm.Cond.selects "RatioGraph$Conversions" ({ cls := "RatioGraph$Walk", name := "goesOn", desc := "(I)Z" } : Jvm.MethodName) ({ cls := "RatioGraph$Conversions", name := "goesOn", desc := "(I)Z" } : Jvm.MethodName)) ∈ lw_all := lw_g (lw_at lw_m4 196 rfl) rfl
theorem q981 : (Jvm.Cond.instanceMethod ({ cls := "RatioGraph$Conversions", name := "goesOn", desc := "(I)Z" } : Jvm.MethodName)) ∈ lw_all := lw_g (lw_at lw_m4 197 rfl) rfl
theorem q982 : (Jvm.Cond.code ({ cls := "RatioGraph$Conversions", name := "goesOn", desc := "(I)Z" } : Jvm.MethodName) prog_4_method_2_code (2 : Nat) (Option.some Jvm.ClassFile.FieldType.boolean)) ∈ lw_all := lw_g (lw_at lw_m4 198 rfl) rfl
theorem q1299 : (Jvm.Cond.instantiable "RatioGraph$Conversions" (8 : Nat)) ∈ lw_all := lw_g (lw_at lw_m6 35 rfl) rfl
theorem q1301 : (Jvm.Cond.instanceMethod ({ cls := "RatioGraph$Conversions", name := "<init>", desc := "(LRatioGraph;I)V" } : Jvm.MethodName)) ∈ lw_all := lw_g (lw_at lw_m6 37 rfl) rfl
theorem q1302 : (Jvm.Cond.code ({ cls := "RatioGraph$Conversions", name := "<init>", desc := "(LRatioGraph;I)V" } : Jvm.MethodName) prog_4_method_1_code (3 : Nat) (Option.none : Option Jvm.ClassFile.FieldType)) ∈ lw_all := lw_g (lw_at lw_m6 38 rfl) rfl
theorem q1303 : (Jvm.Cond.methodLinkNest "RatioGraph$Conversions" (7 : Nat) ({ cls := "RatioGraph", name := "allEdges", desc := "()I" } : Jvm.MethodName) "RatioGraph") ∈ lw_tbl := lw_at lw_m6 39 rfl
theorem q1304 : (Jvm.Cond.methodLink "RatioGraph$Conversions" (13 : Nat) ({ cls := "RatioGraph$Walk", name := "<init>", desc := "(LRatioGraph;I)V" } : Jvm.MethodName)) ∈ lw_all := lw_g (lw_at lw_m6 40 rfl) rfl
theorem q1305 : (Jvm.Cond.fieldLink "RatioGraph$Conversions" (19 : Nat) "RatioGraph$Conversions" "to" "I") ∈ lw_all := lw_g (lw_at lw_m6 41 rfl) rfl
theorem q1306 : (Jvm.Cond.fieldLink "RatioGraph$Conversions" (47 : Nat) "RatioGraph$Conversions" "best" "LRatioGraph$Finding;") ∈ lw_all := lw_g (lw_at lw_m6 42 rfl) rfl
theorem q1307 : (Jvm.Cond.fieldLink "RatioGraph$Conversions" (1 : Nat) "RatioGraph$Conversions" "this$0" "LRatioGraph;") ∈ lw_all := lw_g (lw_at lw_m6 43 rfl) rfl
theorem q1308 : (Jvm.Cond.laysFinal "RatioGraph$Conversions" "RatioGraph$Conversions" "to" "I") ∈ lw_all := lw_g (lw_at lw_m6 44 rfl) rfl
theorem q1309 : (Jvm.Cond.soleField "RatioGraph$Conversions" "to") ∈ lw_all := lw_g (lw_at lw_m6 45 rfl) rfl
theorem q1310 : (Jvm.Cond.lays "RatioGraph$Conversions" "RatioGraph$Conversions" "best" "LRatioGraph$Finding;") ∈ lw_all := lw_g (lw_at lw_m6 46 rfl) rfl
theorem q1311 : (Jvm.Cond.soleField "RatioGraph$Conversions" "best") ∈ lw_all := lw_g (lw_at lw_m6 47 rfl) rfl
theorem q1312 : (Jvm.Cond.laysFinal "RatioGraph$Conversions" "RatioGraph$Conversions" "this$0" "LRatioGraph;") ∈ lw_all := lw_g (lw_at lw_m6 48 rfl) rfl
theorem q1313 : (Jvm.Cond.soleField "RatioGraph$Conversions" "this$0") ∈ lw_all := lw_g (lw_at lw_m6 49 rfl) rfl
theorem q1314 : (Jvm.Cond.laysFinal "RatioGraph$Conversions" "RatioGraph$Walk" "allowed" "I") ∈ lw_all := lw_g (lw_at lw_m6 50 rfl) rfl
theorem q1315 : (Jvm.Cond.laysFinal "RatioGraph$Conversions" "RatioGraph$Walk" "sequence" "[I") ∈ lw_all := lw_g (lw_at lw_m6 51 rfl) rfl
theorem q1316 : (Jvm.Cond.lays "RatioGraph$Conversions" "RatioGraph$Walk" "count" "I") ∈ lw_all := lw_g (lw_at lw_m6 52 rfl) rfl
theorem q1317 : (Jvm.Cond.lays "RatioGraph$Conversions" "RatioGraph$Walk" "seen" "I") ∈ lw_all := lw_g (lw_at lw_m6 53 rfl) rfl
theorem q1318 : (Jvm.Cond.laysFinal "RatioGraph$Conversions" "RatioGraph$Walk" "this$0" "LRatioGraph;") ∈ lw_all := lw_g (lw_at lw_m6 54 rfl) rfl
theorem q1319 : (Jvm.Cond.superclass "RatioGraph$Conversions" "RatioGraph$Walk") ∈ lw_all := lw_g (lw_at lw_m6 55 rfl) rfl
theorem q1321 : (Jvm.Cond.instanceMethod ({ cls := "RatioGraph$Conversions", name := "best", desc := "(I)LRatioGraph$Finding;" } : Jvm.MethodName)) ∈ lw_all := lw_g (lw_at lw_m6 57 rfl) rfl
theorem q1322 : (Jvm.Cond.selects "RatioGraph$Conversions" ({ cls := "RatioGraph$Conversions", name := "best", desc := "(I)LRatioGraph$Finding;" } : Jvm.MethodName) ({ cls := "RatioGraph$Conversions", name := "best", desc := "(I)LRatioGraph$Finding;" } : Jvm.MethodName)) ∈ lw_all := lw_g (lw_at lw_m6 58 rfl) rfl
theorem q1323 : (Jvm.Cond.code ({ cls := "RatioGraph$Conversions", name := "best", desc := "(I)LRatioGraph$Finding;" } : Jvm.MethodName) prog_4_method_4_code (2 : Nat) (Option.some (Jvm.ClassFile.FieldType.object "RatioGraph$Finding"))) ∈ lw_all := lw_g (lw_at lw_m6 59 rfl) rfl
theorem q1324 : (Jvm.Cond.methodLink "RatioGraph$Conversions" (69 : Nat) ({ cls := "RatioGraph$Conversions", name := "walk", desc := "(I)V" } : Jvm.MethodName)) ∈ lw_all := lw_g (lw_at lw_m6 60 rfl) rfl
theorem q1325 : (Jvm.Cond.sameMethod "RatioGraph$Conversions" "RatioGraph$Walk" "walk" "(I)V") ∈ lw_all := lw_g (lw_at lw_m6 61 rfl) rfl
theorem q1326 : (Jvm.Cond.selects "RatioGraph$Conversions" ({ cls := "RatioGraph$Conversions", name := "walk", desc := "(I)V" } : Jvm.MethodName) ({ cls := "RatioGraph$Walk", name := "walk", desc := "(I)V" } : Jvm.MethodName)) ∈ lw_all := lw_g (lw_at lw_m6 62 rfl) rfl
theorem q1789 : (Jvm.Cond.selects "RatioGraph$Conversions" ({ cls := "RatioGraph$Walk", name := "walk", desc := "(I)V" } : Jvm.MethodName) ({ cls := "RatioGraph$Walk", name := "walk", desc := "(I)V" } : Jvm.MethodName)) ∈ lw_all := lw_g (lw_at lw_m8 45 rfl) rfl
theorem q1813 : (Jvm.Cond.castable "RatioGraph$Conversions" "java/lang/Object") ∈ lw_tbl := lw_at lw_m8 69 rfl
theorem in_X18 : ∀ w ∈ wsX180, w ∈ lw_all := lw_in wsX180 [1314, 1315, 1316, 1317, 1318, 1308, 1310, 1312] (by decide +kernel) (by decide +kernel)
