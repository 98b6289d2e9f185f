/-! RatioGraph -/
set_option maxRecDepth 100000
def RX0 : String := "RatioGraph"
def TX0 : u_T := fun k => match k with
  | 0 => ("RatioGraph", "edges", "Ljava/util/ArrayList;", false)
  | 1 => ("RatioGraph", "history", "Ljava/util/LinkedList;", true)
  | 2 => ("RatioGraph", "marks", "[I", true)
  | 3 => ("RatioGraph", "text", "[B", true)
  | 4 => ("RatioGraph", "textLength", "I", false)
  | 5 => ("RatioGraph", "found", "LRatioGraph$Finding;", false)
  | 6 => ("RatioGraph", "pieces", "Ljava/util/ArrayList;", false)
  | _ => ("RatioGraph", "hash", "J", false)
def tyX0 : Nat → FieldType := fun k => match k with
  | 0 => .object "java/util/ArrayList"
  | 1 => .object "java/util/LinkedList"
  | 2 => .array .int
  | 3 => .array .byte
  | 4 => .int
  | 5 => .object "RatioGraph$Finding"
  | 6 => .object "java/util/ArrayList"
  | _ => .long
abbrev wsX00 : List Cond := u_ws RX0 TX0 8
theorem nmX0 : ∀ a, a < 8 → ∀ b, b < 8 → a ≠ b → (TX0 a).2.1 ≠ (TX0 b).2.1 := by decide +kernel
theorem tyX0_ok : ∀ k, k < 8 → parseFieldDescriptor (TX0 k).2.2.1 = some (tyX0 k) := by decide +kernel
abbrev cX0_init : ByteArray := prog_1_method_3_code
def yX0_init : MethodName := ⟨RX0, "<init>", "()V"⟩
def dkwX0_init_1 : List UInt8 := [183, 0, 26, 181, 0, 27, 42, 16, 8, 188, 10, 181, 0, 31, 42, 17, 0, 150, 188, 8, 181, 0, 35, 177]
abbrev dktX0_init_1 : List UInt8 := dkwX0_init_1 ++ []
def dkwX0_init_0 : List UInt8 := [42, 183, 0, 9, 42, 187, 0, 15, 89, 16, 16, 183, 0, 17, 181, 0, 20, 42, 187, 0, 24, 89]
abbrev dktX0_init_0 : List UInt8 := dkwX0_init_0 ++ dktX0_init_1
theorem dksX0_init_0 : cX0_init.data.toList.drop 0 = dktX0_init_0 := by decide +kernel
theorem dksX0_init_1 : cX0_init.data.toList.drop 22 = dktX0_init_1 := dk_seg dksX0_init_0 22 rfl rfl
theorem dX0_init_0 : decode cX0_init 0 = .ok (.aload_n 0, 1) := dk_42 (dk_at dksX0_init_0 0 rfl rfl)
theorem dX0_init_1 : decode cX0_init 1 = .ok (.invokespecial 9, 3) := dk_183 0 9 (dk_at dksX0_init_0 1 rfl rfl)
theorem dX0_init_4 : decode cX0_init 4 = .ok (.aload_n 0, 1) := dk_42 (dk_at dksX0_init_0 4 rfl rfl)
theorem dX0_init_5 : decode cX0_init 5 = .ok (.new 15, 3) := dk_187 0 15 (dk_at dksX0_init_0 5 rfl rfl)
theorem dX0_init_8 : decode cX0_init 8 = .ok (.dup, 1) := dk_89 (dk_at dksX0_init_0 8 rfl rfl)
theorem dX0_init_9 : decode cX0_init 9 = .ok (.bipush 16, 2) := dk_16 16 (dk_at dksX0_init_0 9 rfl rfl)
theorem dX0_init_11 : decode cX0_init 11 = .ok (.invokespecial 17, 3) := dk_183 0 17 (dk_at dksX0_init_0 11 rfl rfl)
theorem dX0_init_14 : decode cX0_init 14 = .ok (.putfield 20, 3) := dk_181 0 20 (dk_at dksX0_init_0 14 rfl rfl)
theorem dX0_init_17 : decode cX0_init 17 = .ok (.aload_n 0, 1) := dk_42 (dk_at dksX0_init_0 17 rfl rfl)
theorem dX0_init_18 : decode cX0_init 18 = .ok (.new 24, 3) := dk_187 0 24 (dk_at dksX0_init_0 18 rfl rfl)
theorem dX0_init_21 : decode cX0_init 21 = .ok (.dup, 1) := dk_89 (dk_at dksX0_init_0 21 rfl rfl)
theorem dX0_init_22 : decode cX0_init 22 = .ok (.invokespecial 26, 3) := dk_183 0 26 (dk_at dksX0_init_1 0 rfl rfl)
theorem dX0_init_25 : decode cX0_init 25 = .ok (.putfield 27, 3) := dk_181 0 27 (dk_at dksX0_init_1 3 rfl rfl)
theorem dX0_init_28 : decode cX0_init 28 = .ok (.aload_n 0, 1) := dk_42 (dk_at dksX0_init_1 6 rfl rfl)
theorem dX0_init_29 : decode cX0_init 29 = .ok (.bipush 8, 2) := dk_16 8 (dk_at dksX0_init_1 7 rfl rfl)
theorem dX0_init_31 : decode cX0_init 31 = .ok (.newarray .int, 2) := dk_188_10 (dk_at dksX0_init_1 9 rfl rfl)
theorem dX0_init_33 : decode cX0_init 33 = .ok (.putfield 31, 3) := dk_181 0 31 (dk_at dksX0_init_1 11 rfl rfl)
theorem dX0_init_36 : decode cX0_init 36 = .ok (.aload_n 0, 1) := dk_42 (dk_at dksX0_init_1 14 rfl rfl)
theorem dX0_init_37 : decode cX0_init 37 = .ok (.sipush 150, 3) := dk_17 0 150 (dk_at dksX0_init_1 15 rfl rfl)
theorem dX0_init_40 : decode cX0_init 40 = .ok (.newarray .byte, 2) := dk_188_8 (dk_at dksX0_init_1 18 rfl rfl)
theorem dX0_init_42 : decode cX0_init 42 = .ok (.putfield 35, 3) := dk_181 0 35 (dk_at dksX0_init_1 20 rfl rfl)
theorem dX0_init_45 : decode cX0_init 45 = .ok (.return_, 1) := dk_177 (dk_at dksX0_init_1 23 rfl rfl)
abbrev cX0_addEdge : ByteArray := prog_1_method_6_code
def yX0_addEdge : MethodName := ⟨RX0, "addEdge", "(IIIII)I"⟩
def dkwX0_addEdge_4 : List UInt8 := [182, 0, 54, 4, 100, 172]
abbrev dktX0_addEdge_4 : List UInt8 := dkwX0_addEdge_4 ++ []
def dkwX0_addEdge_3 : List UInt8 := [187, 0, 60, 89, 27, 28, 29, 21, 4, 21, 5, 183, 0, 70, 182, 0, 73, 87, 42, 180, 0, 20]
abbrev dktX0_addEdge_3 : List UInt8 := dkwX0_addEdge_3 ++ dktX0_addEdge_4
def dkwX0_addEdge_2 : List UInt8 := [42, 180, 0, 20, 182, 0, 54, 16, 16, 160, 0, 6, 18, 66, 172, 42, 182, 0, 67, 42, 180, 0, 20]
abbrev dktX0_addEdge_2 : List UInt8 := dkwX0_addEdge_2 ++ dktX0_addEdge_3
def dkwX0_addEdge_1 : List UInt8 := [153, 0, 21, 6, 21, 4, 184, 0, 59, 153, 0, 12, 7, 21, 5, 184, 0, 59, 154, 0, 6, 18, 65, 172]
abbrev dktX0_addEdge_1 : List UInt8 := dkwX0_addEdge_1 ++ dktX0_addEdge_2
def dkwX0_addEdge_0 : List UInt8 := [5, 188, 10, 89, 3, 27, 79, 89, 4, 28, 79, 184, 0, 55, 153, 0, 29, 5, 29, 184, 0, 59]
abbrev dktX0_addEdge_0 : List UInt8 := dkwX0_addEdge_0 ++ dktX0_addEdge_1
theorem dksX0_addEdge_0 : cX0_addEdge.data.toList.drop 0 = dktX0_addEdge_0 := by decide +kernel
theorem dksX0_addEdge_1 : cX0_addEdge.data.toList.drop 22 = dktX0_addEdge_1 := dk_seg dksX0_addEdge_0 22 rfl rfl
theorem dksX0_addEdge_2 : cX0_addEdge.data.toList.drop 46 = dktX0_addEdge_2 := dk_seg dksX0_addEdge_1 24 rfl rfl
theorem dksX0_addEdge_3 : cX0_addEdge.data.toList.drop 69 = dktX0_addEdge_3 := dk_seg dksX0_addEdge_2 23 rfl rfl
theorem dksX0_addEdge_4 : cX0_addEdge.data.toList.drop 91 = dktX0_addEdge_4 := dk_seg dksX0_addEdge_3 22 rfl rfl
theorem dX0_addEdge_0 : decode cX0_addEdge 0 = .ok (.iconst 2, 1) := dk_5 (dk_at dksX0_addEdge_0 0 rfl rfl)
theorem dX0_addEdge_1 : decode cX0_addEdge 1 = .ok (.newarray .int, 2) := dk_188_10 (dk_at dksX0_addEdge_0 1 rfl rfl)
theorem dX0_addEdge_3 : decode cX0_addEdge 3 = .ok (.dup, 1) := dk_89 (dk_at dksX0_addEdge_0 3 rfl rfl)
theorem dX0_addEdge_4 : decode cX0_addEdge 4 = .ok (.iconst 0, 1) := dk_3 (dk_at dksX0_addEdge_0 4 rfl rfl)
theorem dX0_addEdge_5 : decode cX0_addEdge 5 = .ok (.iload_n 1, 1) := dk_27 (dk_at dksX0_addEdge_0 5 rfl rfl)
theorem dX0_addEdge_6 : decode cX0_addEdge 6 = .ok (.iastore, 1) := dk_79 (dk_at dksX0_addEdge_0 6 rfl rfl)
theorem dX0_addEdge_7 : decode cX0_addEdge 7 = .ok (.dup, 1) := dk_89 (dk_at dksX0_addEdge_0 7 rfl rfl)
theorem dX0_addEdge_8 : decode cX0_addEdge 8 = .ok (.iconst 1, 1) := dk_4 (dk_at dksX0_addEdge_0 8 rfl rfl)
theorem dX0_addEdge_9 : decode cX0_addEdge 9 = .ok (.iload_n 2, 1) := dk_28 (dk_at dksX0_addEdge_0 9 rfl rfl)
theorem dX0_addEdge_10 : decode cX0_addEdge 10 = .ok (.iastore, 1) := dk_79 (dk_at dksX0_addEdge_0 10 rfl rfl)
theorem dX0_addEdge_11 : decode cX0_addEdge 11 = .ok (.invokestatic 55, 3) := dk_184 0 55 (dk_at dksX0_addEdge_0 11 rfl rfl)
theorem dX0_addEdge_14 : decode cX0_addEdge 14 = .ok (.ifCond .eq 29, 3) := dk_153 0 29 (dk_at dksX0_addEdge_0 14 rfl rfl)
theorem dX0_addEdge_17 : decode cX0_addEdge 17 = .ok (.iconst 2, 1) := dk_5 (dk_at dksX0_addEdge_0 17 rfl rfl)
theorem dX0_addEdge_18 : decode cX0_addEdge 18 = .ok (.iload_n 3, 1) := dk_29 (dk_at dksX0_addEdge_0 18 rfl rfl)
theorem dX0_addEdge_19 : decode cX0_addEdge 19 = .ok (.invokestatic 59, 3) := dk_184 0 59 (dk_at dksX0_addEdge_0 19 rfl rfl)
theorem dX0_addEdge_22 : decode cX0_addEdge 22 = .ok (.ifCond .eq 21, 3) := dk_153 0 21 (dk_at dksX0_addEdge_1 0 rfl rfl)
theorem dX0_addEdge_25 : decode cX0_addEdge 25 = .ok (.iconst 3, 1) := dk_6 (dk_at dksX0_addEdge_1 3 rfl rfl)
theorem dX0_addEdge_26 : decode cX0_addEdge 26 = .ok (.iload 4, 2) := dk_21 4 (dk_at dksX0_addEdge_1 4 rfl rfl)
theorem dX0_addEdge_28 : decode cX0_addEdge 28 = .ok (.invokestatic 59, 3) := dk_184 0 59 (dk_at dksX0_addEdge_1 6 rfl rfl)
theorem dX0_addEdge_31 : decode cX0_addEdge 31 = .ok (.ifCond .eq 12, 3) := dk_153 0 12 (dk_at dksX0_addEdge_1 9 rfl rfl)
theorem dX0_addEdge_34 : decode cX0_addEdge 34 = .ok (.iconst 4, 1) := dk_7 (dk_at dksX0_addEdge_1 12 rfl rfl)
theorem dX0_addEdge_35 : decode cX0_addEdge 35 = .ok (.iload 5, 2) := dk_21 5 (dk_at dksX0_addEdge_1 13 rfl rfl)
theorem dX0_addEdge_37 : decode cX0_addEdge 37 = .ok (.invokestatic 59, 3) := dk_184 0 59 (dk_at dksX0_addEdge_1 15 rfl rfl)
theorem dX0_addEdge_40 : decode cX0_addEdge 40 = .ok (.ifCond .ne 6, 3) := dk_154 0 6 (dk_at dksX0_addEdge_1 18 rfl rfl)
theorem dX0_addEdge_43 : decode cX0_addEdge 43 = .ok (.ldc 65, 2) := dk_18 65 (dk_at dksX0_addEdge_1 21 rfl rfl)
theorem dX0_addEdge_45 : decode cX0_addEdge 45 = .ok (.ireturn, 1) := dk_172 (dk_at dksX0_addEdge_1 23 rfl rfl)
theorem dX0_addEdge_46 : decode cX0_addEdge 46 = .ok (.aload_n 0, 1) := dk_42 (dk_at dksX0_addEdge_2 0 rfl rfl)
theorem dX0_addEdge_47 : decode cX0_addEdge 47 = .ok (.getfield 20, 3) := dk_180 0 20 (dk_at dksX0_addEdge_2 1 rfl rfl)
theorem dX0_addEdge_50 : decode cX0_addEdge 50 = .ok (.invokevirtual 54, 3) := dk_182 0 54 (dk_at dksX0_addEdge_2 4 rfl rfl)
theorem dX0_addEdge_53 : decode cX0_addEdge 53 = .ok (.bipush 16, 2) := dk_16 16 (dk_at dksX0_addEdge_2 7 rfl rfl)
theorem dX0_addEdge_55 : decode cX0_addEdge 55 = .ok (.if_icmp .ne 6, 3) := dk_160 0 6 (dk_at dksX0_addEdge_2 9 rfl rfl)
theorem dX0_addEdge_58 : decode cX0_addEdge 58 = .ok (.ldc 66, 2) := dk_18 66 (dk_at dksX0_addEdge_2 12 rfl rfl)
theorem dX0_addEdge_60 : decode cX0_addEdge 60 = .ok (.ireturn, 1) := dk_172 (dk_at dksX0_addEdge_2 14 rfl rfl)
theorem dX0_addEdge_61 : decode cX0_addEdge 61 = .ok (.aload_n 0, 1) := dk_42 (dk_at dksX0_addEdge_2 15 rfl rfl)
theorem dX0_addEdge_62 : decode cX0_addEdge 62 = .ok (.invokevirtual 67, 3) := dk_182 0 67 (dk_at dksX0_addEdge_2 16 rfl rfl)
theorem dX0_addEdge_65 : decode cX0_addEdge 65 = .ok (.aload_n 0, 1) := dk_42 (dk_at dksX0_addEdge_2 19 rfl rfl)
theorem dX0_addEdge_66 : decode cX0_addEdge 66 = .ok (.getfield 20, 3) := dk_180 0 20 (dk_at dksX0_addEdge_2 20 rfl rfl)
theorem dX0_addEdge_69 : decode cX0_addEdge 69 = .ok (.new 60, 3) := dk_187 0 60 (dk_at dksX0_addEdge_3 0 rfl rfl)
theorem dX0_addEdge_72 : decode cX0_addEdge 72 = .ok (.dup, 1) := dk_89 (dk_at dksX0_addEdge_3 3 rfl rfl)
theorem dX0_addEdge_73 : decode cX0_addEdge 73 = .ok (.iload_n 1, 1) := dk_27 (dk_at dksX0_addEdge_3 4 rfl rfl)
theorem dX0_addEdge_74 : decode cX0_addEdge 74 = .ok (.iload_n 2, 1) := dk_28 (dk_at dksX0_addEdge_3 5 rfl rfl)
theorem dX0_addEdge_75 : decode cX0_addEdge 75 = .ok (.iload_n 3, 1) := dk_29 (dk_at dksX0_addEdge_3 6 rfl rfl)
theorem dX0_addEdge_76 : decode cX0_addEdge 76 = .ok (.iload 4, 2) := dk_21 4 (dk_at dksX0_addEdge_3 7 rfl rfl)
theorem dX0_addEdge_78 : decode cX0_addEdge 78 = .ok (.iload 5, 2) := dk_21 5 (dk_at dksX0_addEdge_3 9 rfl rfl)
theorem dX0_addEdge_80 : decode cX0_addEdge 80 = .ok (.invokespecial 70, 3) := dk_183 0 70 (dk_at dksX0_addEdge_3 11 rfl rfl)
theorem dX0_addEdge_83 : decode cX0_addEdge 83 = .ok (.invokevirtual 73, 3) := dk_182 0 73 (dk_at dksX0_addEdge_3 14 rfl rfl)
theorem dX0_addEdge_86 : decode cX0_addEdge 86 = .ok (.pop, 1) := dk_87 (dk_at dksX0_addEdge_3 17 rfl rfl)
theorem dX0_addEdge_87 : decode cX0_addEdge 87 = .ok (.aload_n 0, 1) := dk_42 (dk_at dksX0_addEdge_3 18 rfl rfl)
theorem dX0_addEdge_88 : decode cX0_addEdge 88 = .ok (.getfield 20, 3) := dk_180 0 20 (dk_at dksX0_addEdge_3 19 rfl rfl)
theorem dX0_addEdge_91 : decode cX0_addEdge 91 = .ok (.invokevirtual 54, 3) := dk_182 0 54 (dk_at dksX0_addEdge_4 0 rfl rfl)
theorem dX0_addEdge_94 : decode cX0_addEdge 94 = .ok (.iconst 1, 1) := dk_4 (dk_at dksX0_addEdge_4 3 rfl rfl)
theorem dX0_addEdge_95 : decode cX0_addEdge 95 = .ok (.isub, 1) := dk_100 (dk_at dksX0_addEdge_4 4 rfl rfl)
theorem dX0_addEdge_96 : decode cX0_addEdge 96 = .ok (.ireturn, 1) := dk_172 (dk_at dksX0_addEdge_4 5 rfl rfl)
abbrev cX0_areNodes : ByteArray := prog_1_method_2_code
def yX0_areNodes : MethodName := ⟨RX0, "areNodes", "([I)Z"⟩
def dkwX0_areNodes_1 : List UInt8 := [21, 5, 133, 9, 20, 0, 3, 184, 0, 5, 126, 60, 132, 4, 1, 167, 255, 228, 27, 172]
abbrev dktX0_areNodes_1 : List UInt8 := dkwX0_areNodes_1 ++ []
def dkwX0_areNodes_0 : List UInt8 := [4, 60, 42, 77, 44, 190, 62, 3, 54, 4, 21, 4, 29, 162, 0, 28, 44, 21, 4, 46, 54, 5, 27]
abbrev dktX0_areNodes_0 : List UInt8 := dkwX0_areNodes_0 ++ dktX0_areNodes_1
theorem dksX0_areNodes_0 : cX0_areNodes.data.toList.drop 0 = dktX0_areNodes_0 := by decide +kernel
theorem dksX0_areNodes_1 : cX0_areNodes.data.toList.drop 23 = dktX0_areNodes_1 := dk_seg dksX0_areNodes_0 23 rfl rfl
theorem dX0_areNodes_0 : decode cX0_areNodes 0 = .ok (.iconst 1, 1) := dk_4 (dk_at dksX0_areNodes_0 0 rfl rfl)
theorem dX0_areNodes_1 : decode cX0_areNodes 1 = .ok (.istore_n 1, 1) := dk_60 (dk_at dksX0_areNodes_0 1 rfl rfl)
theorem dX0_areNodes_2 : decode cX0_areNodes 2 = .ok (.aload_n 0, 1) := dk_42 (dk_at dksX0_areNodes_0 2 rfl rfl)
theorem dX0_areNodes_3 : decode cX0_areNodes 3 = .ok (.astore_n 2, 1) := dk_77 (dk_at dksX0_areNodes_0 3 rfl rfl)
theorem dX0_areNodes_4 : decode cX0_areNodes 4 = .ok (.aload_n 2, 1) := dk_44 (dk_at dksX0_areNodes_0 4 rfl rfl)
theorem dX0_areNodes_5 : decode cX0_areNodes 5 = .ok (.arraylength, 1) := dk_190 (dk_at dksX0_areNodes_0 5 rfl rfl)
theorem dX0_areNodes_6 : decode cX0_areNodes 6 = .ok (.istore_n 3, 1) := dk_62 (dk_at dksX0_areNodes_0 6 rfl rfl)
theorem dX0_areNodes_7 : decode cX0_areNodes 7 = .ok (.iconst 0, 1) := dk_3 (dk_at dksX0_areNodes_0 7 rfl rfl)
theorem dX0_areNodes_8 : decode cX0_areNodes 8 = .ok (.istore 4, 2) := dk_54 4 (dk_at dksX0_areNodes_0 8 rfl rfl)
theorem dX0_areNodes_10 : decode cX0_areNodes 10 = .ok (.iload 4, 2) := dk_21 4 (dk_at dksX0_areNodes_0 10 rfl rfl)
theorem dX0_areNodes_12 : decode cX0_areNodes 12 = .ok (.iload_n 3, 1) := dk_29 (dk_at dksX0_areNodes_0 12 rfl rfl)
theorem dX0_areNodes_13 : decode cX0_areNodes 13 = .ok (.if_icmp .ge 28, 3) := dk_162 0 28 (dk_at dksX0_areNodes_0 13 rfl rfl)
theorem dX0_areNodes_16 : decode cX0_areNodes 16 = .ok (.aload_n 2, 1) := dk_44 (dk_at dksX0_areNodes_0 16 rfl rfl)
theorem dX0_areNodes_17 : decode cX0_areNodes 17 = .ok (.iload 4, 2) := dk_21 4 (dk_at dksX0_areNodes_0 17 rfl rfl)
theorem dX0_areNodes_19 : decode cX0_areNodes 19 = .ok (.iaload, 1) := dk_46 (dk_at dksX0_areNodes_0 19 rfl rfl)
theorem dX0_areNodes_20 : decode cX0_areNodes 20 = .ok (.istore 5, 2) := dk_54 5 (dk_at dksX0_areNodes_0 20 rfl rfl)
theorem dX0_areNodes_22 : decode cX0_areNodes 22 = .ok (.iload_n 1, 1) := dk_27 (dk_at dksX0_areNodes_0 22 rfl rfl)
theorem dX0_areNodes_23 : decode cX0_areNodes 23 = .ok (.iload 5, 2) := dk_21 5 (dk_at dksX0_areNodes_1 0 rfl rfl)
theorem dX0_areNodes_25 : decode cX0_areNodes 25 = .ok (.i2l, 1) := dk_133 (dk_at dksX0_areNodes_1 2 rfl rfl)
theorem dX0_areNodes_26 : decode cX0_areNodes 26 = .ok (.lconst 0, 1) := dk_9 (dk_at dksX0_areNodes_1 3 rfl rfl)
theorem dX0_areNodes_27 : decode cX0_areNodes 27 = .ok (.ldc2_w 3, 3) := dk_20 0 3 (dk_at dksX0_areNodes_1 4 rfl rfl)
theorem dX0_areNodes_30 : decode cX0_areNodes 30 = .ok (.invokestatic 5, 3) := dk_184 0 5 (dk_at dksX0_areNodes_1 7 rfl rfl)
theorem dX0_areNodes_33 : decode cX0_areNodes 33 = .ok (.iand, 1) := dk_126 (dk_at dksX0_areNodes_1 10 rfl rfl)
theorem dX0_areNodes_34 : decode cX0_areNodes 34 = .ok (.istore_n 1, 1) := dk_60 (dk_at dksX0_areNodes_1 11 rfl rfl)
theorem dX0_areNodes_35 : decode cX0_areNodes 35 = .ok (.iinc 4 1, 3) := dk_132 4 1 (dk_at dksX0_areNodes_1 12 rfl rfl)
theorem dX0_areNodes_38 : decode cX0_areNodes 38 = .ok (.goto (-28), 3) := dk_167 255 228 (dk_at dksX0_areNodes_1 15 rfl rfl)
theorem dX0_areNodes_41 : decode cX0_areNodes 41 = .ok (.iload_n 1, 1) := dk_27 (dk_at dksX0_areNodes_1 18 rfl rfl)
theorem dX0_areNodes_42 : decode cX0_areNodes 42 = .ok (.ireturn, 1) := dk_172 (dk_at dksX0_areNodes_1 19 rfl rfl)
abbrev cX0_isIn : ByteArray := prog_1_method_1_code
def yX0_isIn : MethodName := ⟨RX0, "isIn", "(JJJ)Z"⟩
def dkwX0_isIn_0 : List UInt8 := [30, 32, 148, 155, 0, 14, 30, 22, 4, 148, 157, 0, 7, 4, 167, 0, 4, 3, 172]
abbrev dktX0_isIn_0 : List UInt8 := dkwX0_isIn_0 ++ []
theorem dksX0_isIn_0 : cX0_isIn.data.toList.drop 0 = dktX0_isIn_0 := by decide +kernel
theorem dX0_isIn_0 : decode cX0_isIn 0 = .ok (.lload_n 0, 1) := dk_30 (dk_at dksX0_isIn_0 0 rfl rfl)
theorem dX0_isIn_1 : decode cX0_isIn 1 = .ok (.lload_n 2, 1) := dk_32 (dk_at dksX0_isIn_0 1 rfl rfl)
theorem dX0_isIn_2 : decode cX0_isIn 2 = .ok (.lcmp, 1) := dk_148 (dk_at dksX0_isIn_0 2 rfl rfl)
theorem dX0_isIn_3 : decode cX0_isIn 3 = .ok (.ifCond .lt 14, 3) := dk_155 0 14 (dk_at dksX0_isIn_0 3 rfl rfl)
theorem dX0_isIn_6 : decode cX0_isIn 6 = .ok (.lload_n 0, 1) := dk_30 (dk_at dksX0_isIn_0 6 rfl rfl)
theorem dX0_isIn_7 : decode cX0_isIn 7 = .ok (.lload 4, 2) := dk_22 4 (dk_at dksX0_isIn_0 7 rfl rfl)
theorem dX0_isIn_9 : decode cX0_isIn 9 = .ok (.lcmp, 1) := dk_148 (dk_at dksX0_isIn_0 9 rfl rfl)
theorem dX0_isIn_10 : decode cX0_isIn 10 = .ok (.ifCond .gt 7, 3) := dk_157 0 7 (dk_at dksX0_isIn_0 10 rfl rfl)
theorem dX0_isIn_13 : decode cX0_isIn 13 = .ok (.iconst 1, 1) := dk_4 (dk_at dksX0_isIn_0 13 rfl rfl)
theorem dX0_isIn_14 : decode cX0_isIn 14 = .ok (.goto 4, 3) := dk_167 0 4 (dk_at dksX0_isIn_0 14 rfl rfl)
theorem dX0_isIn_17 : decode cX0_isIn 17 = .ok (.iconst 0, 1) := dk_3 (dk_at dksX0_isIn_0 17 rfl rfl)
theorem dX0_isIn_18 : decode cX0_isIn 18 = .ok (.ireturn, 1) := dk_172 (dk_at dksX0_isIn_0 18 rfl rfl)
abbrev cX0_note : ByteArray := prog_1_method_4_code
def yX0_note : MethodName := ⟨RX0, "note", "()V"⟩
def dkwX0_note_1 : List UInt8 := [181, 0, 20, 42, 180, 0, 27, 182, 0, 46, 16, 12, 164, 0, 11, 42, 180, 0, 27, 182, 0, 50, 87, 177]
abbrev dktX0_note_1 : List UInt8 := dkwX0_note_1 ++ []
def dkwX0_note_0 : List UInt8 := [42, 180, 0, 27, 42, 180, 0, 20, 182, 0, 39, 42, 187, 0, 15, 89, 42, 180, 0, 20, 183, 0, 43]
abbrev dktX0_note_0 : List UInt8 := dkwX0_note_0 ++ dktX0_note_1
theorem dksX0_note_0 : cX0_note.data.toList.drop 0 = dktX0_note_0 := by decide +kernel
theorem dksX0_note_1 : cX0_note.data.toList.drop 23 = dktX0_note_1 := dk_seg dksX0_note_0 23 rfl rfl
theorem dX0_note_0 : decode cX0_note 0 = .ok (.aload_n 0, 1) := dk_42 (dk_at dksX0_note_0 0 rfl rfl)
theorem dX0_note_1 : decode cX0_note 1 = .ok (.getfield 27, 3) := dk_180 0 27 (dk_at dksX0_note_0 1 rfl rfl)
theorem dX0_note_4 : decode cX0_note 4 = .ok (.aload_n 0, 1) := dk_42 (dk_at dksX0_note_0 4 rfl rfl)
theorem dX0_note_5 : decode cX0_note 5 = .ok (.getfield 20, 3) := dk_180 0 20 (dk_at dksX0_note_0 5 rfl rfl)
theorem dX0_note_8 : decode cX0_note 8 = .ok (.invokevirtual 39, 3) := dk_182 0 39 (dk_at dksX0_note_0 8 rfl rfl)
theorem dX0_note_11 : decode cX0_note 11 = .ok (.aload_n 0, 1) := dk_42 (dk_at dksX0_note_0 11 rfl rfl)
theorem dX0_note_12 : decode cX0_note 12 = .ok (.new 15, 3) := dk_187 0 15 (dk_at dksX0_note_0 12 rfl rfl)
theorem dX0_note_15 : decode cX0_note 15 = .ok (.dup, 1) := dk_89 (dk_at dksX0_note_0 15 rfl rfl)
theorem dX0_note_16 : decode cX0_note 16 = .ok (.aload_n 0, 1) := dk_42 (dk_at dksX0_note_0 16 rfl rfl)
theorem dX0_note_17 : decode cX0_note 17 = .ok (.getfield 20, 3) := dk_180 0 20 (dk_at dksX0_note_0 17 rfl rfl)
theorem dX0_note_20 : decode cX0_note 20 = .ok (.invokespecial 43, 3) := dk_183 0 43 (dk_at dksX0_note_0 20 rfl rfl)
theorem dX0_note_23 : decode cX0_note 23 = .ok (.putfield 20, 3) := dk_181 0 20 (dk_at dksX0_note_1 0 rfl rfl)
theorem dX0_note_26 : decode cX0_note 26 = .ok (.aload_n 0, 1) := dk_42 (dk_at dksX0_note_1 3 rfl rfl)
theorem dX0_note_27 : decode cX0_note 27 = .ok (.getfield 27, 3) := dk_180 0 27 (dk_at dksX0_note_1 4 rfl rfl)
theorem dX0_note_30 : decode cX0_note 30 = .ok (.invokevirtual 46, 3) := dk_182 0 46 (dk_at dksX0_note_1 7 rfl rfl)
theorem dX0_note_33 : decode cX0_note 33 = .ok (.bipush 12, 2) := dk_16 12 (dk_at dksX0_note_1 10 rfl rfl)
theorem dX0_note_35 : decode cX0_note 35 = .ok (.if_icmp .le 11, 3) := dk_164 0 11 (dk_at dksX0_note_1 12 rfl rfl)
theorem dX0_note_38 : decode cX0_note 38 = .ok (.aload_n 0, 1) := dk_42 (dk_at dksX0_note_1 15 rfl rfl)
theorem dX0_note_39 : decode cX0_note 39 = .ok (.getfield 27, 3) := dk_180 0 27 (dk_at dksX0_note_1 16 rfl rfl)
theorem dX0_note_42 : decode cX0_note 42 = .ok (.invokevirtual 50, 3) := dk_182 0 50 (dk_at dksX0_note_1 19 rfl rfl)
theorem dX0_note_45 : decode cX0_note 45 = .ok (.pop, 1) := dk_87 (dk_at dksX0_note_1 22 rfl rfl)
theorem dX0_note_46 : decode cX0_note 46 = .ok (.return_, 1) := dk_177 (dk_at dksX0_note_1 23 rfl rfl)
abbrev cX0_removeEdge : ByteArray := prog_1_method_7_code
def yX0_removeEdge : MethodName := ⟨RX0, "removeEdge", "(I)I"⟩
def dkwX0_removeEdge_1 : List UInt8 := [42, 180, 0, 20, 182, 0, 54, 172]
abbrev dktX0_removeEdge_1 : List UInt8 := dkwX0_removeEdge_1 ++ []
def dkwX0_removeEdge_0 : List UInt8 := [42, 27, 182, 0, 77, 154, 0, 6, 18, 65, 172, 42, 182, 0, 67, 42, 180, 0, 20, 27, 182, 0, 81, 87]
abbrev dktX0_removeEdge_0 : List UInt8 := dkwX0_removeEdge_0 ++ dktX0_removeEdge_1
theorem dksX0_removeEdge_0 : cX0_removeEdge.data.toList.drop 0 = dktX0_removeEdge_0 := by decide +kernel
theorem dksX0_removeEdge_1 : cX0_removeEdge.data.toList.drop 24 = dktX0_removeEdge_1 := dk_seg dksX0_removeEdge_0 24 rfl rfl
theorem dX0_removeEdge_0 : decode cX0_removeEdge 0 = .ok (.aload_n 0, 1) := dk_42 (dk_at dksX0_removeEdge_0 0 rfl rfl)
theorem dX0_removeEdge_1 : decode cX0_removeEdge 1 = .ok (.iload_n 1, 1) := dk_27 (dk_at dksX0_removeEdge_0 1 rfl rfl)
theorem dX0_removeEdge_2 : decode cX0_removeEdge 2 = .ok (.invokevirtual 77, 3) := dk_182 0 77 (dk_at dksX0_removeEdge_0 2 rfl rfl)
theorem dX0_removeEdge_5 : decode cX0_removeEdge 5 = .ok (.ifCond .ne 6, 3) := dk_154 0 6 (dk_at dksX0_removeEdge_0 5 rfl rfl)
theorem dX0_removeEdge_8 : decode cX0_removeEdge 8 = .ok (.ldc 65, 2) := dk_18 65 (dk_at dksX0_removeEdge_0 8 rfl rfl)
theorem dX0_removeEdge_10 : decode cX0_removeEdge 10 = .ok (.ireturn, 1) := dk_172 (dk_at dksX0_removeEdge_0 10 rfl rfl)
theorem dX0_removeEdge_11 : decode cX0_removeEdge 11 = .ok (.aload_n 0, 1) := dk_42 (dk_at dksX0_removeEdge_0 11 rfl rfl)
theorem dX0_removeEdge_12 : decode cX0_removeEdge 12 = .ok (.invokevirtual 67, 3) := dk_182 0 67 (dk_at dksX0_removeEdge_0 12 rfl rfl)
theorem dX0_removeEdge_15 : decode cX0_removeEdge 15 = .ok (.aload_n 0, 1) := dk_42 (dk_at dksX0_removeEdge_0 15 rfl rfl)
theorem dX0_removeEdge_16 : decode cX0_removeEdge 16 = .ok (.getfield 20, 3) := dk_180 0 20 (dk_at dksX0_removeEdge_0 16 rfl rfl)
theorem dX0_removeEdge_19 : decode cX0_removeEdge 19 = .ok (.iload_n 1, 1) := dk_27 (dk_at dksX0_removeEdge_0 19 rfl rfl)
theorem dX0_removeEdge_20 : decode cX0_removeEdge 20 = .ok (.invokevirtual 81, 3) := dk_182 0 81 (dk_at dksX0_removeEdge_0 20 rfl rfl)
theorem dX0_removeEdge_23 : decode cX0_removeEdge 23 = .ok (.pop, 1) := dk_87 (dk_at dksX0_removeEdge_0 23 rfl rfl)
theorem dX0_removeEdge_24 : decode cX0_removeEdge 24 = .ok (.aload_n 0, 1) := dk_42 (dk_at dksX0_removeEdge_1 0 rfl rfl)
theorem dX0_removeEdge_25 : decode cX0_removeEdge 25 = .ok (.getfield 20, 3) := dk_180 0 20 (dk_at dksX0_removeEdge_1 1 rfl rfl)
theorem dX0_removeEdge_28 : decode cX0_removeEdge 28 = .ok (.invokevirtual 54, 3) := dk_182 0 54 (dk_at dksX0_removeEdge_1 4 rfl rfl)
theorem dX0_removeEdge_31 : decode cX0_removeEdge 31 = .ok (.ireturn, 1) := dk_172 (dk_at dksX0_removeEdge_1 7 rfl rfl)
abbrev cX0_isEdge : ByteArray := prog_1_method_5_code
def yX0_isEdge : MethodName := ⟨RX0, "isEdge", "(I)Z"⟩
def dkwX0_isEdge_0 : List UInt8 := [27, 133, 9, 42, 180, 0, 20, 182, 0, 54, 4, 100, 133, 184, 0, 5, 172]
abbrev dktX0_isEdge_0 : List UInt8 := dkwX0_isEdge_0 ++ []
theorem dksX0_isEdge_0 : cX0_isEdge.data.toList.drop 0 = dktX0_isEdge_0 := by decide +kernel
theorem dX0_isEdge_0 : decode cX0_isEdge 0 = .ok (.iload_n 1, 1) := dk_27 (dk_at dksX0_isEdge_0 0 rfl rfl)
theorem dX0_isEdge_1 : decode cX0_isEdge 1 = .ok (.i2l, 1) := dk_133 (dk_at dksX0_isEdge_0 1 rfl rfl)
theorem dX0_isEdge_2 : decode cX0_isEdge 2 = .ok (.lconst 0, 1) := dk_9 (dk_at dksX0_isEdge_0 2 rfl rfl)
theorem dX0_isEdge_3 : decode cX0_isEdge 3 = .ok (.aload_n 0, 1) := dk_42 (dk_at dksX0_isEdge_0 3 rfl rfl)
theorem dX0_isEdge_4 : decode cX0_isEdge 4 = .ok (.getfield 20, 3) := dk_180 0 20 (dk_at dksX0_isEdge_0 4 rfl rfl)
theorem dX0_isEdge_7 : decode cX0_isEdge 7 = .ok (.invokevirtual 54, 3) := dk_182 0 54 (dk_at dksX0_isEdge_0 7 rfl rfl)
theorem dX0_isEdge_10 : decode cX0_isEdge 10 = .ok (.iconst 1, 1) := dk_4 (dk_at dksX0_isEdge_0 10 rfl rfl)
theorem dX0_isEdge_11 : decode cX0_isEdge 11 = .ok (.isub, 1) := dk_100 (dk_at dksX0_isEdge_0 11 rfl rfl)
theorem dX0_isEdge_12 : decode cX0_isEdge 12 = .ok (.i2l, 1) := dk_133 (dk_at dksX0_isEdge_0 12 rfl rfl)
theorem dX0_isEdge_13 : decode cX0_isEdge 13 = .ok (.invokestatic 5, 3) := dk_184 0 5 (dk_at dksX0_isEdge_0 13 rfl rfl)
theorem dX0_isEdge_16 : decode cX0_isEdge 16 = .ok (.ireturn, 1) := dk_172 (dk_at dksX0_isEdge_0 16 rfl rfl)
abbrev cX0_setEdge : ByteArray := prog_1_method_8_code
def yX0_setEdge : MethodName := ⟨RX0, "setEdge", "(III)I"⟩
def dkwX0_setEdge_2 : List UInt8 := [192, 0, 60, 58, 4, 25, 4, 28, 182, 0, 96, 172]
abbrev dktX0_setEdge_2 : List UInt8 := dkwX0_setEdge_2 ++ []
def dkwX0_setEdge_1 : List UInt8 := [180, 0, 20, 27, 42, 180, 0, 20, 27, 182, 0, 85, 192, 0, 60, 28, 29, 182, 0, 88, 182, 0, 92]
abbrev dktX0_setEdge_1 : List UInt8 := dkwX0_setEdge_1 ++ dktX0_setEdge_2
def dkwX0_setEdge_0 : List UInt8 := [42, 27, 182, 0, 77, 153, 0, 11, 28, 29, 184, 0, 59, 154, 0, 6, 18, 65, 172, 42, 182, 0, 67, 42]
abbrev dktX0_setEdge_0 : List UInt8 := dkwX0_setEdge_0 ++ dktX0_setEdge_1
theorem dksX0_setEdge_0 : cX0_setEdge.data.toList.drop 0 = dktX0_setEdge_0 := by decide +kernel
theorem dksX0_setEdge_1 : cX0_setEdge.data.toList.drop 24 = dktX0_setEdge_1 := dk_seg dksX0_setEdge_0 24 rfl rfl
theorem dksX0_setEdge_2 : cX0_setEdge.data.toList.drop 47 = dktX0_setEdge_2 := dk_seg dksX0_setEdge_1 23 rfl rfl
theorem dX0_setEdge_0 : decode cX0_setEdge 0 = .ok (.aload_n 0, 1) := dk_42 (dk_at dksX0_setEdge_0 0 rfl rfl)
theorem dX0_setEdge_1 : decode cX0_setEdge 1 = .ok (.iload_n 1, 1) := dk_27 (dk_at dksX0_setEdge_0 1 rfl rfl)
theorem dX0_setEdge_2 : decode cX0_setEdge 2 = .ok (.invokevirtual 77, 3) := dk_182 0 77 (dk_at dksX0_setEdge_0 2 rfl rfl)
theorem dX0_setEdge_5 : decode cX0_setEdge 5 = .ok (.ifCond .eq 11, 3) := dk_153 0 11 (dk_at dksX0_setEdge_0 5 rfl rfl)
theorem dX0_setEdge_8 : decode cX0_setEdge 8 = .ok (.iload_n 2, 1) := dk_28 (dk_at dksX0_setEdge_0 8 rfl rfl)
theorem dX0_setEdge_9 : decode cX0_setEdge 9 = .ok (.iload_n 3, 1) := dk_29 (dk_at dksX0_setEdge_0 9 rfl rfl)
theorem dX0_setEdge_10 : decode cX0_setEdge 10 = .ok (.invokestatic 59, 3) := dk_184 0 59 (dk_at dksX0_setEdge_0 10 rfl rfl)
theorem dX0_setEdge_13 : decode cX0_setEdge 13 = .ok (.ifCond .ne 6, 3) := dk_154 0 6 (dk_at dksX0_setEdge_0 13 rfl rfl)
theorem dX0_setEdge_16 : decode cX0_setEdge 16 = .ok (.ldc 65, 2) := dk_18 65 (dk_at dksX0_setEdge_0 16 rfl rfl)
theorem dX0_setEdge_18 : decode cX0_setEdge 18 = .ok (.ireturn, 1) := dk_172 (dk_at dksX0_setEdge_0 18 rfl rfl)
theorem dX0_setEdge_19 : decode cX0_setEdge 19 = .ok (.aload_n 0, 1) := dk_42 (dk_at dksX0_setEdge_0 19 rfl rfl)
theorem dX0_setEdge_20 : decode cX0_setEdge 20 = .ok (.invokevirtual 67, 3) := dk_182 0 67 (dk_at dksX0_setEdge_0 20 rfl rfl)
theorem dX0_setEdge_23 : decode cX0_setEdge 23 = .ok (.aload_n 0, 1) := dk_42 (dk_at dksX0_setEdge_0 23 rfl rfl)
theorem dX0_setEdge_24 : decode cX0_setEdge 24 = .ok (.getfield 20, 3) := dk_180 0 20 (dk_at dksX0_setEdge_1 0 rfl rfl)
theorem dX0_setEdge_27 : decode cX0_setEdge 27 = .ok (.iload_n 1, 1) := dk_27 (dk_at dksX0_setEdge_1 3 rfl rfl)
theorem dX0_setEdge_28 : decode cX0_setEdge 28 = .ok (.aload_n 0, 1) := dk_42 (dk_at dksX0_setEdge_1 4 rfl rfl)
theorem dX0_setEdge_29 : decode cX0_setEdge 29 = .ok (.getfield 20, 3) := dk_180 0 20 (dk_at dksX0_setEdge_1 5 rfl rfl)
theorem dX0_setEdge_32 : decode cX0_setEdge 32 = .ok (.iload_n 1, 1) := dk_27 (dk_at dksX0_setEdge_1 8 rfl rfl)
theorem dX0_setEdge_33 : decode cX0_setEdge 33 = .ok (.invokevirtual 85, 3) := dk_182 0 85 (dk_at dksX0_setEdge_1 9 rfl rfl)
theorem dX0_setEdge_36 : decode cX0_setEdge 36 = .ok (.checkcast 60, 3) := dk_192 0 60 (dk_at dksX0_setEdge_1 12 rfl rfl)
theorem dX0_setEdge_39 : decode cX0_setEdge 39 = .ok (.iload_n 2, 1) := dk_28 (dk_at dksX0_setEdge_1 15 rfl rfl)
theorem dX0_setEdge_40 : decode cX0_setEdge 40 = .ok (.iload_n 3, 1) := dk_29 (dk_at dksX0_setEdge_1 16 rfl rfl)
theorem dX0_setEdge_41 : decode cX0_setEdge 41 = .ok (.invokevirtual 88, 3) := dk_182 0 88 (dk_at dksX0_setEdge_1 17 rfl rfl)
theorem dX0_setEdge_44 : decode cX0_setEdge 44 = .ok (.invokevirtual 92, 3) := dk_182 0 92 (dk_at dksX0_setEdge_1 20 rfl rfl)
theorem dX0_setEdge_47 : decode cX0_setEdge 47 = .ok (.checkcast 60, 3) := dk_192 0 60 (dk_at dksX0_setEdge_2 0 rfl rfl)
theorem dX0_setEdge_50 : decode cX0_setEdge 50 = .ok (.astore 4, 2) := dk_58 4 (dk_at dksX0_setEdge_2 3 rfl rfl)
theorem dX0_setEdge_52 : decode cX0_setEdge 52 = .ok (.aload 4, 2) := dk_25 4 (dk_at dksX0_setEdge_2 5 rfl rfl)
theorem dX0_setEdge_54 : decode cX0_setEdge 54 = .ok (.iload_n 2, 1) := dk_28 (dk_at dksX0_setEdge_2 7 rfl rfl)
theorem dX0_setEdge_55 : decode cX0_setEdge 55 = .ok (.invokevirtual 96, 3) := dk_182 0 96 (dk_at dksX0_setEdge_2 8 rfl rfl)
theorem dX0_setEdge_58 : decode cX0_setEdge 58 = .ok (.ireturn, 1) := dk_172 (dk_at dksX0_setEdge_2 11 rfl rfl)
abbrev cX0_setRate : ByteArray := prog_1_method_9_code
def yX0_setRate : MethodName := ⟨RX0, "setRate", "(III)I"⟩
def dkwX0_setRate_3 : List UInt8 := [16, 100, 25, 4, 180, 0, 105, 104, 25, 4, 180, 0, 109, 96, 172]
abbrev dktX0_setRate_3 : List UInt8 := dkwX0_setRate_3 ++ []
def dkwX0_setRate_2 : List UInt8 := [180, 0, 20, 27, 182, 0, 85, 192, 0, 60, 28, 29, 182, 0, 102, 182, 0, 92, 192, 0, 60, 58, 4]
abbrev dktX0_setRate_2 : List UInt8 := dkwX0_setRate_2 ++ dktX0_setRate_3
def dkwX0_setRate_1 : List UInt8 := [20, 0, 100, 184, 0, 5, 154, 0, 6, 18, 65, 172, 42, 182, 0, 67, 42, 180, 0, 20, 27, 42]
abbrev dktX0_setRate_1 : List UInt8 := dkwX0_setRate_1 ++ dktX0_setRate_2
def dkwX0_setRate_0 : List UInt8 := [42, 27, 182, 0, 77, 153, 0, 27, 28, 133, 10, 20, 0, 100, 184, 0, 5, 153, 0, 15, 29, 133, 10]
abbrev dktX0_setRate_0 : List UInt8 := dkwX0_setRate_0 ++ dktX0_setRate_1
theorem dksX0_setRate_0 : cX0_setRate.data.toList.drop 0 = dktX0_setRate_0 := by decide +kernel
theorem dksX0_setRate_1 : cX0_setRate.data.toList.drop 23 = dktX0_setRate_1 := dk_seg dksX0_setRate_0 23 rfl rfl
theorem dksX0_setRate_2 : cX0_setRate.data.toList.drop 45 = dktX0_setRate_2 := dk_seg dksX0_setRate_1 22 rfl rfl
theorem dksX0_setRate_3 : cX0_setRate.data.toList.drop 68 = dktX0_setRate_3 := dk_seg dksX0_setRate_2 23 rfl rfl
theorem dX0_setRate_0 : decode cX0_setRate 0 = .ok (.aload_n 0, 1) := dk_42 (dk_at dksX0_setRate_0 0 rfl rfl)
theorem dX0_setRate_1 : decode cX0_setRate 1 = .ok (.iload_n 1, 1) := dk_27 (dk_at dksX0_setRate_0 1 rfl rfl)
theorem dX0_setRate_2 : decode cX0_setRate 2 = .ok (.invokevirtual 77, 3) := dk_182 0 77 (dk_at dksX0_setRate_0 2 rfl rfl)
theorem dX0_setRate_5 : decode cX0_setRate 5 = .ok (.ifCond .eq 27, 3) := dk_153 0 27 (dk_at dksX0_setRate_0 5 rfl rfl)
theorem dX0_setRate_8 : decode cX0_setRate 8 = .ok (.iload_n 2, 1) := dk_28 (dk_at dksX0_setRate_0 8 rfl rfl)
theorem dX0_setRate_9 : decode cX0_setRate 9 = .ok (.i2l, 1) := dk_133 (dk_at dksX0_setRate_0 9 rfl rfl)
theorem dX0_setRate_10 : decode cX0_setRate 10 = .ok (.lconst 1, 1) := dk_10 (dk_at dksX0_setRate_0 10 rfl rfl)
theorem dX0_setRate_11 : decode cX0_setRate 11 = .ok (.ldc2_w 100, 3) := dk_20 0 100 (dk_at dksX0_setRate_0 11 rfl rfl)
theorem dX0_setRate_14 : decode cX0_setRate 14 = .ok (.invokestatic 5, 3) := dk_184 0 5 (dk_at dksX0_setRate_0 14 rfl rfl)
theorem dX0_setRate_17 : decode cX0_setRate 17 = .ok (.ifCond .eq 15, 3) := dk_153 0 15 (dk_at dksX0_setRate_0 17 rfl rfl)
theorem dX0_setRate_20 : decode cX0_setRate 20 = .ok (.iload_n 3, 1) := dk_29 (dk_at dksX0_setRate_0 20 rfl rfl)
theorem dX0_setRate_21 : decode cX0_setRate 21 = .ok (.i2l, 1) := dk_133 (dk_at dksX0_setRate_0 21 rfl rfl)
theorem dX0_setRate_22 : decode cX0_setRate 22 = .ok (.lconst 1, 1) := dk_10 (dk_at dksX0_setRate_0 22 rfl rfl)
theorem dX0_setRate_23 : decode cX0_setRate 23 = .ok (.ldc2_w 100, 3) := dk_20 0 100 (dk_at dksX0_setRate_1 0 rfl rfl)
theorem dX0_setRate_26 : decode cX0_setRate 26 = .ok (.invokestatic 5, 3) := dk_184 0 5 (dk_at dksX0_setRate_1 3 rfl rfl)
theorem dX0_setRate_29 : decode cX0_setRate 29 = .ok (.ifCond .ne 6, 3) := dk_154 0 6 (dk_at dksX0_setRate_1 6 rfl rfl)
theorem dX0_setRate_32 : decode cX0_setRate 32 = .ok (.ldc 65, 2) := dk_18 65 (dk_at dksX0_setRate_1 9 rfl rfl)
theorem dX0_setRate_34 : decode cX0_setRate 34 = .ok (.ireturn, 1) := dk_172 (dk_at dksX0_setRate_1 11 rfl rfl)
theorem dX0_setRate_35 : decode cX0_setRate 35 = .ok (.aload_n 0, 1) := dk_42 (dk_at dksX0_setRate_1 12 rfl rfl)
theorem dX0_setRate_36 : decode cX0_setRate 36 = .ok (.invokevirtual 67, 3) := dk_182 0 67 (dk_at dksX0_setRate_1 13 rfl rfl)
theorem dX0_setRate_39 : decode cX0_setRate 39 = .ok (.aload_n 0, 1) := dk_42 (dk_at dksX0_setRate_1 16 rfl rfl)
theorem dX0_setRate_40 : decode cX0_setRate 40 = .ok (.getfield 20, 3) := dk_180 0 20 (dk_at dksX0_setRate_1 17 rfl rfl)
theorem dX0_setRate_43 : decode cX0_setRate 43 = .ok (.iload_n 1, 1) := dk_27 (dk_at dksX0_setRate_1 20 rfl rfl)
theorem dX0_setRate_44 : decode cX0_setRate 44 = .ok (.aload_n 0, 1) := dk_42 (dk_at dksX0_setRate_1 21 rfl rfl)
theorem dX0_setRate_45 : decode cX0_setRate 45 = .ok (.getfield 20, 3) := dk_180 0 20 (dk_at dksX0_setRate_2 0 rfl rfl)
theorem dX0_setRate_48 : decode cX0_setRate 48 = .ok (.iload_n 1, 1) := dk_27 (dk_at dksX0_setRate_2 3 rfl rfl)
theorem dX0_setRate_49 : decode cX0_setRate 49 = .ok (.invokevirtual 85, 3) := dk_182 0 85 (dk_at dksX0_setRate_2 4 rfl rfl)
theorem dX0_setRate_52 : decode cX0_setRate 52 = .ok (.checkcast 60, 3) := dk_192 0 60 (dk_at dksX0_setRate_2 7 rfl rfl)
theorem dX0_setRate_55 : decode cX0_setRate 55 = .ok (.iload_n 2, 1) := dk_28 (dk_at dksX0_setRate_2 10 rfl rfl)
theorem dX0_setRate_56 : decode cX0_setRate 56 = .ok (.iload_n 3, 1) := dk_29 (dk_at dksX0_setRate_2 11 rfl rfl)
theorem dX0_setRate_57 : decode cX0_setRate 57 = .ok (.invokevirtual 102, 3) := dk_182 0 102 (dk_at dksX0_setRate_2 12 rfl rfl)
theorem dX0_setRate_60 : decode cX0_setRate 60 = .ok (.invokevirtual 92, 3) := dk_182 0 92 (dk_at dksX0_setRate_2 15 rfl rfl)
theorem dX0_setRate_63 : decode cX0_setRate 63 = .ok (.checkcast 60, 3) := dk_192 0 60 (dk_at dksX0_setRate_2 18 rfl rfl)
theorem dX0_setRate_66 : decode cX0_setRate 66 = .ok (.astore 4, 2) := dk_58 4 (dk_at dksX0_setRate_2 21 rfl rfl)
theorem dX0_setRate_68 : decode cX0_setRate 68 = .ok (.bipush 100, 2) := dk_16 100 (dk_at dksX0_setRate_3 0 rfl rfl)
theorem dX0_setRate_70 : decode cX0_setRate 70 = .ok (.aload 4, 2) := dk_25 4 (dk_at dksX0_setRate_3 2 rfl rfl)
theorem dX0_setRate_72 : decode cX0_setRate 72 = .ok (.getfield 105, 3) := dk_180 0 105 (dk_at dksX0_setRate_3 4 rfl rfl)
theorem dX0_setRate_75 : decode cX0_setRate 75 = .ok (.imul, 1) := dk_104 (dk_at dksX0_setRate_3 7 rfl rfl)
theorem dX0_setRate_76 : decode cX0_setRate 76 = .ok (.aload 4, 2) := dk_25 4 (dk_at dksX0_setRate_3 8 rfl rfl)
theorem dX0_setRate_78 : decode cX0_setRate 78 = .ok (.getfield 109, 3) := dk_180 0 109 (dk_at dksX0_setRate_3 10 rfl rfl)
theorem dX0_setRate_81 : decode cX0_setRate 81 = .ok (.iadd, 1) := dk_96 (dk_at dksX0_setRate_3 13 rfl rfl)
theorem dX0_setRate_82 : decode cX0_setRate 82 = .ok (.ireturn, 1) := dk_172 (dk_at dksX0_setRate_3 14 rfl rfl)
abbrev cX0_edge : ByteArray := prog_1_method_10_code
def yX0_edge : MethodName := ⟨RX0, "edge", "(II)I"⟩
def dkwX0_edge_1 : List UInt8 := [27, 182, 0, 85, 192, 0, 60, 28, 182, 0, 96, 167, 0, 5, 18, 65, 172]
abbrev dktX0_edge_1 : List UInt8 := dkwX0_edge_1 ++ []
def dkwX0_edge_0 : List UInt8 := [42, 27, 182, 0, 77, 153, 0, 33, 28, 133, 9, 20, 0, 112, 184, 0, 5, 153, 0, 21, 42, 180, 0, 20]
abbrev dktX0_edge_0 : List UInt8 := dkwX0_edge_0 ++ dktX0_edge_1
theorem dksX0_edge_0 : cX0_edge.data.toList.drop 0 = dktX0_edge_0 := by decide +kernel
theorem dksX0_edge_1 : cX0_edge.data.toList.drop 24 = dktX0_edge_1 := dk_seg dksX0_edge_0 24 rfl rfl
theorem dX0_edge_0 : decode cX0_edge 0 = .ok (.aload_n 0, 1) := dk_42 (dk_at dksX0_edge_0 0 rfl rfl)
theorem dX0_edge_1 : decode cX0_edge 1 = .ok (.iload_n 1, 1) := dk_27 (dk_at dksX0_edge_0 1 rfl rfl)
theorem dX0_edge_2 : decode cX0_edge 2 = .ok (.invokevirtual 77, 3) := dk_182 0 77 (dk_at dksX0_edge_0 2 rfl rfl)
theorem dX0_edge_5 : decode cX0_edge 5 = .ok (.ifCond .eq 33, 3) := dk_153 0 33 (dk_at dksX0_edge_0 5 rfl rfl)
theorem dX0_edge_8 : decode cX0_edge 8 = .ok (.iload_n 2, 1) := dk_28 (dk_at dksX0_edge_0 8 rfl rfl)
theorem dX0_edge_9 : decode cX0_edge 9 = .ok (.i2l, 1) := dk_133 (dk_at dksX0_edge_0 9 rfl rfl)
theorem dX0_edge_10 : decode cX0_edge 10 = .ok (.lconst 0, 1) := dk_9 (dk_at dksX0_edge_0 10 rfl rfl)
theorem dX0_edge_11 : decode cX0_edge 11 = .ok (.ldc2_w 112, 3) := dk_20 0 112 (dk_at dksX0_edge_0 11 rfl rfl)
theorem dX0_edge_14 : decode cX0_edge 14 = .ok (.invokestatic 5, 3) := dk_184 0 5 (dk_at dksX0_edge_0 14 rfl rfl)
theorem dX0_edge_17 : decode cX0_edge 17 = .ok (.ifCond .eq 21, 3) := dk_153 0 21 (dk_at dksX0_edge_0 17 rfl rfl)
theorem dX0_edge_20 : decode cX0_edge 20 = .ok (.aload_n 0, 1) := dk_42 (dk_at dksX0_edge_0 20 rfl rfl)
theorem dX0_edge_21 : decode cX0_edge 21 = .ok (.getfield 20, 3) := dk_180 0 20 (dk_at dksX0_edge_0 21 rfl rfl)
theorem dX0_edge_24 : decode cX0_edge 24 = .ok (.iload_n 1, 1) := dk_27 (dk_at dksX0_edge_1 0 rfl rfl)
theorem dX0_edge_25 : decode cX0_edge 25 = .ok (.invokevirtual 85, 3) := dk_182 0 85 (dk_at dksX0_edge_1 1 rfl rfl)
theorem dX0_edge_28 : decode cX0_edge 28 = .ok (.checkcast 60, 3) := dk_192 0 60 (dk_at dksX0_edge_1 4 rfl rfl)
theorem dX0_edge_31 : decode cX0_edge 31 = .ok (.iload_n 2, 1) := dk_28 (dk_at dksX0_edge_1 7 rfl rfl)
theorem dX0_edge_32 : decode cX0_edge 32 = .ok (.invokevirtual 96, 3) := dk_182 0 96 (dk_at dksX0_edge_1 8 rfl rfl)
theorem dX0_edge_35 : decode cX0_edge 35 = .ok (.goto 5, 3) := dk_167 0 5 (dk_at dksX0_edge_1 11 rfl rfl)
theorem dX0_edge_38 : decode cX0_edge 38 = .ok (.ldc 65, 2) := dk_18 65 (dk_at dksX0_edge_1 14 rfl rfl)
theorem dX0_edge_40 : decode cX0_edge 40 = .ok (.ireturn, 1) := dk_172 (dk_at dksX0_edge_1 16 rfl rfl)
abbrev cX0_clear : ByteArray := prog_1_method_11_code
def yX0_clear : MethodName := ⟨RX0, "clear", "()I"⟩
def dkwX0_clear_0 : List UInt8 := [42, 182, 0, 67, 42, 180, 0, 20, 182, 0, 54, 60, 42, 180, 0, 20, 182, 0, 114, 27, 172]
abbrev dktX0_clear_0 : List UInt8 := dkwX0_clear_0 ++ []
theorem dksX0_clear_0 : cX0_clear.data.toList.drop 0 = dktX0_clear_0 := by decide +kernel
theorem dX0_clear_0 : decode cX0_clear 0 = .ok (.aload_n 0, 1) := dk_42 (dk_at dksX0_clear_0 0 rfl rfl)
theorem dX0_clear_1 : decode cX0_clear 1 = .ok (.invokevirtual 67, 3) := dk_182 0 67 (dk_at dksX0_clear_0 1 rfl rfl)
theorem dX0_clear_4 : decode cX0_clear 4 = .ok (.aload_n 0, 1) := dk_42 (dk_at dksX0_clear_0 4 rfl rfl)
theorem dX0_clear_5 : decode cX0_clear 5 = .ok (.getfield 20, 3) := dk_180 0 20 (dk_at dksX0_clear_0 5 rfl rfl)
theorem dX0_clear_8 : decode cX0_clear 8 = .ok (.invokevirtual 54, 3) := dk_182 0 54 (dk_at dksX0_clear_0 8 rfl rfl)
theorem dX0_clear_11 : decode cX0_clear 11 = .ok (.istore_n 1, 1) := dk_60 (dk_at dksX0_clear_0 11 rfl rfl)
theorem dX0_clear_12 : decode cX0_clear 12 = .ok (.aload_n 0, 1) := dk_42 (dk_at dksX0_clear_0 12 rfl rfl)
theorem dX0_clear_13 : decode cX0_clear 13 = .ok (.getfield 20, 3) := dk_180 0 20 (dk_at dksX0_clear_0 13 rfl rfl)
theorem dX0_clear_16 : decode cX0_clear 16 = .ok (.invokevirtual 114, 3) := dk_182 0 114 (dk_at dksX0_clear_0 16 rfl rfl)
theorem dX0_clear_19 : decode cX0_clear 19 = .ok (.iload_n 1, 1) := dk_27 (dk_at dksX0_clear_0 19 rfl rfl)
theorem dX0_clear_20 : decode cX0_clear 20 = .ok (.ireturn, 1) := dk_172 (dk_at dksX0_clear_0 20 rfl rfl)
abbrev cX0_undo : ByteArray := prog_1_method_12_code
def yX0_undo : MethodName := ⟨RX0, "undo", "()I"⟩
def dkwX0_undo_1 : List UInt8 := [181, 0, 20, 42, 180, 0, 27, 182, 0, 46, 172]
abbrev dktX0_undo_1 : List UInt8 := dkwX0_undo_1 ++ []
def dkwX0_undo_0 : List UInt8 := [42, 180, 0, 27, 182, 0, 117, 153, 0, 6, 18, 121, 172, 42, 42, 180, 0, 27, 182, 0, 122, 192, 0, 15]
abbrev dktX0_undo_0 : List UInt8 := dkwX0_undo_0 ++ dktX0_undo_1
theorem dksX0_undo_0 : cX0_undo.data.toList.drop 0 = dktX0_undo_0 := by decide +kernel
theorem dksX0_undo_1 : cX0_undo.data.toList.drop 24 = dktX0_undo_1 := dk_seg dksX0_undo_0 24 rfl rfl
theorem dX0_undo_0 : decode cX0_undo 0 = .ok (.aload_n 0, 1) := dk_42 (dk_at dksX0_undo_0 0 rfl rfl)
theorem dX0_undo_1 : decode cX0_undo 1 = .ok (.getfield 27, 3) := dk_180 0 27 (dk_at dksX0_undo_0 1 rfl rfl)
theorem dX0_undo_4 : decode cX0_undo 4 = .ok (.invokevirtual 117, 3) := dk_182 0 117 (dk_at dksX0_undo_0 4 rfl rfl)
theorem dX0_undo_7 : decode cX0_undo 7 = .ok (.ifCond .eq 6, 3) := dk_153 0 6 (dk_at dksX0_undo_0 7 rfl rfl)
theorem dX0_undo_10 : decode cX0_undo 10 = .ok (.ldc 121, 2) := dk_18 121 (dk_at dksX0_undo_0 10 rfl rfl)
theorem dX0_undo_12 : decode cX0_undo 12 = .ok (.ireturn, 1) := dk_172 (dk_at dksX0_undo_0 12 rfl rfl)
theorem dX0_undo_13 : decode cX0_undo 13 = .ok (.aload_n 0, 1) := dk_42 (dk_at dksX0_undo_0 13 rfl rfl)
theorem dX0_undo_14 : decode cX0_undo 14 = .ok (.aload_n 0, 1) := dk_42 (dk_at dksX0_undo_0 14 rfl rfl)
theorem dX0_undo_15 : decode cX0_undo 15 = .ok (.getfield 27, 3) := dk_180 0 27 (dk_at dksX0_undo_0 15 rfl rfl)
theorem dX0_undo_18 : decode cX0_undo 18 = .ok (.invokevirtual 122, 3) := dk_182 0 122 (dk_at dksX0_undo_0 18 rfl rfl)
theorem dX0_undo_21 : decode cX0_undo 21 = .ok (.checkcast 15, 3) := dk_192 0 15 (dk_at dksX0_undo_0 21 rfl rfl)
theorem dX0_undo_24 : decode cX0_undo 24 = .ok (.putfield 20, 3) := dk_181 0 20 (dk_at dksX0_undo_1 0 rfl rfl)
theorem dX0_undo_27 : decode cX0_undo 27 = .ok (.aload_n 0, 1) := dk_42 (dk_at dksX0_undo_1 3 rfl rfl)
theorem dX0_undo_28 : decode cX0_undo 28 = .ok (.getfield 27, 3) := dk_180 0 27 (dk_at dksX0_undo_1 4 rfl rfl)
theorem dX0_undo_31 : decode cX0_undo 31 = .ok (.invokevirtual 46, 3) := dk_182 0 46 (dk_at dksX0_undo_1 7 rfl rfl)
theorem dX0_undo_34 : decode cX0_undo 34 = .ok (.ireturn, 1) := dk_172 (dk_at dksX0_undo_1 10 rfl rfl)
abbrev cX0_type : ByteArray := prog_1_method_13_code
def yX0_type : MethodName := ⟨RX0, "type", "(I)I"⟩
def dkwX0_type_2 : List UInt8 := [181, 0, 127, 42, 180, 0, 127, 172]
abbrev dktX0_type_2 : List UInt8 := dkwX0_type_2 ++ []
def dkwX0_type_1 : List UInt8 := [160, 0, 6, 18, 66, 172, 42, 180, 0, 35, 42, 180, 0, 127, 27, 145, 84, 42, 89, 180, 0, 127, 4, 96]
abbrev dktX0_type_1 : List UInt8 := dkwX0_type_1 ++ dktX0_type_2
def dkwX0_type_0 : List UInt8 := [27, 133, 9, 20, 0, 125, 184, 0, 5, 154, 0, 6, 18, 65, 172, 42, 180, 0, 127, 17, 0, 150]
abbrev dktX0_type_0 : List UInt8 := dkwX0_type_0 ++ dktX0_type_1
theorem dksX0_type_0 : cX0_type.data.toList.drop 0 = dktX0_type_0 := by decide +kernel
theorem dksX0_type_1 : cX0_type.data.toList.drop 22 = dktX0_type_1 := dk_seg dksX0_type_0 22 rfl rfl
theorem dksX0_type_2 : cX0_type.data.toList.drop 46 = dktX0_type_2 := dk_seg dksX0_type_1 24 rfl rfl
theorem dX0_type_0 : decode cX0_type 0 = .ok (.iload_n 1, 1) := dk_27 (dk_at dksX0_type_0 0 rfl rfl)
theorem dX0_type_1 : decode cX0_type 1 = .ok (.i2l, 1) := dk_133 (dk_at dksX0_type_0 1 rfl rfl)
theorem dX0_type_2 : decode cX0_type 2 = .ok (.lconst 0, 1) := dk_9 (dk_at dksX0_type_0 2 rfl rfl)
theorem dX0_type_3 : decode cX0_type 3 = .ok (.ldc2_w 125, 3) := dk_20 0 125 (dk_at dksX0_type_0 3 rfl rfl)
theorem dX0_type_6 : decode cX0_type 6 = .ok (.invokestatic 5, 3) := dk_184 0 5 (dk_at dksX0_type_0 6 rfl rfl)
theorem dX0_type_9 : decode cX0_type 9 = .ok (.ifCond .ne 6, 3) := dk_154 0 6 (dk_at dksX0_type_0 9 rfl rfl)
theorem dX0_type_12 : decode cX0_type 12 = .ok (.ldc 65, 2) := dk_18 65 (dk_at dksX0_type_0 12 rfl rfl)
theorem dX0_type_14 : decode cX0_type 14 = .ok (.ireturn, 1) := dk_172 (dk_at dksX0_type_0 14 rfl rfl)
theorem dX0_type_15 : decode cX0_type 15 = .ok (.aload_n 0, 1) := dk_42 (dk_at dksX0_type_0 15 rfl rfl)
theorem dX0_type_16 : decode cX0_type 16 = .ok (.getfield 127, 3) := dk_180 0 127 (dk_at dksX0_type_0 16 rfl rfl)
theorem dX0_type_19 : decode cX0_type 19 = .ok (.sipush 150, 3) := dk_17 0 150 (dk_at dksX0_type_0 19 rfl rfl)
theorem dX0_type_22 : decode cX0_type 22 = .ok (.if_icmp .ne 6, 3) := dk_160 0 6 (dk_at dksX0_type_1 0 rfl rfl)
theorem dX0_type_25 : decode cX0_type 25 = .ok (.ldc 66, 2) := dk_18 66 (dk_at dksX0_type_1 3 rfl rfl)
theorem dX0_type_27 : decode cX0_type 27 = .ok (.ireturn, 1) := dk_172 (dk_at dksX0_type_1 5 rfl rfl)
theorem dX0_type_28 : decode cX0_type 28 = .ok (.aload_n 0, 1) := dk_42 (dk_at dksX0_type_1 6 rfl rfl)
theorem dX0_type_29 : decode cX0_type 29 = .ok (.getfield 35, 3) := dk_180 0 35 (dk_at dksX0_type_1 7 rfl rfl)
theorem dX0_type_32 : decode cX0_type 32 = .ok (.aload_n 0, 1) := dk_42 (dk_at dksX0_type_1 10 rfl rfl)
theorem dX0_type_33 : decode cX0_type 33 = .ok (.getfield 127, 3) := dk_180 0 127 (dk_at dksX0_type_1 11 rfl rfl)
theorem dX0_type_36 : decode cX0_type 36 = .ok (.iload_n 1, 1) := dk_27 (dk_at dksX0_type_1 14 rfl rfl)
theorem dX0_type_37 : decode cX0_type 37 = .ok (.i2b, 1) := dk_145 (dk_at dksX0_type_1 15 rfl rfl)
theorem dX0_type_38 : decode cX0_type 38 = .ok (.bastore, 1) := dk_84 (dk_at dksX0_type_1 16 rfl rfl)
theorem dX0_type_39 : decode cX0_type 39 = .ok (.aload_n 0, 1) := dk_42 (dk_at dksX0_type_1 17 rfl rfl)
theorem dX0_type_40 : decode cX0_type 40 = .ok (.dup, 1) := dk_89 (dk_at dksX0_type_1 18 rfl rfl)
theorem dX0_type_41 : decode cX0_type 41 = .ok (.getfield 127, 3) := dk_180 0 127 (dk_at dksX0_type_1 19 rfl rfl)
theorem dX0_type_44 : decode cX0_type 44 = .ok (.iconst 1, 1) := dk_4 (dk_at dksX0_type_1 22 rfl rfl)
theorem dX0_type_45 : decode cX0_type 45 = .ok (.iadd, 1) := dk_96 (dk_at dksX0_type_1 23 rfl rfl)
theorem dX0_type_46 : decode cX0_type 46 = .ok (.putfield 127, 3) := dk_181 0 127 (dk_at dksX0_type_2 0 rfl rfl)
theorem dX0_type_49 : decode cX0_type 49 = .ok (.aload_n 0, 1) := dk_42 (dk_at dksX0_type_2 3 rfl rfl)
theorem dX0_type_50 : decode cX0_type 50 = .ok (.getfield 127, 3) := dk_180 0 127 (dk_at dksX0_type_2 4 rfl rfl)
theorem dX0_type_53 : decode cX0_type 53 = .ok (.ireturn, 1) := dk_172 (dk_at dksX0_type_2 7 rfl rfl)
abbrev cX0_clearText : ByteArray := prog_1_method_14_code
def yX0_clearText : MethodName := ⟨RX0, "clearText", "()I"⟩
def dkwX0_clearText_0 : List UInt8 := [42, 180, 0, 127, 60, 42, 3, 181, 0, 127, 27, 172]
abbrev dktX0_clearText_0 : List UInt8 := dkwX0_clearText_0 ++ []
theorem dksX0_clearText_0 : cX0_clearText.data.toList.drop 0 = dktX0_clearText_0 := by decide +kernel
theorem dX0_clearText_0 : decode cX0_clearText 0 = .ok (.aload_n 0, 1) := dk_42 (dk_at dksX0_clearText_0 0 rfl rfl)
theorem dX0_clearText_1 : decode cX0_clearText 1 = .ok (.getfield 127, 3) := dk_180 0 127 (dk_at dksX0_clearText_0 1 rfl rfl)
theorem dX0_clearText_4 : decode cX0_clearText 4 = .ok (.istore_n 1, 1) := dk_60 (dk_at dksX0_clearText_0 4 rfl rfl)
theorem dX0_clearText_5 : decode cX0_clearText 5 = .ok (.aload_n 0, 1) := dk_42 (dk_at dksX0_clearText_0 5 rfl rfl)
theorem dX0_clearText_6 : decode cX0_clearText 6 = .ok (.iconst 0, 1) := dk_3 (dk_at dksX0_clearText_0 6 rfl rfl)
theorem dX0_clearText_7 : decode cX0_clearText 7 = .ok (.putfield 127, 3) := dk_181 0 127 (dk_at dksX0_clearText_0 7 rfl rfl)
theorem dX0_clearText_10 : decode cX0_clearText 10 = .ok (.iload_n 1, 1) := dk_27 (dk_at dksX0_clearText_0 10 rfl rfl)
theorem dX0_clearText_11 : decode cX0_clearText 11 = .ok (.ireturn, 1) := dk_172 (dk_at dksX0_clearText_0 11 rfl rfl)
abbrev cX0_fault : ByteArray := prog_1_method_15_code
def yX0_fault : MethodName := ⟨RX0, "fault", "()I"⟩
def dkwX0_fault_0 : List UInt8 := [187, 0, 130, 89, 42, 183, 0, 132, 182, 0, 135, 87, 18, 139, 172, 76, 43, 180, 0, 142, 172]
abbrev dktX0_fault_0 : List UInt8 := dkwX0_fault_0 ++ []
theorem dksX0_fault_0 : cX0_fault.data.toList.drop 0 = dktX0_fault_0 := by decide +kernel
theorem dX0_fault_0 : decode cX0_fault 0 = .ok (.new 130, 3) := dk_187 0 130 (dk_at dksX0_fault_0 0 rfl rfl)
theorem dX0_fault_3 : decode cX0_fault 3 = .ok (.dup, 1) := dk_89 (dk_at dksX0_fault_0 3 rfl rfl)
theorem dX0_fault_4 : decode cX0_fault 4 = .ok (.aload_n 0, 1) := dk_42 (dk_at dksX0_fault_0 4 rfl rfl)
theorem dX0_fault_5 : decode cX0_fault 5 = .ok (.invokespecial 132, 3) := dk_183 0 132 (dk_at dksX0_fault_0 5 rfl rfl)
theorem dX0_fault_8 : decode cX0_fault 8 = .ok (.invokevirtual 135, 3) := dk_182 0 135 (dk_at dksX0_fault_0 8 rfl rfl)
theorem dX0_fault_11 : decode cX0_fault 11 = .ok (.pop, 1) := dk_87 (dk_at dksX0_fault_0 11 rfl rfl)
theorem dX0_fault_12 : decode cX0_fault 12 = .ok (.ldc 139, 2) := dk_18 139 (dk_at dksX0_fault_0 12 rfl rfl)
theorem dX0_fault_14 : decode cX0_fault 14 = .ok (.ireturn, 1) := dk_172 (dk_at dksX0_fault_0 14 rfl rfl)
theorem dX0_fault_15 : decode cX0_fault 15 = .ok (.astore_n 1, 1) := dk_76 (dk_at dksX0_fault_0 15 rfl rfl)
theorem dX0_fault_16 : decode cX0_fault 16 = .ok (.aload_n 1, 1) := dk_43 (dk_at dksX0_fault_0 16 rfl rfl)
theorem dX0_fault_17 : decode cX0_fault 17 = .ok (.getfield 142, 3) := dk_180 0 142 (dk_at dksX0_fault_0 17 rfl rfl)
theorem dX0_fault_20 : decode cX0_fault 20 = .ok (.ireturn, 1) := dk_172 (dk_at dksX0_fault_0 20 rfl rfl)
abbrev cX0_load : ByteArray := prog_1_method_16_code
def yX0_load : MethodName := ⟨RX0, "load", "()I"⟩
def dkwX0_load_1 : List UInt8 := [43, 181, 0, 20, 42, 3, 181, 0, 127, 42, 180, 0, 20, 182, 0, 54, 172]
abbrev dktX0_load_1 : List UInt8 := dkwX0_load_1 ++ []
def dkwX0_load_0 : List UInt8 := [187, 0, 130, 89, 42, 183, 0, 132, 182, 0, 135, 76, 167, 0, 7, 77, 18, 121, 172, 42, 182, 0, 67, 42]
abbrev dktX0_load_0 : List UInt8 := dkwX0_load_0 ++ dktX0_load_1
theorem dksX0_load_0 : cX0_load.data.toList.drop 0 = dktX0_load_0 := by decide +kernel
theorem dksX0_load_1 : cX0_load.data.toList.drop 24 = dktX0_load_1 := dk_seg dksX0_load_0 24 rfl rfl
theorem dX0_load_0 : decode cX0_load 0 = .ok (.new 130, 3) := dk_187 0 130 (dk_at dksX0_load_0 0 rfl rfl)
theorem dX0_load_3 : decode cX0_load 3 = .ok (.dup, 1) := dk_89 (dk_at dksX0_load_0 3 rfl rfl)
theorem dX0_load_4 : decode cX0_load 4 = .ok (.aload_n 0, 1) := dk_42 (dk_at dksX0_load_0 4 rfl rfl)
theorem dX0_load_5 : decode cX0_load 5 = .ok (.invokespecial 132, 3) := dk_183 0 132 (dk_at dksX0_load_0 5 rfl rfl)
theorem dX0_load_8 : decode cX0_load 8 = .ok (.invokevirtual 135, 3) := dk_182 0 135 (dk_at dksX0_load_0 8 rfl rfl)
theorem dX0_load_11 : decode cX0_load 11 = .ok (.astore_n 1, 1) := dk_76 (dk_at dksX0_load_0 11 rfl rfl)
theorem dX0_load_12 : decode cX0_load 12 = .ok (.goto 7, 3) := dk_167 0 7 (dk_at dksX0_load_0 12 rfl rfl)
theorem dX0_load_15 : decode cX0_load 15 = .ok (.astore_n 2, 1) := dk_77 (dk_at dksX0_load_0 15 rfl rfl)
theorem dX0_load_16 : decode cX0_load 16 = .ok (.ldc 121, 2) := dk_18 121 (dk_at dksX0_load_0 16 rfl rfl)
theorem dX0_load_18 : decode cX0_load 18 = .ok (.ireturn, 1) := dk_172 (dk_at dksX0_load_0 18 rfl rfl)
theorem dX0_load_19 : decode cX0_load 19 = .ok (.aload_n 0, 1) := dk_42 (dk_at dksX0_load_0 19 rfl rfl)
theorem dX0_load_20 : decode cX0_load 20 = .ok (.invokevirtual 67, 3) := dk_182 0 67 (dk_at dksX0_load_0 20 rfl rfl)
theorem dX0_load_23 : decode cX0_load 23 = .ok (.aload_n 0, 1) := dk_42 (dk_at dksX0_load_0 23 rfl rfl)
theorem dX0_load_24 : decode cX0_load 24 = .ok (.aload_n 1, 1) := dk_43 (dk_at dksX0_load_1 0 rfl rfl)
theorem dX0_load_25 : decode cX0_load 25 = .ok (.putfield 20, 3) := dk_181 0 20 (dk_at dksX0_load_1 1 rfl rfl)
theorem dX0_load_28 : decode cX0_load 28 = .ok (.aload_n 0, 1) := dk_42 (dk_at dksX0_load_1 4 rfl rfl)
theorem dX0_load_29 : decode cX0_load 29 = .ok (.iconst 0, 1) := dk_3 (dk_at dksX0_load_1 5 rfl rfl)
theorem dX0_load_30 : decode cX0_load 30 = .ok (.putfield 127, 3) := dk_181 0 127 (dk_at dksX0_load_1 6 rfl rfl)
theorem dX0_load_33 : decode cX0_load 33 = .ok (.aload_n 0, 1) := dk_42 (dk_at dksX0_load_1 9 rfl rfl)
theorem dX0_load_34 : decode cX0_load 34 = .ok (.getfield 20, 3) := dk_180 0 20 (dk_at dksX0_load_1 10 rfl rfl)
theorem dX0_load_37 : decode cX0_load 37 = .ok (.invokevirtual 54, 3) := dk_182 0 54 (dk_at dksX0_load_1 13 rfl rfl)
theorem dX0_load_40 : decode cX0_load 40 = .ok (.ireturn, 1) := dk_172 (dk_at dksX0_load_1 16 rfl rfl)
abbrev cX0_meanCycle : ByteArray := prog_1_method_22_code
def yX0_meanCycle : MethodName := ⟨RX0, "meanCycle", "()I"⟩
def dkwX0_meanCycle_1 : List UInt8 := [43, 180, 0, 206, 183, 0, 210, 182, 0, 213, 182, 0, 217, 172]
abbrev dktX0_meanCycle_1 : List UInt8 := dkwX0_meanCycle_1 ++ []
def dkwX0_meanCycle_0 : List UInt8 := [42, 182, 0, 197, 76, 43, 199, 0, 8, 18, 139, 167, 0, 26, 42, 187, 0, 201, 89, 42, 43, 182, 0, 203]
abbrev dktX0_meanCycle_0 : List UInt8 := dkwX0_meanCycle_0 ++ dktX0_meanCycle_1
theorem dksX0_meanCycle_0 : cX0_meanCycle.data.toList.drop 0 = dktX0_meanCycle_0 := by decide +kernel
theorem dksX0_meanCycle_1 : cX0_meanCycle.data.toList.drop 24 = dktX0_meanCycle_1 := dk_seg dksX0_meanCycle_0 24 rfl rfl
theorem dX0_meanCycle_0 : decode cX0_meanCycle 0 = .ok (.aload_n 0, 1) := dk_42 (dk_at dksX0_meanCycle_0 0 rfl rfl)
theorem dX0_meanCycle_1 : decode cX0_meanCycle 1 = .ok (.invokevirtual 197, 3) := dk_182 0 197 (dk_at dksX0_meanCycle_0 1 rfl rfl)
theorem dX0_meanCycle_4 : decode cX0_meanCycle 4 = .ok (.astore_n 1, 1) := dk_76 (dk_at dksX0_meanCycle_0 4 rfl rfl)
theorem dX0_meanCycle_5 : decode cX0_meanCycle 5 = .ok (.aload_n 1, 1) := dk_43 (dk_at dksX0_meanCycle_0 5 rfl rfl)
theorem dX0_meanCycle_6 : decode cX0_meanCycle 6 = .ok (.ifnonnull 8, 3) := dk_199 0 8 (dk_at dksX0_meanCycle_0 6 rfl rfl)
theorem dX0_meanCycle_9 : decode cX0_meanCycle 9 = .ok (.ldc 139, 2) := dk_18 139 (dk_at dksX0_meanCycle_0 9 rfl rfl)
theorem dX0_meanCycle_11 : decode cX0_meanCycle 11 = .ok (.goto 26, 3) := dk_167 0 26 (dk_at dksX0_meanCycle_0 11 rfl rfl)
theorem dX0_meanCycle_14 : decode cX0_meanCycle 14 = .ok (.aload_n 0, 1) := dk_42 (dk_at dksX0_meanCycle_0 14 rfl rfl)
theorem dX0_meanCycle_15 : decode cX0_meanCycle 15 = .ok (.new 201, 3) := dk_187 0 201 (dk_at dksX0_meanCycle_0 15 rfl rfl)
theorem dX0_meanCycle_18 : decode cX0_meanCycle 18 = .ok (.dup, 1) := dk_89 (dk_at dksX0_meanCycle_0 18 rfl rfl)
theorem dX0_meanCycle_19 : decode cX0_meanCycle 19 = .ok (.aload_n 0, 1) := dk_42 (dk_at dksX0_meanCycle_0 19 rfl rfl)
theorem dX0_meanCycle_20 : decode cX0_meanCycle 20 = .ok (.aload_n 1, 1) := dk_43 (dk_at dksX0_meanCycle_0 20 rfl rfl)
theorem dX0_meanCycle_21 : decode cX0_meanCycle 21 = .ok (.invokevirtual 203, 3) := dk_182 0 203 (dk_at dksX0_meanCycle_0 21 rfl rfl)
theorem dX0_meanCycle_24 : decode cX0_meanCycle 24 = .ok (.aload_n 1, 1) := dk_43 (dk_at dksX0_meanCycle_1 0 rfl rfl)
theorem dX0_meanCycle_25 : decode cX0_meanCycle 25 = .ok (.getfield 206, 3) := dk_180 0 206 (dk_at dksX0_meanCycle_1 1 rfl rfl)
theorem dX0_meanCycle_28 : decode cX0_meanCycle 28 = .ok (.invokespecial 210, 3) := dk_183 0 210 (dk_at dksX0_meanCycle_1 4 rfl rfl)
theorem dX0_meanCycle_31 : decode cX0_meanCycle 31 = .ok (.invokevirtual 213, 3) := dk_182 0 213 (dk_at dksX0_meanCycle_1 7 rfl rfl)
theorem dX0_meanCycle_34 : decode cX0_meanCycle 34 = .ok (.invokevirtual 217, 3) := dk_182 0 217 (dk_at dksX0_meanCycle_1 10 rfl rfl)
theorem dX0_meanCycle_37 : decode cX0_meanCycle 37 = .ok (.ireturn, 1) := dk_172 (dk_at dksX0_meanCycle_1 13 rfl rfl)
abbrev cX0_meanPotentials : ByteArray := prog_1_method_21_code
def yX0_meanPotentials : MethodName := ⟨RX0, "meanPotentials", "()LRatioGraph$Potentials;"⟩
def dkwX0_meanPotentials_1 : List UInt8 := [182, 0, 194, 153, 0, 7, 44, 167, 0, 4, 1, 176]
abbrev dktX0_meanPotentials_1 : List UInt8 := dkwX0_meanPotentials_1 ++ []
def dkwX0_meanPotentials_0 : List UInt8 := [42, 182, 0, 185, 76, 43, 199, 0, 5, 1, 176, 187, 0, 189, 89, 42, 43, 3, 183, 0, 191, 77, 44]
abbrev dktX0_meanPotentials_0 : List UInt8 := dkwX0_meanPotentials_0 ++ dktX0_meanPotentials_1
theorem dksX0_meanPotentials_0 : cX0_meanPotentials.data.toList.drop 0 = dktX0_meanPotentials_0 := by decide +kernel
theorem dksX0_meanPotentials_1 : cX0_meanPotentials.data.toList.drop 23 = dktX0_meanPotentials_1 := dk_seg dksX0_meanPotentials_0 23 rfl rfl
theorem dX0_meanPotentials_0 : decode cX0_meanPotentials 0 = .ok (.aload_n 0, 1) := dk_42 (dk_at dksX0_meanPotentials_0 0 rfl rfl)
theorem dX0_meanPotentials_1 : decode cX0_meanPotentials 1 = .ok (.invokevirtual 185, 3) := dk_182 0 185 (dk_at dksX0_meanPotentials_0 1 rfl rfl)
theorem dX0_meanPotentials_4 : decode cX0_meanPotentials 4 = .ok (.astore_n 1, 1) := dk_76 (dk_at dksX0_meanPotentials_0 4 rfl rfl)
theorem dX0_meanPotentials_5 : decode cX0_meanPotentials 5 = .ok (.aload_n 1, 1) := dk_43 (dk_at dksX0_meanPotentials_0 5 rfl rfl)
theorem dX0_meanPotentials_6 : decode cX0_meanPotentials 6 = .ok (.ifnonnull 5, 3) := dk_199 0 5 (dk_at dksX0_meanPotentials_0 6 rfl rfl)
theorem dX0_meanPotentials_9 : decode cX0_meanPotentials 9 = .ok (.aconst_null, 1) := dk_1 (dk_at dksX0_meanPotentials_0 9 rfl rfl)
theorem dX0_meanPotentials_10 : decode cX0_meanPotentials 10 = .ok (.areturn, 1) := dk_176 (dk_at dksX0_meanPotentials_0 10 rfl rfl)
theorem dX0_meanPotentials_11 : decode cX0_meanPotentials 11 = .ok (.new 189, 3) := dk_187 0 189 (dk_at dksX0_meanPotentials_0 11 rfl rfl)
theorem dX0_meanPotentials_14 : decode cX0_meanPotentials 14 = .ok (.dup, 1) := dk_89 (dk_at dksX0_meanPotentials_0 14 rfl rfl)
theorem dX0_meanPotentials_15 : decode cX0_meanPotentials 15 = .ok (.aload_n 0, 1) := dk_42 (dk_at dksX0_meanPotentials_0 15 rfl rfl)
theorem dX0_meanPotentials_16 : decode cX0_meanPotentials 16 = .ok (.aload_n 1, 1) := dk_43 (dk_at dksX0_meanPotentials_0 16 rfl rfl)
theorem dX0_meanPotentials_17 : decode cX0_meanPotentials 17 = .ok (.iconst 0, 1) := dk_3 (dk_at dksX0_meanPotentials_0 17 rfl rfl)
theorem dX0_meanPotentials_18 : decode cX0_meanPotentials 18 = .ok (.invokespecial 191, 3) := dk_183 0 191 (dk_at dksX0_meanPotentials_0 18 rfl rfl)
theorem dX0_meanPotentials_21 : decode cX0_meanPotentials 21 = .ok (.astore_n 2, 1) := dk_77 (dk_at dksX0_meanPotentials_0 21 rfl rfl)
theorem dX0_meanPotentials_22 : decode cX0_meanPotentials 22 = .ok (.aload_n 2, 1) := dk_44 (dk_at dksX0_meanPotentials_0 22 rfl rfl)
theorem dX0_meanPotentials_23 : decode cX0_meanPotentials 23 = .ok (.invokevirtual 194, 3) := dk_182 0 194 (dk_at dksX0_meanPotentials_1 0 rfl rfl)
theorem dX0_meanPotentials_26 : decode cX0_meanPotentials 26 = .ok (.ifCond .eq 7, 3) := dk_153 0 7 (dk_at dksX0_meanPotentials_1 3 rfl rfl)
theorem dX0_meanPotentials_29 : decode cX0_meanPotentials 29 = .ok (.aload_n 2, 1) := dk_44 (dk_at dksX0_meanPotentials_1 6 rfl rfl)
theorem dX0_meanPotentials_30 : decode cX0_meanPotentials 30 = .ok (.goto 4, 3) := dk_167 0 4 (dk_at dksX0_meanPotentials_1 7 rfl rfl)
theorem dX0_meanPotentials_33 : decode cX0_meanPotentials 33 = .ok (.aconst_null, 1) := dk_1 (dk_at dksX0_meanPotentials_1 10 rfl rfl)
theorem dX0_meanPotentials_34 : decode cX0_meanPotentials 34 = .ok (.areturn, 1) := dk_176 (dk_at dksX0_meanPotentials_1 11 rfl rfl)
abbrev cX0_leastMean : ByteArray := prog_1_method_19_code
def yX0_leastMean : MethodName := ⟨RX0, "leastMean", "()LRatioGraph$Fraction;"⟩
def dkwX0_leastMean_8 : List UInt8 := [167, 0, 4, 44, 77, 132, 3, 1, 167, 255, 198, 44, 176]
abbrev dktX0_leastMean_8 : List UInt8 := dkwX0_leastMean_8 ++ []
def dkwX0_leastMean_7 : List UInt8 := [1, 58, 4, 25, 4, 198, 0, 21, 44, 198, 0, 12, 25, 4, 44, 182, 0, 176, 156, 0, 8, 25, 4]
abbrev dktX0_leastMean_7 : List UInt8 := dkwX0_leastMean_7 ++ dktX0_leastMean_8
def dkwX0_leastMean_6 : List UInt8 := [162, 0, 58, 43, 16, 8, 50, 29, 47, 20, 0, 155, 148, 156, 0, 11, 43, 29, 184, 0, 172, 167, 0, 4]
abbrev dktX0_leastMean_6 : List UInt8 := dkwX0_leastMean_6 ++ dktX0_leastMean_7
def dkwX0_leastMean_5 : List UInt8 := [184, 0, 166, 80, 132, 3, 1, 167, 255, 172, 132, 2, 1, 167, 255, 136, 1, 77, 3, 62, 29, 16, 8]
abbrev dktX0_leastMean_5 : List UInt8 := dkwX0_leastMean_5 ++ dktX0_leastMean_6
def dkwX0_leastMean_4 : List UInt8 := [25, 4, 180, 0, 160, 47, 43, 28, 4, 100, 50, 25, 4, 180, 0, 157, 47, 25, 4, 180, 0, 163, 133, 97]
abbrev dktX0_leastMean_4 : List UInt8 := dkwX0_leastMean_4 ++ dktX0_leastMean_5
def dkwX0_leastMean_3 : List UInt8 := [25, 4, 180, 0, 157, 47, 20, 0, 155, 148, 156, 0, 42, 43, 28, 50, 25, 4, 180, 0, 160, 43, 28, 50]
abbrev dktX0_leastMean_3 : List UInt8 := dkwX0_leastMean_3 ++ dktX0_leastMean_4
def dkwX0_leastMean_2 : List UInt8 := [182, 0, 54, 162, 0, 79, 42, 180, 0, 20, 29, 182, 0, 85, 192, 0, 60, 58, 4, 43, 28, 4, 100, 50]
abbrev dktX0_leastMean_2 : List UInt8 := dkwX0_leastMean_2 ++ dktX0_leastMean_3
def dkwX0_leastMean_1 : List UInt8 := [162, 0, 17, 43, 28, 50, 29, 20, 0, 155, 80, 132, 3, 1, 167, 255, 239, 3, 62, 29, 42, 180, 0, 20]
abbrev dktX0_leastMean_1 : List UInt8 := dkwX0_leastMean_1 ++ dktX0_leastMean_2
def dkwX0_leastMean_0 : List UInt8 := [16, 9, 16, 8, 197, 0, 153, 2, 76, 4, 61, 28, 16, 8, 163, 0, 120, 3, 62, 29, 16, 8]
abbrev dktX0_leastMean_0 : List UInt8 := dkwX0_leastMean_0 ++ dktX0_leastMean_1
theorem dksX0_leastMean_0 : cX0_leastMean.data.toList.drop 0 = dktX0_leastMean_0 := by decide +kernel
theorem dksX0_leastMean_1 : cX0_leastMean.data.toList.drop 22 = dktX0_leastMean_1 := dk_seg dksX0_leastMean_0 22 rfl rfl
theorem dksX0_leastMean_2 : cX0_leastMean.data.toList.drop 46 = dktX0_leastMean_2 := dk_seg dksX0_leastMean_1 24 rfl rfl
theorem dksX0_leastMean_3 : cX0_leastMean.data.toList.drop 70 = dktX0_leastMean_3 := dk_seg dksX0_leastMean_2 24 rfl rfl
theorem dksX0_leastMean_4 : cX0_leastMean.data.toList.drop 94 = dktX0_leastMean_4 := dk_seg dksX0_leastMean_3 24 rfl rfl
theorem dksX0_leastMean_5 : cX0_leastMean.data.toList.drop 118 = dktX0_leastMean_5 := dk_seg dksX0_leastMean_4 24 rfl rfl
theorem dksX0_leastMean_6 : cX0_leastMean.data.toList.drop 141 = dktX0_leastMean_6 := dk_seg dksX0_leastMean_5 23 rfl rfl
theorem dksX0_leastMean_7 : cX0_leastMean.data.toList.drop 165 = dktX0_leastMean_7 := dk_seg dksX0_leastMean_6 24 rfl rfl
theorem dksX0_leastMean_8 : cX0_leastMean.data.toList.drop 188 = dktX0_leastMean_8 := dk_seg dksX0_leastMean_7 23 rfl rfl
theorem dX0_leastMean_0 : decode cX0_leastMean 0 = .ok (.bipush 9, 2) := dk_16 9 (dk_at dksX0_leastMean_0 0 rfl rfl)
theorem dX0_leastMean_2 : decode cX0_leastMean 2 = .ok (.bipush 8, 2) := dk_16 8 (dk_at dksX0_leastMean_0 2 rfl rfl)
theorem dX0_leastMean_4 : decode cX0_leastMean 4 = .ok (.multianewarray 153 2, 4) := by decide +kernel
theorem dX0_leastMean_8 : decode cX0_leastMean 8 = .ok (.astore_n 1, 1) := dk_76 (dk_at dksX0_leastMean_0 8 rfl rfl)
theorem dX0_leastMean_9 : decode cX0_leastMean 9 = .ok (.iconst 1, 1) := dk_4 (dk_at dksX0_leastMean_0 9 rfl rfl)
theorem dX0_leastMean_10 : decode cX0_leastMean 10 = .ok (.istore_n 2, 1) := dk_61 (dk_at dksX0_leastMean_0 10 rfl rfl)
theorem dX0_leastMean_11 : decode cX0_leastMean 11 = .ok (.iload_n 2, 1) := dk_28 (dk_at dksX0_leastMean_0 11 rfl rfl)
theorem dX0_leastMean_12 : decode cX0_leastMean 12 = .ok (.bipush 8, 2) := dk_16 8 (dk_at dksX0_leastMean_0 12 rfl rfl)
theorem dX0_leastMean_14 : decode cX0_leastMean 14 = .ok (.if_icmp .gt 120, 3) := dk_163 0 120 (dk_at dksX0_leastMean_0 14 rfl rfl)
theorem dX0_leastMean_17 : decode cX0_leastMean 17 = .ok (.iconst 0, 1) := dk_3 (dk_at dksX0_leastMean_0 17 rfl rfl)
theorem dX0_leastMean_18 : decode cX0_leastMean 18 = .ok (.istore_n 3, 1) := dk_62 (dk_at dksX0_leastMean_0 18 rfl rfl)
theorem dX0_leastMean_19 : decode cX0_leastMean 19 = .ok (.iload_n 3, 1) := dk_29 (dk_at dksX0_leastMean_0 19 rfl rfl)
theorem dX0_leastMean_20 : decode cX0_leastMean 20 = .ok (.bipush 8, 2) := dk_16 8 (dk_at dksX0_leastMean_0 20 rfl rfl)
theorem dX0_leastMean_22 : decode cX0_leastMean 22 = .ok (.if_icmp .ge 17, 3) := dk_162 0 17 (dk_at dksX0_leastMean_1 0 rfl rfl)
theorem dX0_leastMean_25 : decode cX0_leastMean 25 = .ok (.aload_n 1, 1) := dk_43 (dk_at dksX0_leastMean_1 3 rfl rfl)
theorem dX0_leastMean_26 : decode cX0_leastMean 26 = .ok (.iload_n 2, 1) := dk_28 (dk_at dksX0_leastMean_1 4 rfl rfl)
theorem dX0_leastMean_27 : decode cX0_leastMean 27 = .ok (.aaload, 1) := dk_50 (dk_at dksX0_leastMean_1 5 rfl rfl)
theorem dX0_leastMean_28 : decode cX0_leastMean 28 = .ok (.iload_n 3, 1) := dk_29 (dk_at dksX0_leastMean_1 6 rfl rfl)
theorem dX0_leastMean_29 : decode cX0_leastMean 29 = .ok (.ldc2_w 155, 3) := dk_20 0 155 (dk_at dksX0_leastMean_1 7 rfl rfl)
theorem dX0_leastMean_32 : decode cX0_leastMean 32 = .ok (.lastore, 1) := dk_80 (dk_at dksX0_leastMean_1 10 rfl rfl)
theorem dX0_leastMean_33 : decode cX0_leastMean 33 = .ok (.iinc 3 1, 3) := dk_132 3 1 (dk_at dksX0_leastMean_1 11 rfl rfl)
theorem dX0_leastMean_36 : decode cX0_leastMean 36 = .ok (.goto (-17), 3) := dk_167 255 239 (dk_at dksX0_leastMean_1 14 rfl rfl)
theorem dX0_leastMean_39 : decode cX0_leastMean 39 = .ok (.iconst 0, 1) := dk_3 (dk_at dksX0_leastMean_1 17 rfl rfl)
theorem dX0_leastMean_40 : decode cX0_leastMean 40 = .ok (.istore_n 3, 1) := dk_62 (dk_at dksX0_leastMean_1 18 rfl rfl)
theorem dX0_leastMean_41 : decode cX0_leastMean 41 = .ok (.iload_n 3, 1) := dk_29 (dk_at dksX0_leastMean_1 19 rfl rfl)
theorem dX0_leastMean_42 : decode cX0_leastMean 42 = .ok (.aload_n 0, 1) := dk_42 (dk_at dksX0_leastMean_1 20 rfl rfl)
theorem dX0_leastMean_43 : decode cX0_leastMean 43 = .ok (.getfield 20, 3) := dk_180 0 20 (dk_at dksX0_leastMean_1 21 rfl rfl)
theorem dX0_leastMean_46 : decode cX0_leastMean 46 = .ok (.invokevirtual 54, 3) := dk_182 0 54 (dk_at dksX0_leastMean_2 0 rfl rfl)
theorem dX0_leastMean_49 : decode cX0_leastMean 49 = .ok (.if_icmp .ge 79, 3) := dk_162 0 79 (dk_at dksX0_leastMean_2 3 rfl rfl)
theorem dX0_leastMean_52 : decode cX0_leastMean 52 = .ok (.aload_n 0, 1) := dk_42 (dk_at dksX0_leastMean_2 6 rfl rfl)
theorem dX0_leastMean_53 : decode cX0_leastMean 53 = .ok (.getfield 20, 3) := dk_180 0 20 (dk_at dksX0_leastMean_2 7 rfl rfl)
theorem dX0_leastMean_56 : decode cX0_leastMean 56 = .ok (.iload_n 3, 1) := dk_29 (dk_at dksX0_leastMean_2 10 rfl rfl)
theorem dX0_leastMean_57 : decode cX0_leastMean 57 = .ok (.invokevirtual 85, 3) := dk_182 0 85 (dk_at dksX0_leastMean_2 11 rfl rfl)
theorem dX0_leastMean_60 : decode cX0_leastMean 60 = .ok (.checkcast 60, 3) := dk_192 0 60 (dk_at dksX0_leastMean_2 14 rfl rfl)
theorem dX0_leastMean_63 : decode cX0_leastMean 63 = .ok (.astore 4, 2) := dk_58 4 (dk_at dksX0_leastMean_2 17 rfl rfl)
theorem dX0_leastMean_65 : decode cX0_leastMean 65 = .ok (.aload_n 1, 1) := dk_43 (dk_at dksX0_leastMean_2 19 rfl rfl)
theorem dX0_leastMean_66 : decode cX0_leastMean 66 = .ok (.iload_n 2, 1) := dk_28 (dk_at dksX0_leastMean_2 20 rfl rfl)
theorem dX0_leastMean_67 : decode cX0_leastMean 67 = .ok (.iconst 1, 1) := dk_4 (dk_at dksX0_leastMean_2 21 rfl rfl)
theorem dX0_leastMean_68 : decode cX0_leastMean 68 = .ok (.isub, 1) := dk_100 (dk_at dksX0_leastMean_2 22 rfl rfl)
theorem dX0_leastMean_69 : decode cX0_leastMean 69 = .ok (.aaload, 1) := dk_50 (dk_at dksX0_leastMean_2 23 rfl rfl)
theorem dX0_leastMean_70 : decode cX0_leastMean 70 = .ok (.aload 4, 2) := dk_25 4 (dk_at dksX0_leastMean_3 0 rfl rfl)
theorem dX0_leastMean_72 : decode cX0_leastMean 72 = .ok (.getfield 157, 3) := dk_180 0 157 (dk_at dksX0_leastMean_3 2 rfl rfl)
theorem dX0_leastMean_75 : decode cX0_leastMean 75 = .ok (.laload, 1) := dk_47 (dk_at dksX0_leastMean_3 5 rfl rfl)
theorem dX0_leastMean_76 : decode cX0_leastMean 76 = .ok (.ldc2_w 155, 3) := dk_20 0 155 (dk_at dksX0_leastMean_3 6 rfl rfl)
theorem dX0_leastMean_79 : decode cX0_leastMean 79 = .ok (.lcmp, 1) := dk_148 (dk_at dksX0_leastMean_3 9 rfl rfl)
theorem dX0_leastMean_80 : decode cX0_leastMean 80 = .ok (.ifCond .ge 42, 3) := dk_156 0 42 (dk_at dksX0_leastMean_3 10 rfl rfl)
theorem dX0_leastMean_83 : decode cX0_leastMean 83 = .ok (.aload_n 1, 1) := dk_43 (dk_at dksX0_leastMean_3 13 rfl rfl)
theorem dX0_leastMean_84 : decode cX0_leastMean 84 = .ok (.iload_n 2, 1) := dk_28 (dk_at dksX0_leastMean_3 14 rfl rfl)
theorem dX0_leastMean_85 : decode cX0_leastMean 85 = .ok (.aaload, 1) := dk_50 (dk_at dksX0_leastMean_3 15 rfl rfl)
theorem dX0_leastMean_86 : decode cX0_leastMean 86 = .ok (.aload 4, 2) := dk_25 4 (dk_at dksX0_leastMean_3 16 rfl rfl)
theorem dX0_leastMean_88 : decode cX0_leastMean 88 = .ok (.getfield 160, 3) := dk_180 0 160 (dk_at dksX0_leastMean_3 18 rfl rfl)
theorem dX0_leastMean_91 : decode cX0_leastMean 91 = .ok (.aload_n 1, 1) := dk_43 (dk_at dksX0_leastMean_3 21 rfl rfl)
theorem dX0_leastMean_92 : decode cX0_leastMean 92 = .ok (.iload_n 2, 1) := dk_28 (dk_at dksX0_leastMean_3 22 rfl rfl)
theorem dX0_leastMean_93 : decode cX0_leastMean 93 = .ok (.aaload, 1) := dk_50 (dk_at dksX0_leastMean_3 23 rfl rfl)
theorem dX0_leastMean_94 : decode cX0_leastMean 94 = .ok (.aload 4, 2) := dk_25 4 (dk_at dksX0_leastMean_4 0 rfl rfl)
theorem dX0_leastMean_96 : decode cX0_leastMean 96 = .ok (.getfield 160, 3) := dk_180 0 160 (dk_at dksX0_leastMean_4 2 rfl rfl)
theorem dX0_leastMean_99 : decode cX0_leastMean 99 = .ok (.laload, 1) := dk_47 (dk_at dksX0_leastMean_4 5 rfl rfl)
theorem dX0_leastMean_100 : decode cX0_leastMean 100 = .ok (.aload_n 1, 1) := dk_43 (dk_at dksX0_leastMean_4 6 rfl rfl)
theorem dX0_leastMean_101 : decode cX0_leastMean 101 = .ok (.iload_n 2, 1) := dk_28 (dk_at dksX0_leastMean_4 7 rfl rfl)
theorem dX0_leastMean_102 : decode cX0_leastMean 102 = .ok (.iconst 1, 1) := dk_4 (dk_at dksX0_leastMean_4 8 rfl rfl)
theorem dX0_leastMean_103 : decode cX0_leastMean 103 = .ok (.isub, 1) := dk_100 (dk_at dksX0_leastMean_4 9 rfl rfl)
theorem dX0_leastMean_104 : decode cX0_leastMean 104 = .ok (.aaload, 1) := dk_50 (dk_at dksX0_leastMean_4 10 rfl rfl)
theorem dX0_leastMean_105 : decode cX0_leastMean 105 = .ok (.aload 4, 2) := dk_25 4 (dk_at dksX0_leastMean_4 11 rfl rfl)
theorem dX0_leastMean_107 : decode cX0_leastMean 107 = .ok (.getfield 157, 3) := dk_180 0 157 (dk_at dksX0_leastMean_4 13 rfl rfl)
theorem dX0_leastMean_110 : decode cX0_leastMean 110 = .ok (.laload, 1) := dk_47 (dk_at dksX0_leastMean_4 16 rfl rfl)
theorem dX0_leastMean_111 : decode cX0_leastMean 111 = .ok (.aload 4, 2) := dk_25 4 (dk_at dksX0_leastMean_4 17 rfl rfl)
theorem dX0_leastMean_113 : decode cX0_leastMean 113 = .ok (.getfield 163, 3) := dk_180 0 163 (dk_at dksX0_leastMean_4 19 rfl rfl)
theorem dX0_leastMean_116 : decode cX0_leastMean 116 = .ok (.i2l, 1) := dk_133 (dk_at dksX0_leastMean_4 22 rfl rfl)
theorem dX0_leastMean_117 : decode cX0_leastMean 117 = .ok (.ladd, 1) := dk_97 (dk_at dksX0_leastMean_4 23 rfl rfl)
theorem dX0_leastMean_118 : decode cX0_leastMean 118 = .ok (.invokestatic 166, 3) := dk_184 0 166 (dk_at dksX0_leastMean_5 0 rfl rfl)
theorem dX0_leastMean_121 : decode cX0_leastMean 121 = .ok (.lastore, 1) := dk_80 (dk_at dksX0_leastMean_5 3 rfl rfl)
theorem dX0_leastMean_122 : decode cX0_leastMean 122 = .ok (.iinc 3 1, 3) := dk_132 3 1 (dk_at dksX0_leastMean_5 4 rfl rfl)
theorem dX0_leastMean_125 : decode cX0_leastMean 125 = .ok (.goto (-84), 3) := dk_167 255 172 (dk_at dksX0_leastMean_5 7 rfl rfl)
theorem dX0_leastMean_128 : decode cX0_leastMean 128 = .ok (.iinc 2 1, 3) := dk_132 2 1 (dk_at dksX0_leastMean_5 10 rfl rfl)
theorem dX0_leastMean_131 : decode cX0_leastMean 131 = .ok (.goto (-120), 3) := dk_167 255 136 (dk_at dksX0_leastMean_5 13 rfl rfl)
theorem dX0_leastMean_134 : decode cX0_leastMean 134 = .ok (.aconst_null, 1) := dk_1 (dk_at dksX0_leastMean_5 16 rfl rfl)
theorem dX0_leastMean_135 : decode cX0_leastMean 135 = .ok (.astore_n 2, 1) := dk_77 (dk_at dksX0_leastMean_5 17 rfl rfl)
theorem dX0_leastMean_136 : decode cX0_leastMean 136 = .ok (.iconst 0, 1) := dk_3 (dk_at dksX0_leastMean_5 18 rfl rfl)
theorem dX0_leastMean_137 : decode cX0_leastMean 137 = .ok (.istore_n 3, 1) := dk_62 (dk_at dksX0_leastMean_5 19 rfl rfl)
theorem dX0_leastMean_138 : decode cX0_leastMean 138 = .ok (.iload_n 3, 1) := dk_29 (dk_at dksX0_leastMean_5 20 rfl rfl)
theorem dX0_leastMean_139 : decode cX0_leastMean 139 = .ok (.bipush 8, 2) := dk_16 8 (dk_at dksX0_leastMean_5 21 rfl rfl)
theorem dX0_leastMean_141 : decode cX0_leastMean 141 = .ok (.if_icmp .ge 58, 3) := dk_162 0 58 (dk_at dksX0_leastMean_6 0 rfl rfl)
theorem dX0_leastMean_144 : decode cX0_leastMean 144 = .ok (.aload_n 1, 1) := dk_43 (dk_at dksX0_leastMean_6 3 rfl rfl)
theorem dX0_leastMean_145 : decode cX0_leastMean 145 = .ok (.bipush 8, 2) := dk_16 8 (dk_at dksX0_leastMean_6 4 rfl rfl)
theorem dX0_leastMean_147 : decode cX0_leastMean 147 = .ok (.aaload, 1) := dk_50 (dk_at dksX0_leastMean_6 6 rfl rfl)
theorem dX0_leastMean_148 : decode cX0_leastMean 148 = .ok (.iload_n 3, 1) := dk_29 (dk_at dksX0_leastMean_6 7 rfl rfl)
theorem dX0_leastMean_149 : decode cX0_leastMean 149 = .ok (.laload, 1) := dk_47 (dk_at dksX0_leastMean_6 8 rfl rfl)
theorem dX0_leastMean_150 : decode cX0_leastMean 150 = .ok (.ldc2_w 155, 3) := dk_20 0 155 (dk_at dksX0_leastMean_6 9 rfl rfl)
theorem dX0_leastMean_153 : decode cX0_leastMean 153 = .ok (.lcmp, 1) := dk_148 (dk_at dksX0_leastMean_6 12 rfl rfl)
theorem dX0_leastMean_154 : decode cX0_leastMean 154 = .ok (.ifCond .ge 11, 3) := dk_156 0 11 (dk_at dksX0_leastMean_6 13 rfl rfl)
theorem dX0_leastMean_157 : decode cX0_leastMean 157 = .ok (.aload_n 1, 1) := dk_43 (dk_at dksX0_leastMean_6 16 rfl rfl)
theorem dX0_leastMean_158 : decode cX0_leastMean 158 = .ok (.iload_n 3, 1) := dk_29 (dk_at dksX0_leastMean_6 17 rfl rfl)
theorem dX0_leastMean_159 : decode cX0_leastMean 159 = .ok (.invokestatic 172, 3) := dk_184 0 172 (dk_at dksX0_leastMean_6 18 rfl rfl)
theorem dX0_leastMean_162 : decode cX0_leastMean 162 = .ok (.goto 4, 3) := dk_167 0 4 (dk_at dksX0_leastMean_6 21 rfl rfl)
theorem dX0_leastMean_165 : decode cX0_leastMean 165 = .ok (.aconst_null, 1) := dk_1 (dk_at dksX0_leastMean_7 0 rfl rfl)
theorem dX0_leastMean_166 : decode cX0_leastMean 166 = .ok (.astore 4, 2) := dk_58 4 (dk_at dksX0_leastMean_7 1 rfl rfl)
theorem dX0_leastMean_168 : decode cX0_leastMean 168 = .ok (.aload 4, 2) := dk_25 4 (dk_at dksX0_leastMean_7 3 rfl rfl)
theorem dX0_leastMean_170 : decode cX0_leastMean 170 = .ok (.ifnull 21, 3) := dk_198 0 21 (dk_at dksX0_leastMean_7 5 rfl rfl)
theorem dX0_leastMean_173 : decode cX0_leastMean 173 = .ok (.aload_n 2, 1) := dk_44 (dk_at dksX0_leastMean_7 8 rfl rfl)
theorem dX0_leastMean_174 : decode cX0_leastMean 174 = .ok (.ifnull 12, 3) := dk_198 0 12 (dk_at dksX0_leastMean_7 9 rfl rfl)
theorem dX0_leastMean_177 : decode cX0_leastMean 177 = .ok (.aload 4, 2) := dk_25 4 (dk_at dksX0_leastMean_7 12 rfl rfl)
theorem dX0_leastMean_179 : decode cX0_leastMean 179 = .ok (.aload_n 2, 1) := dk_44 (dk_at dksX0_leastMean_7 14 rfl rfl)
theorem dX0_leastMean_180 : decode cX0_leastMean 180 = .ok (.invokevirtual 176, 3) := dk_182 0 176 (dk_at dksX0_leastMean_7 15 rfl rfl)
theorem dX0_leastMean_183 : decode cX0_leastMean 183 = .ok (.ifCond .ge 8, 3) := dk_156 0 8 (dk_at dksX0_leastMean_7 18 rfl rfl)
theorem dX0_leastMean_186 : decode cX0_leastMean 186 = .ok (.aload 4, 2) := dk_25 4 (dk_at dksX0_leastMean_7 21 rfl rfl)
theorem dX0_leastMean_188 : decode cX0_leastMean 188 = .ok (.goto 4, 3) := dk_167 0 4 (dk_at dksX0_leastMean_8 0 rfl rfl)
theorem dX0_leastMean_191 : decode cX0_leastMean 191 = .ok (.aload_n 2, 1) := dk_44 (dk_at dksX0_leastMean_8 3 rfl rfl)
theorem dX0_leastMean_192 : decode cX0_leastMean 192 = .ok (.astore_n 2, 1) := dk_77 (dk_at dksX0_leastMean_8 4 rfl rfl)
theorem dX0_leastMean_193 : decode cX0_leastMean 193 = .ok (.iinc 3 1, 3) := dk_132 3 1 (dk_at dksX0_leastMean_8 5 rfl rfl)
theorem dX0_leastMean_196 : decode cX0_leastMean 196 = .ok (.goto (-58), 3) := dk_167 255 198 (dk_at dksX0_leastMean_8 8 rfl rfl)
theorem dX0_leastMean_199 : decode cX0_leastMean 199 = .ok (.aload_n 2, 1) := dk_44 (dk_at dksX0_leastMean_8 11 rfl rfl)
theorem dX0_leastMean_200 : decode cX0_leastMean 200 = .ok (.areturn, 1) := dk_176 (dk_at dksX0_leastMean_8 12 rfl rfl)
abbrev cX0_greatestMean : ByteArray := prog_1_method_20_code
def yX0_greatestMean : MethodName := ⟨RX0, "greatestMean", "([[JI)LRatioGraph$Fraction;"⟩
def dkwX0_greatestMean_3 : List UInt8 := [132, 3, 1, 167, 255, 189, 44, 176]
abbrev dktX0_greatestMean_3 : List UInt8 := dkwX0_greatestMean_3 ++ []
def dkwX0_greatestMean_2 : List UInt8 := [58, 4, 44, 198, 0, 12, 25, 4, 44, 182, 0, 176, 158, 0, 8, 25, 4, 167, 0, 4, 44, 77]
abbrev dktX0_greatestMean_2 : List UInt8 := dkwX0_greatestMean_2 ++ dktX0_greatestMean_3
def dkwX0_greatestMean_1 : List UInt8 := [187, 0, 177, 89, 42, 16, 8, 50, 27, 47, 42, 29, 50, 27, 47, 101, 16, 8, 29, 100, 133, 183, 0, 182]
abbrev dktX0_greatestMean_1 : List UInt8 := dkwX0_greatestMean_1 ++ dktX0_greatestMean_2
def dkwX0_greatestMean_0 : List UInt8 := [1, 77, 3, 62, 29, 16, 8, 162, 0, 67, 42, 29, 50, 27, 47, 20, 0, 155, 148, 156, 0, 49]
abbrev dktX0_greatestMean_0 : List UInt8 := dkwX0_greatestMean_0 ++ dktX0_greatestMean_1
theorem dksX0_greatestMean_0 : cX0_greatestMean.data.toList.drop 0 = dktX0_greatestMean_0 := by decide +kernel
theorem dksX0_greatestMean_1 : cX0_greatestMean.data.toList.drop 22 = dktX0_greatestMean_1 := dk_seg dksX0_greatestMean_0 22 rfl rfl
theorem dksX0_greatestMean_2 : cX0_greatestMean.data.toList.drop 46 = dktX0_greatestMean_2 := dk_seg dksX0_greatestMean_1 24 rfl rfl
theorem dksX0_greatestMean_3 : cX0_greatestMean.data.toList.drop 68 = dktX0_greatestMean_3 := dk_seg dksX0_greatestMean_2 22 rfl rfl
theorem dX0_greatestMean_0 : decode cX0_greatestMean 0 = .ok (.aconst_null, 1) := dk_1 (dk_at dksX0_greatestMean_0 0 rfl rfl)
theorem dX0_greatestMean_1 : decode cX0_greatestMean 1 = .ok (.astore_n 2, 1) := dk_77 (dk_at dksX0_greatestMean_0 1 rfl rfl)
theorem dX0_greatestMean_2 : decode cX0_greatestMean 2 = .ok (.iconst 0, 1) := dk_3 (dk_at dksX0_greatestMean_0 2 rfl rfl)
theorem dX0_greatestMean_3 : decode cX0_greatestMean 3 = .ok (.istore_n 3, 1) := dk_62 (dk_at dksX0_greatestMean_0 3 rfl rfl)
theorem dX0_greatestMean_4 : decode cX0_greatestMean 4 = .ok (.iload_n 3, 1) := dk_29 (dk_at dksX0_greatestMean_0 4 rfl rfl)
theorem dX0_greatestMean_5 : decode cX0_greatestMean 5 = .ok (.bipush 8, 2) := dk_16 8 (dk_at dksX0_greatestMean_0 5 rfl rfl)
theorem dX0_greatestMean_7 : decode cX0_greatestMean 7 = .ok (.if_icmp .ge 67, 3) := dk_162 0 67 (dk_at dksX0_greatestMean_0 7 rfl rfl)
theorem dX0_greatestMean_10 : decode cX0_greatestMean 10 = .ok (.aload_n 0, 1) := dk_42 (dk_at dksX0_greatestMean_0 10 rfl rfl)
theorem dX0_greatestMean_11 : decode cX0_greatestMean 11 = .ok (.iload_n 3, 1) := dk_29 (dk_at dksX0_greatestMean_0 11 rfl rfl)
theorem dX0_greatestMean_12 : decode cX0_greatestMean 12 = .ok (.aaload, 1) := dk_50 (dk_at dksX0_greatestMean_0 12 rfl rfl)
theorem dX0_greatestMean_13 : decode cX0_greatestMean 13 = .ok (.iload_n 1, 1) := dk_27 (dk_at dksX0_greatestMean_0 13 rfl rfl)
theorem dX0_greatestMean_14 : decode cX0_greatestMean 14 = .ok (.laload, 1) := dk_47 (dk_at dksX0_greatestMean_0 14 rfl rfl)
theorem dX0_greatestMean_15 : decode cX0_greatestMean 15 = .ok (.ldc2_w 155, 3) := dk_20 0 155 (dk_at dksX0_greatestMean_0 15 rfl rfl)
theorem dX0_greatestMean_18 : decode cX0_greatestMean 18 = .ok (.lcmp, 1) := dk_148 (dk_at dksX0_greatestMean_0 18 rfl rfl)
theorem dX0_greatestMean_19 : decode cX0_greatestMean 19 = .ok (.ifCond .ge 49, 3) := dk_156 0 49 (dk_at dksX0_greatestMean_0 19 rfl rfl)
theorem dX0_greatestMean_22 : decode cX0_greatestMean 22 = .ok (.new 177, 3) := dk_187 0 177 (dk_at dksX0_greatestMean_1 0 rfl rfl)
theorem dX0_greatestMean_25 : decode cX0_greatestMean 25 = .ok (.dup, 1) := dk_89 (dk_at dksX0_greatestMean_1 3 rfl rfl)
theorem dX0_greatestMean_26 : decode cX0_greatestMean 26 = .ok (.aload_n 0, 1) := dk_42 (dk_at dksX0_greatestMean_1 4 rfl rfl)
theorem dX0_greatestMean_27 : decode cX0_greatestMean 27 = .ok (.bipush 8, 2) := dk_16 8 (dk_at dksX0_greatestMean_1 5 rfl rfl)
theorem dX0_greatestMean_29 : decode cX0_greatestMean 29 = .ok (.aaload, 1) := dk_50 (dk_at dksX0_greatestMean_1 7 rfl rfl)
theorem dX0_greatestMean_30 : decode cX0_greatestMean 30 = .ok (.iload_n 1, 1) := dk_27 (dk_at dksX0_greatestMean_1 8 rfl rfl)
theorem dX0_greatestMean_31 : decode cX0_greatestMean 31 = .ok (.laload, 1) := dk_47 (dk_at dksX0_greatestMean_1 9 rfl rfl)
theorem dX0_greatestMean_32 : decode cX0_greatestMean 32 = .ok (.aload_n 0, 1) := dk_42 (dk_at dksX0_greatestMean_1 10 rfl rfl)
theorem dX0_greatestMean_33 : decode cX0_greatestMean 33 = .ok (.iload_n 3, 1) := dk_29 (dk_at dksX0_greatestMean_1 11 rfl rfl)
theorem dX0_greatestMean_34 : decode cX0_greatestMean 34 = .ok (.aaload, 1) := dk_50 (dk_at dksX0_greatestMean_1 12 rfl rfl)
theorem dX0_greatestMean_35 : decode cX0_greatestMean 35 = .ok (.iload_n 1, 1) := dk_27 (dk_at dksX0_greatestMean_1 13 rfl rfl)
theorem dX0_greatestMean_36 : decode cX0_greatestMean 36 = .ok (.laload, 1) := dk_47 (dk_at dksX0_greatestMean_1 14 rfl rfl)
theorem dX0_greatestMean_37 : decode cX0_greatestMean 37 = .ok (.lsub, 1) := dk_101 (dk_at dksX0_greatestMean_1 15 rfl rfl)
theorem dX0_greatestMean_38 : decode cX0_greatestMean 38 = .ok (.bipush 8, 2) := dk_16 8 (dk_at dksX0_greatestMean_1 16 rfl rfl)
theorem dX0_greatestMean_40 : decode cX0_greatestMean 40 = .ok (.iload_n 3, 1) := dk_29 (dk_at dksX0_greatestMean_1 18 rfl rfl)
theorem dX0_greatestMean_41 : decode cX0_greatestMean 41 = .ok (.isub, 1) := dk_100 (dk_at dksX0_greatestMean_1 19 rfl rfl)
theorem dX0_greatestMean_42 : decode cX0_greatestMean 42 = .ok (.i2l, 1) := dk_133 (dk_at dksX0_greatestMean_1 20 rfl rfl)
theorem dX0_greatestMean_43 : decode cX0_greatestMean 43 = .ok (.invokespecial 182, 3) := dk_183 0 182 (dk_at dksX0_greatestMean_1 21 rfl rfl)
theorem dX0_greatestMean_46 : decode cX0_greatestMean 46 = .ok (.astore 4, 2) := dk_58 4 (dk_at dksX0_greatestMean_2 0 rfl rfl)
theorem dX0_greatestMean_48 : decode cX0_greatestMean 48 = .ok (.aload_n 2, 1) := dk_44 (dk_at dksX0_greatestMean_2 2 rfl rfl)
theorem dX0_greatestMean_49 : decode cX0_greatestMean 49 = .ok (.ifnull 12, 3) := dk_198 0 12 (dk_at dksX0_greatestMean_2 3 rfl rfl)
theorem dX0_greatestMean_52 : decode cX0_greatestMean 52 = .ok (.aload 4, 2) := dk_25 4 (dk_at dksX0_greatestMean_2 6 rfl rfl)
theorem dX0_greatestMean_54 : decode cX0_greatestMean 54 = .ok (.aload_n 2, 1) := dk_44 (dk_at dksX0_greatestMean_2 8 rfl rfl)
theorem dX0_greatestMean_55 : decode cX0_greatestMean 55 = .ok (.invokevirtual 176, 3) := dk_182 0 176 (dk_at dksX0_greatestMean_2 9 rfl rfl)
theorem dX0_greatestMean_58 : decode cX0_greatestMean 58 = .ok (.ifCond .le 8, 3) := dk_158 0 8 (dk_at dksX0_greatestMean_2 12 rfl rfl)
theorem dX0_greatestMean_61 : decode cX0_greatestMean 61 = .ok (.aload 4, 2) := dk_25 4 (dk_at dksX0_greatestMean_2 15 rfl rfl)
theorem dX0_greatestMean_63 : decode cX0_greatestMean 63 = .ok (.goto 4, 3) := dk_167 0 4 (dk_at dksX0_greatestMean_2 17 rfl rfl)
theorem dX0_greatestMean_66 : decode cX0_greatestMean 66 = .ok (.aload_n 2, 1) := dk_44 (dk_at dksX0_greatestMean_2 20 rfl rfl)
theorem dX0_greatestMean_67 : decode cX0_greatestMean 67 = .ok (.astore_n 2, 1) := dk_77 (dk_at dksX0_greatestMean_2 21 rfl rfl)
theorem dX0_greatestMean_68 : decode cX0_greatestMean 68 = .ok (.iinc 3 1, 3) := dk_132 3 1 (dk_at dksX0_greatestMean_3 0 rfl rfl)
theorem dX0_greatestMean_71 : decode cX0_greatestMean 71 = .ok (.goto (-67), 3) := dk_167 255 189 (dk_at dksX0_greatestMean_3 3 rfl rfl)
theorem dX0_greatestMean_74 : decode cX0_greatestMean 74 = .ok (.aload_n 2, 1) := dk_44 (dk_at dksX0_greatestMean_3 6 rfl rfl)
theorem dX0_greatestMean_75 : decode cX0_greatestMean 75 = .ok (.areturn, 1) := dk_176 (dk_at dksX0_greatestMean_3 7 rfl rfl)
abbrev cX0_keep : ByteArray := prog_1_method_17_code
def yX0_keep : MethodName := ⟨RX0, "keep", "(LRatioGraph$Finding;)I"⟩
def dkwX0_keep_0 : List UInt8 := [43, 199, 0, 6, 18, 139, 172, 42, 43, 181, 0, 145, 43, 180, 0, 149, 190, 172]
abbrev dktX0_keep_0 : List UInt8 := dkwX0_keep_0 ++ []
theorem dksX0_keep_0 : cX0_keep.data.toList.drop 0 = dktX0_keep_0 := by decide +kernel
theorem dX0_keep_0 : decode cX0_keep 0 = .ok (.aload_n 1, 1) := dk_43 (dk_at dksX0_keep_0 0 rfl rfl)
theorem dX0_keep_1 : decode cX0_keep 1 = .ok (.ifnonnull 6, 3) := dk_199 0 6 (dk_at dksX0_keep_0 1 rfl rfl)
theorem dX0_keep_4 : decode cX0_keep 4 = .ok (.ldc 139, 2) := dk_18 139 (dk_at dksX0_keep_0 4 rfl rfl)
theorem dX0_keep_6 : decode cX0_keep 6 = .ok (.ireturn, 1) := dk_172 (dk_at dksX0_keep_0 6 rfl rfl)
theorem dX0_keep_7 : decode cX0_keep 7 = .ok (.aload_n 0, 1) := dk_42 (dk_at dksX0_keep_0 7 rfl rfl)
theorem dX0_keep_8 : decode cX0_keep 8 = .ok (.aload_n 1, 1) := dk_43 (dk_at dksX0_keep_0 8 rfl rfl)
theorem dX0_keep_9 : decode cX0_keep 9 = .ok (.putfield 145, 3) := dk_181 0 145 (dk_at dksX0_keep_0 9 rfl rfl)
theorem dX0_keep_12 : decode cX0_keep 12 = .ok (.aload_n 1, 1) := dk_43 (dk_at dksX0_keep_0 12 rfl rfl)
theorem dX0_keep_13 : decode cX0_keep 13 = .ok (.getfield 149, 3) := dk_180 0 149 (dk_at dksX0_keep_0 13 rfl rfl)
theorem dX0_keep_16 : decode cX0_keep 16 = .ok (.arraylength, 1) := dk_190 (dk_at dksX0_keep_0 16 rfl rfl)
theorem dX0_keep_17 : decode cX0_keep 17 = .ok (.ireturn, 1) := dk_172 (dk_at dksX0_keep_0 17 rfl rfl)
abbrev cX0_ratioCycle : ByteArray := prog_1_method_23_code
def yX0_ratioCycle : MethodName := ⟨RX0, "ratioCycle", "()I"⟩
def dkwX0_ratioCycle_2 : List UInt8 := [183, 0, 210, 182, 0, 213, 182, 0, 217, 167, 0, 5, 18, 139, 172]
abbrev dktX0_ratioCycle_2 : List UInt8 := dkwX0_ratioCycle_2 ++ []
def dkwX0_ratioCycle_1 : List UInt8 := [43, 4, 183, 0, 191, 77, 44, 182, 0, 194, 153, 0, 26, 42, 187, 0, 201, 89, 42, 44, 182, 0, 203, 43]
abbrev dktX0_ratioCycle_1 : List UInt8 := dkwX0_ratioCycle_1 ++ dktX0_ratioCycle_2
def dkwX0_ratioCycle_0 : List UInt8 := [187, 0, 221, 89, 42, 183, 0, 223, 182, 0, 224, 76, 43, 199, 0, 6, 18, 139, 172, 187, 0, 189, 89, 42]
abbrev dktX0_ratioCycle_0 : List UInt8 := dkwX0_ratioCycle_0 ++ dktX0_ratioCycle_1
theorem dksX0_ratioCycle_0 : cX0_ratioCycle.data.toList.drop 0 = dktX0_ratioCycle_0 := by decide +kernel
theorem dksX0_ratioCycle_1 : cX0_ratioCycle.data.toList.drop 24 = dktX0_ratioCycle_1 := dk_seg dksX0_ratioCycle_0 24 rfl rfl
theorem dksX0_ratioCycle_2 : cX0_ratioCycle.data.toList.drop 48 = dktX0_ratioCycle_2 := dk_seg dksX0_ratioCycle_1 24 rfl rfl
theorem dX0_ratioCycle_0 : decode cX0_ratioCycle 0 = .ok (.new 221, 3) := dk_187 0 221 (dk_at dksX0_ratioCycle_0 0 rfl rfl)
theorem dX0_ratioCycle_3 : decode cX0_ratioCycle 3 = .ok (.dup, 1) := dk_89 (dk_at dksX0_ratioCycle_0 3 rfl rfl)
theorem dX0_ratioCycle_4 : decode cX0_ratioCycle 4 = .ok (.aload_n 0, 1) := dk_42 (dk_at dksX0_ratioCycle_0 4 rfl rfl)
theorem dX0_ratioCycle_5 : decode cX0_ratioCycle 5 = .ok (.invokespecial 223, 3) := dk_183 0 223 (dk_at dksX0_ratioCycle_0 5 rfl rfl)
theorem dX0_ratioCycle_8 : decode cX0_ratioCycle 8 = .ok (.invokevirtual 224, 3) := dk_182 0 224 (dk_at dksX0_ratioCycle_0 8 rfl rfl)
theorem dX0_ratioCycle_11 : decode cX0_ratioCycle 11 = .ok (.astore_n 1, 1) := dk_76 (dk_at dksX0_ratioCycle_0 11 rfl rfl)
theorem dX0_ratioCycle_12 : decode cX0_ratioCycle 12 = .ok (.aload_n 1, 1) := dk_43 (dk_at dksX0_ratioCycle_0 12 rfl rfl)
theorem dX0_ratioCycle_13 : decode cX0_ratioCycle 13 = .ok (.ifnonnull 6, 3) := dk_199 0 6 (dk_at dksX0_ratioCycle_0 13 rfl rfl)
theorem dX0_ratioCycle_16 : decode cX0_ratioCycle 16 = .ok (.ldc 139, 2) := dk_18 139 (dk_at dksX0_ratioCycle_0 16 rfl rfl)
theorem dX0_ratioCycle_18 : decode cX0_ratioCycle 18 = .ok (.ireturn, 1) := dk_172 (dk_at dksX0_ratioCycle_0 18 rfl rfl)
theorem dX0_ratioCycle_19 : decode cX0_ratioCycle 19 = .ok (.new 189, 3) := dk_187 0 189 (dk_at dksX0_ratioCycle_0 19 rfl rfl)
theorem dX0_ratioCycle_22 : decode cX0_ratioCycle 22 = .ok (.dup, 1) := dk_89 (dk_at dksX0_ratioCycle_0 22 rfl rfl)
theorem dX0_ratioCycle_23 : decode cX0_ratioCycle 23 = .ok (.aload_n 0, 1) := dk_42 (dk_at dksX0_ratioCycle_0 23 rfl rfl)
theorem dX0_ratioCycle_24 : decode cX0_ratioCycle 24 = .ok (.aload_n 1, 1) := dk_43 (dk_at dksX0_ratioCycle_1 0 rfl rfl)
theorem dX0_ratioCycle_25 : decode cX0_ratioCycle 25 = .ok (.iconst 1, 1) := dk_4 (dk_at dksX0_ratioCycle_1 1 rfl rfl)
theorem dX0_ratioCycle_26 : decode cX0_ratioCycle 26 = .ok (.invokespecial 191, 3) := dk_183 0 191 (dk_at dksX0_ratioCycle_1 2 rfl rfl)
theorem dX0_ratioCycle_29 : decode cX0_ratioCycle 29 = .ok (.astore_n 2, 1) := dk_77 (dk_at dksX0_ratioCycle_1 5 rfl rfl)
theorem dX0_ratioCycle_30 : decode cX0_ratioCycle 30 = .ok (.aload_n 2, 1) := dk_44 (dk_at dksX0_ratioCycle_1 6 rfl rfl)
theorem dX0_ratioCycle_31 : decode cX0_ratioCycle 31 = .ok (.invokevirtual 194, 3) := dk_182 0 194 (dk_at dksX0_ratioCycle_1 7 rfl rfl)
theorem dX0_ratioCycle_34 : decode cX0_ratioCycle 34 = .ok (.ifCond .eq 26, 3) := dk_153 0 26 (dk_at dksX0_ratioCycle_1 10 rfl rfl)
theorem dX0_ratioCycle_37 : decode cX0_ratioCycle 37 = .ok (.aload_n 0, 1) := dk_42 (dk_at dksX0_ratioCycle_1 13 rfl rfl)
theorem dX0_ratioCycle_38 : decode cX0_ratioCycle 38 = .ok (.new 201, 3) := dk_187 0 201 (dk_at dksX0_ratioCycle_1 14 rfl rfl)
theorem dX0_ratioCycle_41 : decode cX0_ratioCycle 41 = .ok (.dup, 1) := dk_89 (dk_at dksX0_ratioCycle_1 17 rfl rfl)
theorem dX0_ratioCycle_42 : decode cX0_ratioCycle 42 = .ok (.aload_n 0, 1) := dk_42 (dk_at dksX0_ratioCycle_1 18 rfl rfl)
theorem dX0_ratioCycle_43 : decode cX0_ratioCycle 43 = .ok (.aload_n 2, 1) := dk_44 (dk_at dksX0_ratioCycle_1 19 rfl rfl)
theorem dX0_ratioCycle_44 : decode cX0_ratioCycle 44 = .ok (.invokevirtual 203, 3) := dk_182 0 203 (dk_at dksX0_ratioCycle_1 20 rfl rfl)
theorem dX0_ratioCycle_47 : decode cX0_ratioCycle 47 = .ok (.aload_n 1, 1) := dk_43 (dk_at dksX0_ratioCycle_1 23 rfl rfl)
theorem dX0_ratioCycle_48 : decode cX0_ratioCycle 48 = .ok (.invokespecial 210, 3) := dk_183 0 210 (dk_at dksX0_ratioCycle_2 0 rfl rfl)
theorem dX0_ratioCycle_51 : decode cX0_ratioCycle 51 = .ok (.invokevirtual 213, 3) := dk_182 0 213 (dk_at dksX0_ratioCycle_2 3 rfl rfl)
theorem dX0_ratioCycle_54 : decode cX0_ratioCycle 54 = .ok (.invokevirtual 217, 3) := dk_182 0 217 (dk_at dksX0_ratioCycle_2 6 rfl rfl)
theorem dX0_ratioCycle_57 : decode cX0_ratioCycle 57 = .ok (.goto 5, 3) := dk_167 0 5 (dk_at dksX0_ratioCycle_2 9 rfl rfl)
theorem dX0_ratioCycle_60 : decode cX0_ratioCycle 60 = .ok (.ldc 139, 2) := dk_18 139 (dk_at dksX0_ratioCycle_2 12 rfl rfl)
theorem dX0_ratioCycle_62 : decode cX0_ratioCycle 62 = .ok (.ireturn, 1) := dk_172 (dk_at dksX0_ratioCycle_2 14 rfl rfl)
abbrev cX0_allEdges : ByteArray := prog_1_method_18_code
def yX0_allEdges : MethodName := ⟨RX0, "allEdges", "()I"⟩
def dkwX0_allEdges_0 : List UInt8 := [4, 42, 180, 0, 20, 182, 0, 54, 120, 4, 100, 172]
abbrev dktX0_allEdges_0 : List UInt8 := dkwX0_allEdges_0 ++ []
theorem dksX0_allEdges_0 : cX0_allEdges.data.toList.drop 0 = dktX0_allEdges_0 := by decide +kernel
theorem dX0_allEdges_0 : decode cX0_allEdges 0 = .ok (.iconst 1, 1) := dk_4 (dk_at dksX0_allEdges_0 0 rfl rfl)
theorem dX0_allEdges_1 : decode cX0_allEdges 1 = .ok (.aload_n 0, 1) := dk_42 (dk_at dksX0_allEdges_0 1 rfl rfl)
theorem dX0_allEdges_2 : decode cX0_allEdges 2 = .ok (.getfield 20, 3) := dk_180 0 20 (dk_at dksX0_allEdges_0 2 rfl rfl)
theorem dX0_allEdges_5 : decode cX0_allEdges 5 = .ok (.invokevirtual 54, 3) := dk_182 0 54 (dk_at dksX0_allEdges_0 5 rfl rfl)
theorem dX0_allEdges_8 : decode cX0_allEdges 8 = .ok (.ishl, 1) := dk_120 (dk_at dksX0_allEdges_0 8 rfl rfl)
theorem dX0_allEdges_9 : decode cX0_allEdges 9 = .ok (.iconst 1, 1) := dk_4 (dk_at dksX0_allEdges_0 9 rfl rfl)
theorem dX0_allEdges_10 : decode cX0_allEdges 10 = .ok (.isub, 1) := dk_100 (dk_at dksX0_allEdges_0 10 rfl rfl)
theorem dX0_allEdges_11 : decode cX0_allEdges 11 = .ok (.ireturn, 1) := dk_172 (dk_at dksX0_allEdges_0 11 rfl rfl)
abbrev cX0_gainCycle : ByteArray := prog_1_method_24_code
def yX0_gainCycle : MethodName := ⟨RX0, "gainCycle", "()I"⟩
def dkwX0_gainCycle_0 : List UInt8 := [42, 187, 0, 227, 89, 42, 183, 0, 229, 182, 0, 230, 182, 0, 217, 172]
abbrev dktX0_gainCycle_0 : List UInt8 := dkwX0_gainCycle_0 ++ []
theorem dksX0_gainCycle_0 : cX0_gainCycle.data.toList.drop 0 = dktX0_gainCycle_0 := by decide +kernel
theorem dX0_gainCycle_0 : decode cX0_gainCycle 0 = .ok (.aload_n 0, 1) := dk_42 (dk_at dksX0_gainCycle_0 0 rfl rfl)
theorem dX0_gainCycle_1 : decode cX0_gainCycle 1 = .ok (.new 227, 3) := dk_187 0 227 (dk_at dksX0_gainCycle_0 1 rfl rfl)
theorem dX0_gainCycle_4 : decode cX0_gainCycle 4 = .ok (.dup, 1) := dk_89 (dk_at dksX0_gainCycle_0 4 rfl rfl)
theorem dX0_gainCycle_5 : decode cX0_gainCycle 5 = .ok (.aload_n 0, 1) := dk_42 (dk_at dksX0_gainCycle_0 5 rfl rfl)
theorem dX0_gainCycle_6 : decode cX0_gainCycle 6 = .ok (.invokespecial 229, 3) := dk_183 0 229 (dk_at dksX0_gainCycle_0 6 rfl rfl)
theorem dX0_gainCycle_9 : decode cX0_gainCycle 9 = .ok (.invokevirtual 230, 3) := dk_182 0 230 (dk_at dksX0_gainCycle_0 9 rfl rfl)
theorem dX0_gainCycle_12 : decode cX0_gainCycle 12 = .ok (.invokevirtual 217, 3) := dk_182 0 217 (dk_at dksX0_gainCycle_0 12 rfl rfl)
theorem dX0_gainCycle_15 : decode cX0_gainCycle 15 = .ok (.ireturn, 1) := dk_172 (dk_at dksX0_gainCycle_0 15 rfl rfl)
abbrev cX0_cycles : ByteArray := prog_1_method_25_code
def yX0_cycles : MethodName := ⟨RX0, "cycles", "(I)I"⟩
def dkwX0_cycles_1 : List UInt8 := [167, 0, 5, 18, 65, 172]
abbrev dktX0_cycles_1 : List UInt8 := dkwX0_cycles_1 ++ []
def dkwX0_cycles_0 : List UInt8 := [27, 133, 9, 20, 0, 231, 184, 0, 5, 153, 0, 18, 187, 0, 233, 89, 42, 183, 0, 235, 27, 182, 0, 236]
abbrev dktX0_cycles_0 : List UInt8 := dkwX0_cycles_0 ++ dktX0_cycles_1
theorem dksX0_cycles_0 : cX0_cycles.data.toList.drop 0 = dktX0_cycles_0 := by decide +kernel
theorem dksX0_cycles_1 : cX0_cycles.data.toList.drop 24 = dktX0_cycles_1 := dk_seg dksX0_cycles_0 24 rfl rfl
theorem dX0_cycles_0 : decode cX0_cycles 0 = .ok (.iload_n 1, 1) := dk_27 (dk_at dksX0_cycles_0 0 rfl rfl)
theorem dX0_cycles_1 : decode cX0_cycles 1 = .ok (.i2l, 1) := dk_133 (dk_at dksX0_cycles_0 1 rfl rfl)
theorem dX0_cycles_2 : decode cX0_cycles 2 = .ok (.lconst 0, 1) := dk_9 (dk_at dksX0_cycles_0 2 rfl rfl)
theorem dX0_cycles_3 : decode cX0_cycles 3 = .ok (.ldc2_w 231, 3) := dk_20 0 231 (dk_at dksX0_cycles_0 3 rfl rfl)
theorem dX0_cycles_6 : decode cX0_cycles 6 = .ok (.invokestatic 5, 3) := dk_184 0 5 (dk_at dksX0_cycles_0 6 rfl rfl)
theorem dX0_cycles_9 : decode cX0_cycles 9 = .ok (.ifCond .eq 18, 3) := dk_153 0 18 (dk_at dksX0_cycles_0 9 rfl rfl)
theorem dX0_cycles_12 : decode cX0_cycles 12 = .ok (.new 233, 3) := dk_187 0 233 (dk_at dksX0_cycles_0 12 rfl rfl)
theorem dX0_cycles_15 : decode cX0_cycles 15 = .ok (.dup, 1) := dk_89 (dk_at dksX0_cycles_0 15 rfl rfl)
theorem dX0_cycles_16 : decode cX0_cycles 16 = .ok (.aload_n 0, 1) := dk_42 (dk_at dksX0_cycles_0 16 rfl rfl)
theorem dX0_cycles_17 : decode cX0_cycles 17 = .ok (.invokespecial 235, 3) := dk_183 0 235 (dk_at dksX0_cycles_0 17 rfl rfl)
theorem dX0_cycles_20 : decode cX0_cycles 20 = .ok (.iload_n 1, 1) := dk_27 (dk_at dksX0_cycles_0 20 rfl rfl)
theorem dX0_cycles_21 : decode cX0_cycles 21 = .ok (.invokevirtual 236, 3) := dk_182 0 236 (dk_at dksX0_cycles_0 21 rfl rfl)
theorem dX0_cycles_24 : decode cX0_cycles 24 = .ok (.goto 5, 3) := dk_167 0 5 (dk_at dksX0_cycles_1 0 rfl rfl)
theorem dX0_cycles_27 : decode cX0_cycles 27 = .ok (.ldc 65, 2) := dk_18 65 (dk_at dksX0_cycles_1 3 rfl rfl)
theorem dX0_cycles_29 : decode cX0_cycles 29 = .ok (.ireturn, 1) := dk_172 (dk_at dksX0_cycles_1 5 rfl rfl)
abbrev cX0_finding : ByteArray := prog_1_method_26_code
def yX0_finding : MethodName := ⟨RX0, "finding", "(I)I"⟩
def dkwX0_finding_2 : List UInt8 := [180, 0, 149, 27, 46, 167, 0, 5, 18, 139, 172]
abbrev dktX0_finding_2 : List UInt8 := dkwX0_finding_2 ++ []
def dkwX0_finding_1 : List UInt8 := [180, 0, 145, 180, 0, 149, 190, 172, 27, 42, 180, 0, 145, 180, 0, 149, 190, 162, 0, 15, 42, 180, 0, 145]
abbrev dktX0_finding_1 : List UInt8 := dkwX0_finding_1 ++ dktX0_finding_2
def dkwX0_finding_0 : List UInt8 := [27, 2, 162, 0, 6, 18, 65, 172, 42, 180, 0, 145, 199, 0, 6, 18, 121, 172, 27, 2, 160, 0, 12, 42]
abbrev dktX0_finding_0 : List UInt8 := dkwX0_finding_0 ++ dktX0_finding_1
theorem dksX0_finding_0 : cX0_finding.data.toList.drop 0 = dktX0_finding_0 := by decide +kernel
theorem dksX0_finding_1 : cX0_finding.data.toList.drop 24 = dktX0_finding_1 := dk_seg dksX0_finding_0 24 rfl rfl
theorem dksX0_finding_2 : cX0_finding.data.toList.drop 48 = dktX0_finding_2 := dk_seg dksX0_finding_1 24 rfl rfl
theorem dX0_finding_0 : decode cX0_finding 0 = .ok (.iload_n 1, 1) := dk_27 (dk_at dksX0_finding_0 0 rfl rfl)
theorem dX0_finding_1 : decode cX0_finding 1 = .ok (.iconst (-1), 1) := dk_2 (dk_at dksX0_finding_0 1 rfl rfl)
theorem dX0_finding_2 : decode cX0_finding 2 = .ok (.if_icmp .ge 6, 3) := dk_162 0 6 (dk_at dksX0_finding_0 2 rfl rfl)
theorem dX0_finding_5 : decode cX0_finding 5 = .ok (.ldc 65, 2) := dk_18 65 (dk_at dksX0_finding_0 5 rfl rfl)
theorem dX0_finding_7 : decode cX0_finding 7 = .ok (.ireturn, 1) := dk_172 (dk_at dksX0_finding_0 7 rfl rfl)
theorem dX0_finding_8 : decode cX0_finding 8 = .ok (.aload_n 0, 1) := dk_42 (dk_at dksX0_finding_0 8 rfl rfl)
theorem dX0_finding_9 : decode cX0_finding 9 = .ok (.getfield 145, 3) := dk_180 0 145 (dk_at dksX0_finding_0 9 rfl rfl)
theorem dX0_finding_12 : decode cX0_finding 12 = .ok (.ifnonnull 6, 3) := dk_199 0 6 (dk_at dksX0_finding_0 12 rfl rfl)
theorem dX0_finding_15 : decode cX0_finding 15 = .ok (.ldc 121, 2) := dk_18 121 (dk_at dksX0_finding_0 15 rfl rfl)
theorem dX0_finding_17 : decode cX0_finding 17 = .ok (.ireturn, 1) := dk_172 (dk_at dksX0_finding_0 17 rfl rfl)
theorem dX0_finding_18 : decode cX0_finding 18 = .ok (.iload_n 1, 1) := dk_27 (dk_at dksX0_finding_0 18 rfl rfl)
theorem dX0_finding_19 : decode cX0_finding 19 = .ok (.iconst (-1), 1) := dk_2 (dk_at dksX0_finding_0 19 rfl rfl)
theorem dX0_finding_20 : decode cX0_finding 20 = .ok (.if_icmp .ne 12, 3) := dk_160 0 12 (dk_at dksX0_finding_0 20 rfl rfl)
theorem dX0_finding_23 : decode cX0_finding 23 = .ok (.aload_n 0, 1) := dk_42 (dk_at dksX0_finding_0 23 rfl rfl)
theorem dX0_finding_24 : decode cX0_finding 24 = .ok (.getfield 145, 3) := dk_180 0 145 (dk_at dksX0_finding_1 0 rfl rfl)
theorem dX0_finding_27 : decode cX0_finding 27 = .ok (.getfield 149, 3) := dk_180 0 149 (dk_at dksX0_finding_1 3 rfl rfl)
theorem dX0_finding_30 : decode cX0_finding 30 = .ok (.arraylength, 1) := dk_190 (dk_at dksX0_finding_1 6 rfl rfl)
theorem dX0_finding_31 : decode cX0_finding 31 = .ok (.ireturn, 1) := dk_172 (dk_at dksX0_finding_1 7 rfl rfl)
theorem dX0_finding_32 : decode cX0_finding 32 = .ok (.iload_n 1, 1) := dk_27 (dk_at dksX0_finding_1 8 rfl rfl)
theorem dX0_finding_33 : decode cX0_finding 33 = .ok (.aload_n 0, 1) := dk_42 (dk_at dksX0_finding_1 9 rfl rfl)
theorem dX0_finding_34 : decode cX0_finding 34 = .ok (.getfield 145, 3) := dk_180 0 145 (dk_at dksX0_finding_1 10 rfl rfl)
theorem dX0_finding_37 : decode cX0_finding 37 = .ok (.getfield 149, 3) := dk_180 0 149 (dk_at dksX0_finding_1 13 rfl rfl)
theorem dX0_finding_40 : decode cX0_finding 40 = .ok (.arraylength, 1) := dk_190 (dk_at dksX0_finding_1 16 rfl rfl)
theorem dX0_finding_41 : decode cX0_finding 41 = .ok (.if_icmp .ge 15, 3) := dk_162 0 15 (dk_at dksX0_finding_1 17 rfl rfl)
theorem dX0_finding_44 : decode cX0_finding 44 = .ok (.aload_n 0, 1) := dk_42 (dk_at dksX0_finding_1 20 rfl rfl)
theorem dX0_finding_45 : decode cX0_finding 45 = .ok (.getfield 145, 3) := dk_180 0 145 (dk_at dksX0_finding_1 21 rfl rfl)
theorem dX0_finding_48 : decode cX0_finding 48 = .ok (.getfield 149, 3) := dk_180 0 149 (dk_at dksX0_finding_2 0 rfl rfl)
theorem dX0_finding_51 : decode cX0_finding 51 = .ok (.iload_n 1, 1) := dk_27 (dk_at dksX0_finding_2 3 rfl rfl)
theorem dX0_finding_52 : decode cX0_finding 52 = .ok (.iaload, 1) := dk_46 (dk_at dksX0_finding_2 4 rfl rfl)
theorem dX0_finding_53 : decode cX0_finding 53 = .ok (.goto 5, 3) := dk_167 0 5 (dk_at dksX0_finding_2 5 rfl rfl)
theorem dX0_finding_56 : decode cX0_finding 56 = .ok (.ldc 139, 2) := dk_18 139 (dk_at dksX0_finding_2 8 rfl rfl)
theorem dX0_finding_58 : decode cX0_finding 58 = .ok (.ireturn, 1) := dk_172 (dk_at dksX0_finding_2 10 rfl rfl)
abbrev cX0_value : ByteArray := prog_1_method_27_code
def yX0_value : MethodName := ⟨RX0, "value", "(I)J"⟩
def dkwX0_value_2 : List UInt8 := [180, 0, 243, 180, 0, 248, 173]
abbrev dktX0_value_2 : List UInt8 := dkwX0_value_2 ++ []
def dkwX0_value_1 : List UInt8 := [173, 27, 154, 0, 16, 42, 180, 0, 145, 180, 0, 243, 180, 0, 244, 167, 0, 13, 42, 180, 0, 145]
abbrev dktX0_value_1 : List UInt8 := dkwX0_value_1 ++ dktX0_value_2
def dkwX0_value_0 : List UInt8 := [27, 133, 9, 10, 184, 0, 5, 154, 0, 7, 20, 0, 239, 173, 42, 180, 0, 145, 199, 0, 7, 20, 0, 241]
abbrev dktX0_value_0 : List UInt8 := dkwX0_value_0 ++ dktX0_value_1
theorem dksX0_value_0 : cX0_value.data.toList.drop 0 = dktX0_value_0 := by decide +kernel
theorem dksX0_value_1 : cX0_value.data.toList.drop 24 = dktX0_value_1 := dk_seg dksX0_value_0 24 rfl rfl
theorem dksX0_value_2 : cX0_value.data.toList.drop 46 = dktX0_value_2 := dk_seg dksX0_value_1 22 rfl rfl
theorem dX0_value_0 : decode cX0_value 0 = .ok (.iload_n 1, 1) := dk_27 (dk_at dksX0_value_0 0 rfl rfl)
theorem dX0_value_1 : decode cX0_value 1 = .ok (.i2l, 1) := dk_133 (dk_at dksX0_value_0 1 rfl rfl)
theorem dX0_value_2 : decode cX0_value 2 = .ok (.lconst 0, 1) := dk_9 (dk_at dksX0_value_0 2 rfl rfl)
theorem dX0_value_3 : decode cX0_value 3 = .ok (.lconst 1, 1) := dk_10 (dk_at dksX0_value_0 3 rfl rfl)
theorem dX0_value_4 : decode cX0_value 4 = .ok (.invokestatic 5, 3) := dk_184 0 5 (dk_at dksX0_value_0 4 rfl rfl)
theorem dX0_value_7 : decode cX0_value 7 = .ok (.ifCond .ne 7, 3) := dk_154 0 7 (dk_at dksX0_value_0 7 rfl rfl)
theorem dX0_value_10 : decode cX0_value 10 = .ok (.ldc2_w 239, 3) := dk_20 0 239 (dk_at dksX0_value_0 10 rfl rfl)
theorem dX0_value_13 : decode cX0_value 13 = .ok (.lreturn, 1) := dk_173 (dk_at dksX0_value_0 13 rfl rfl)
theorem dX0_value_14 : decode cX0_value 14 = .ok (.aload_n 0, 1) := dk_42 (dk_at dksX0_value_0 14 rfl rfl)
theorem dX0_value_15 : decode cX0_value 15 = .ok (.getfield 145, 3) := dk_180 0 145 (dk_at dksX0_value_0 15 rfl rfl)
theorem dX0_value_18 : decode cX0_value 18 = .ok (.ifnonnull 7, 3) := dk_199 0 7 (dk_at dksX0_value_0 18 rfl rfl)
theorem dX0_value_21 : decode cX0_value 21 = .ok (.ldc2_w 241, 3) := dk_20 0 241 (dk_at dksX0_value_0 21 rfl rfl)
theorem dX0_value_24 : decode cX0_value 24 = .ok (.lreturn, 1) := dk_173 (dk_at dksX0_value_1 0 rfl rfl)
theorem dX0_value_25 : decode cX0_value 25 = .ok (.iload_n 1, 1) := dk_27 (dk_at dksX0_value_1 1 rfl rfl)
theorem dX0_value_26 : decode cX0_value 26 = .ok (.ifCond .ne 16, 3) := dk_154 0 16 (dk_at dksX0_value_1 2 rfl rfl)
theorem dX0_value_29 : decode cX0_value 29 = .ok (.aload_n 0, 1) := dk_42 (dk_at dksX0_value_1 5 rfl rfl)
theorem dX0_value_30 : decode cX0_value 30 = .ok (.getfield 145, 3) := dk_180 0 145 (dk_at dksX0_value_1 6 rfl rfl)
theorem dX0_value_33 : decode cX0_value 33 = .ok (.getfield 243, 3) := dk_180 0 243 (dk_at dksX0_value_1 9 rfl rfl)
theorem dX0_value_36 : decode cX0_value 36 = .ok (.getfield 244, 3) := dk_180 0 244 (dk_at dksX0_value_1 12 rfl rfl)
theorem dX0_value_39 : decode cX0_value 39 = .ok (.goto 13, 3) := dk_167 0 13 (dk_at dksX0_value_1 15 rfl rfl)
theorem dX0_value_42 : decode cX0_value 42 = .ok (.aload_n 0, 1) := dk_42 (dk_at dksX0_value_1 18 rfl rfl)
theorem dX0_value_43 : decode cX0_value 43 = .ok (.getfield 145, 3) := dk_180 0 145 (dk_at dksX0_value_1 19 rfl rfl)
theorem dX0_value_46 : decode cX0_value 46 = .ok (.getfield 243, 3) := dk_180 0 243 (dk_at dksX0_value_2 0 rfl rfl)
theorem dX0_value_49 : decode cX0_value 49 = .ok (.getfield 248, 3) := dk_180 0 248 (dk_at dksX0_value_2 3 rfl rfl)
theorem dX0_value_52 : decode cX0_value 52 = .ok (.lreturn, 1) := dk_173 (dk_at dksX0_value_2 6 rfl rfl)
abbrev cX0_potential : ByteArray := prog_1_method_28_code
def yX0_potential : MethodName := ⟨RX0, "potential", "(I)J"⟩
def dkwX0_potential_1 : List UInt8 := [199, 0, 9, 20, 0, 251, 167, 0, 9, 44, 180, 0, 253, 27, 47, 173]
abbrev dktX0_potential_1 : List UInt8 := dkwX0_potential_1 ++ []
def dkwX0_potential_0 : List UInt8 := [4, 188, 10, 89, 3, 27, 79, 184, 0, 55, 154, 0, 7, 20, 0, 239, 173, 42, 182, 0, 197, 77, 44]
abbrev dktX0_potential_0 : List UInt8 := dkwX0_potential_0 ++ dktX0_potential_1
theorem dksX0_potential_0 : cX0_potential.data.toList.drop 0 = dktX0_potential_0 := by decide +kernel
theorem dksX0_potential_1 : cX0_potential.data.toList.drop 23 = dktX0_potential_1 := dk_seg dksX0_potential_0 23 rfl rfl
theorem dX0_potential_0 : decode cX0_potential 0 = .ok (.iconst 1, 1) := dk_4 (dk_at dksX0_potential_0 0 rfl rfl)
theorem dX0_potential_1 : decode cX0_potential 1 = .ok (.newarray .int, 2) := dk_188_10 (dk_at dksX0_potential_0 1 rfl rfl)
theorem dX0_potential_3 : decode cX0_potential 3 = .ok (.dup, 1) := dk_89 (dk_at dksX0_potential_0 3 rfl rfl)
theorem dX0_potential_4 : decode cX0_potential 4 = .ok (.iconst 0, 1) := dk_3 (dk_at dksX0_potential_0 4 rfl rfl)
theorem dX0_potential_5 : decode cX0_potential 5 = .ok (.iload_n 1, 1) := dk_27 (dk_at dksX0_potential_0 5 rfl rfl)
theorem dX0_potential_6 : decode cX0_potential 6 = .ok (.iastore, 1) := dk_79 (dk_at dksX0_potential_0 6 rfl rfl)
theorem dX0_potential_7 : decode cX0_potential 7 = .ok (.invokestatic 55, 3) := dk_184 0 55 (dk_at dksX0_potential_0 7 rfl rfl)
theorem dX0_potential_10 : decode cX0_potential 10 = .ok (.ifCond .ne 7, 3) := dk_154 0 7 (dk_at dksX0_potential_0 10 rfl rfl)
theorem dX0_potential_13 : decode cX0_potential 13 = .ok (.ldc2_w 239, 3) := dk_20 0 239 (dk_at dksX0_potential_0 13 rfl rfl)
theorem dX0_potential_16 : decode cX0_potential 16 = .ok (.lreturn, 1) := dk_173 (dk_at dksX0_potential_0 16 rfl rfl)
theorem dX0_potential_17 : decode cX0_potential 17 = .ok (.aload_n 0, 1) := dk_42 (dk_at dksX0_potential_0 17 rfl rfl)
theorem dX0_potential_18 : decode cX0_potential 18 = .ok (.invokevirtual 197, 3) := dk_182 0 197 (dk_at dksX0_potential_0 18 rfl rfl)
theorem dX0_potential_21 : decode cX0_potential 21 = .ok (.astore_n 2, 1) := dk_77 (dk_at dksX0_potential_0 21 rfl rfl)
theorem dX0_potential_22 : decode cX0_potential 22 = .ok (.aload_n 2, 1) := dk_44 (dk_at dksX0_potential_0 22 rfl rfl)
theorem dX0_potential_23 : decode cX0_potential 23 = .ok (.ifnonnull 9, 3) := dk_199 0 9 (dk_at dksX0_potential_1 0 rfl rfl)
theorem dX0_potential_26 : decode cX0_potential 26 = .ok (.ldc2_w 251, 3) := dk_20 0 251 (dk_at dksX0_potential_1 3 rfl rfl)
theorem dX0_potential_29 : decode cX0_potential 29 = .ok (.goto 9, 3) := dk_167 0 9 (dk_at dksX0_potential_1 6 rfl rfl)
theorem dX0_potential_32 : decode cX0_potential 32 = .ok (.aload_n 2, 1) := dk_44 (dk_at dksX0_potential_1 9 rfl rfl)
theorem dX0_potential_33 : decode cX0_potential 33 = .ok (.getfield 253, 3) := dk_180 0 253 (dk_at dksX0_potential_1 10 rfl rfl)
theorem dX0_potential_36 : decode cX0_potential 36 = .ok (.iload_n 1, 1) := dk_27 (dk_at dksX0_potential_1 13 rfl rfl)
theorem dX0_potential_37 : decode cX0_potential 37 = .ok (.laload, 1) := dk_47 (dk_at dksX0_potential_1 14 rfl rfl)
theorem dX0_potential_38 : decode cX0_potential 38 = .ok (.lreturn, 1) := dk_173 (dk_at dksX0_potential_1 15 rfl rfl)
abbrev cX0_tight : ByteArray := prog_1_method_29_code
def yX0_tight : MethodName := ⟨RX0, "tight", "()I"⟩
def dkwX0_tight_0 : List UInt8 := [42, 182, 0, 197, 76, 43, 199, 0, 7, 3, 167, 0, 7, 43, 182, 0, 203, 172]
abbrev dktX0_tight_0 : List UInt8 := dkwX0_tight_0 ++ []
theorem dksX0_tight_0 : cX0_tight.data.toList.drop 0 = dktX0_tight_0 := by decide +kernel
theorem dX0_tight_0 : decode cX0_tight 0 = .ok (.aload_n 0, 1) := dk_42 (dk_at dksX0_tight_0 0 rfl rfl)
theorem dX0_tight_1 : decode cX0_tight 1 = .ok (.invokevirtual 197, 3) := dk_182 0 197 (dk_at dksX0_tight_0 1 rfl rfl)
theorem dX0_tight_4 : decode cX0_tight 4 = .ok (.astore_n 1, 1) := dk_76 (dk_at dksX0_tight_0 4 rfl rfl)
theorem dX0_tight_5 : decode cX0_tight 5 = .ok (.aload_n 1, 1) := dk_43 (dk_at dksX0_tight_0 5 rfl rfl)
theorem dX0_tight_6 : decode cX0_tight 6 = .ok (.ifnonnull 7, 3) := dk_199 0 7 (dk_at dksX0_tight_0 6 rfl rfl)
theorem dX0_tight_9 : decode cX0_tight 9 = .ok (.iconst 0, 1) := dk_3 (dk_at dksX0_tight_0 9 rfl rfl)
theorem dX0_tight_10 : decode cX0_tight 10 = .ok (.goto 7, 3) := dk_167 0 7 (dk_at dksX0_tight_0 10 rfl rfl)
theorem dX0_tight_13 : decode cX0_tight 13 = .ok (.aload_n 1, 1) := dk_43 (dk_at dksX0_tight_0 13 rfl rfl)
theorem dX0_tight_14 : decode cX0_tight 14 = .ok (.invokevirtual 203, 3) := dk_182 0 203 (dk_at dksX0_tight_0 14 rfl rfl)
theorem dX0_tight_17 : decode cX0_tight 17 = .ok (.ireturn, 1) := dk_172 (dk_at dksX0_tight_0 17 rfl rfl)
abbrev cX0_mark : ByteArray := prog_1_method_30_code
def yX0_mark : MethodName := ⟨RX0, "mark", "(II)I"⟩
def dkwX0_mark_1 : List UInt8 := [154, 0, 6, 18, 65, 172, 42, 180, 0, 31, 27, 46, 62, 42, 180, 0, 31, 27, 28, 79, 29, 172]
abbrev dktX0_mark_1 : List UInt8 := dkwX0_mark_1 ++ []
def dkwX0_mark_0 : List UInt8 := [4, 188, 10, 89, 3, 27, 79, 184, 0, 55, 153, 0, 17, 28, 133, 20, 1, 1, 20, 1, 3, 184, 0, 5]
abbrev dktX0_mark_0 : List UInt8 := dkwX0_mark_0 ++ dktX0_mark_1
theorem dksX0_mark_0 : cX0_mark.data.toList.drop 0 = dktX0_mark_0 := by decide +kernel
theorem dksX0_mark_1 : cX0_mark.data.toList.drop 24 = dktX0_mark_1 := dk_seg dksX0_mark_0 24 rfl rfl
theorem dX0_mark_0 : decode cX0_mark 0 = .ok (.iconst 1, 1) := dk_4 (dk_at dksX0_mark_0 0 rfl rfl)
theorem dX0_mark_1 : decode cX0_mark 1 = .ok (.newarray .int, 2) := dk_188_10 (dk_at dksX0_mark_0 1 rfl rfl)
theorem dX0_mark_3 : decode cX0_mark 3 = .ok (.dup, 1) := dk_89 (dk_at dksX0_mark_0 3 rfl rfl)
theorem dX0_mark_4 : decode cX0_mark 4 = .ok (.iconst 0, 1) := dk_3 (dk_at dksX0_mark_0 4 rfl rfl)
theorem dX0_mark_5 : decode cX0_mark 5 = .ok (.iload_n 1, 1) := dk_27 (dk_at dksX0_mark_0 5 rfl rfl)
theorem dX0_mark_6 : decode cX0_mark 6 = .ok (.iastore, 1) := dk_79 (dk_at dksX0_mark_0 6 rfl rfl)
theorem dX0_mark_7 : decode cX0_mark 7 = .ok (.invokestatic 55, 3) := dk_184 0 55 (dk_at dksX0_mark_0 7 rfl rfl)
theorem dX0_mark_10 : decode cX0_mark 10 = .ok (.ifCond .eq 17, 3) := dk_153 0 17 (dk_at dksX0_mark_0 10 rfl rfl)
theorem dX0_mark_13 : decode cX0_mark 13 = .ok (.iload_n 2, 1) := dk_28 (dk_at dksX0_mark_0 13 rfl rfl)
theorem dX0_mark_14 : decode cX0_mark 14 = .ok (.i2l, 1) := dk_133 (dk_at dksX0_mark_0 14 rfl rfl)
theorem dX0_mark_15 : decode cX0_mark 15 = .ok (.ldc2_w 257, 3) := dk_20 1 1 (dk_at dksX0_mark_0 15 rfl rfl)
theorem dX0_mark_18 : decode cX0_mark 18 = .ok (.ldc2_w 259, 3) := dk_20 1 3 (dk_at dksX0_mark_0 18 rfl rfl)
theorem dX0_mark_21 : decode cX0_mark 21 = .ok (.invokestatic 5, 3) := dk_184 0 5 (dk_at dksX0_mark_0 21 rfl rfl)
theorem dX0_mark_24 : decode cX0_mark 24 = .ok (.ifCond .ne 6, 3) := dk_154 0 6 (dk_at dksX0_mark_1 0 rfl rfl)
theorem dX0_mark_27 : decode cX0_mark 27 = .ok (.ldc 65, 2) := dk_18 65 (dk_at dksX0_mark_1 3 rfl rfl)
theorem dX0_mark_29 : decode cX0_mark 29 = .ok (.ireturn, 1) := dk_172 (dk_at dksX0_mark_1 5 rfl rfl)
theorem dX0_mark_30 : decode cX0_mark 30 = .ok (.aload_n 0, 1) := dk_42 (dk_at dksX0_mark_1 6 rfl rfl)
theorem dX0_mark_31 : decode cX0_mark 31 = .ok (.getfield 31, 3) := dk_180 0 31 (dk_at dksX0_mark_1 7 rfl rfl)
theorem dX0_mark_34 : decode cX0_mark 34 = .ok (.iload_n 1, 1) := dk_27 (dk_at dksX0_mark_1 10 rfl rfl)
theorem dX0_mark_35 : decode cX0_mark 35 = .ok (.iaload, 1) := dk_46 (dk_at dksX0_mark_1 11 rfl rfl)
theorem dX0_mark_36 : decode cX0_mark 36 = .ok (.istore_n 3, 1) := dk_62 (dk_at dksX0_mark_1 12 rfl rfl)
theorem dX0_mark_37 : decode cX0_mark 37 = .ok (.aload_n 0, 1) := dk_42 (dk_at dksX0_mark_1 13 rfl rfl)
theorem dX0_mark_38 : decode cX0_mark 38 = .ok (.getfield 31, 3) := dk_180 0 31 (dk_at dksX0_mark_1 14 rfl rfl)
theorem dX0_mark_41 : decode cX0_mark 41 = .ok (.iload_n 1, 1) := dk_27 (dk_at dksX0_mark_1 17 rfl rfl)
theorem dX0_mark_42 : decode cX0_mark 42 = .ok (.iload_n 2, 1) := dk_28 (dk_at dksX0_mark_1 18 rfl rfl)
theorem dX0_mark_43 : decode cX0_mark 43 = .ok (.iastore, 1) := dk_79 (dk_at dksX0_mark_1 19 rfl rfl)
theorem dX0_mark_44 : decode cX0_mark 44 = .ok (.iload_n 3, 1) := dk_29 (dk_at dksX0_mark_1 20 rfl rfl)
theorem dX0_mark_45 : decode cX0_mark 45 = .ok (.ireturn, 1) := dk_172 (dk_at dksX0_mark_1 21 rfl rfl)
abbrev cX0_disproof : ByteArray := prog_1_method_31_code
def yX0_disproof : MethodName := ⟨RX0, "disproof", "(II)I"⟩
def dkwX0_disproof_4 : List UInt8 := [167, 255, 194, 2, 172]
abbrev dktX0_disproof_4 : List UInt8 := dkwX0_disproof_4 ++ []
def dkwX0_disproof_3 : List UInt8 := [104, 96, 27, 100, 42, 180, 0, 31, 25, 4, 180, 0, 160, 46, 162, 0, 5, 29, 172, 132, 3, 1]
abbrev dktX0_disproof_3 : List UInt8 := dkwX0_disproof_3 ++ dktX0_disproof_4
def dkwX0_disproof_2 : List UInt8 := [182, 0, 85, 192, 0, 60, 58, 4, 42, 180, 0, 31, 25, 4, 180, 0, 157, 46, 28, 25, 4, 180, 0, 163]
abbrev dktX0_disproof_2 : List UInt8 := dkwX0_disproof_2 ++ dktX0_disproof_3
def dkwX0_disproof_1 : List UInt8 := [154, 0, 6, 18, 65, 172, 3, 62, 29, 42, 180, 0, 20, 182, 0, 54, 162, 0, 57, 42, 180, 0, 20, 29]
abbrev dktX0_disproof_1 : List UInt8 := dkwX0_disproof_1 ++ dktX0_disproof_2
def dkwX0_disproof_0 : List UInt8 := [27, 133, 20, 1, 5, 20, 1, 7, 184, 0, 5, 153, 0, 15, 28, 133, 10, 20, 1, 9, 184, 0, 5]
abbrev dktX0_disproof_0 : List UInt8 := dkwX0_disproof_0 ++ dktX0_disproof_1
theorem dksX0_disproof_0 : cX0_disproof.data.toList.drop 0 = dktX0_disproof_0 := by decide +kernel
theorem dksX0_disproof_1 : cX0_disproof.data.toList.drop 23 = dktX0_disproof_1 := dk_seg dksX0_disproof_0 23 rfl rfl
theorem dksX0_disproof_2 : cX0_disproof.data.toList.drop 47 = dktX0_disproof_2 := dk_seg dksX0_disproof_1 24 rfl rfl
theorem dksX0_disproof_3 : cX0_disproof.data.toList.drop 71 = dktX0_disproof_3 := dk_seg dksX0_disproof_2 24 rfl rfl
theorem dksX0_disproof_4 : cX0_disproof.data.toList.drop 93 = dktX0_disproof_4 := dk_seg dksX0_disproof_3 22 rfl rfl
theorem dX0_disproof_0 : decode cX0_disproof 0 = .ok (.iload_n 1, 1) := dk_27 (dk_at dksX0_disproof_0 0 rfl rfl)
theorem dX0_disproof_1 : decode cX0_disproof 1 = .ok (.i2l, 1) := dk_133 (dk_at dksX0_disproof_0 1 rfl rfl)
theorem dX0_disproof_2 : decode cX0_disproof 2 = .ok (.ldc2_w 261, 3) := dk_20 1 5 (dk_at dksX0_disproof_0 2 rfl rfl)
theorem dX0_disproof_5 : decode cX0_disproof 5 = .ok (.ldc2_w 263, 3) := dk_20 1 7 (dk_at dksX0_disproof_0 5 rfl rfl)
theorem dX0_disproof_8 : decode cX0_disproof 8 = .ok (.invokestatic 5, 3) := dk_184 0 5 (dk_at dksX0_disproof_0 8 rfl rfl)
theorem dX0_disproof_11 : decode cX0_disproof 11 = .ok (.ifCond .eq 15, 3) := dk_153 0 15 (dk_at dksX0_disproof_0 11 rfl rfl)
theorem dX0_disproof_14 : decode cX0_disproof 14 = .ok (.iload_n 2, 1) := dk_28 (dk_at dksX0_disproof_0 14 rfl rfl)
theorem dX0_disproof_15 : decode cX0_disproof 15 = .ok (.i2l, 1) := dk_133 (dk_at dksX0_disproof_0 15 rfl rfl)
theorem dX0_disproof_16 : decode cX0_disproof 16 = .ok (.lconst 1, 1) := dk_10 (dk_at dksX0_disproof_0 16 rfl rfl)
theorem dX0_disproof_17 : decode cX0_disproof 17 = .ok (.ldc2_w 265, 3) := dk_20 1 9 (dk_at dksX0_disproof_0 17 rfl rfl)
theorem dX0_disproof_20 : decode cX0_disproof 20 = .ok (.invokestatic 5, 3) := dk_184 0 5 (dk_at dksX0_disproof_0 20 rfl rfl)
theorem dX0_disproof_23 : decode cX0_disproof 23 = .ok (.ifCond .ne 6, 3) := dk_154 0 6 (dk_at dksX0_disproof_1 0 rfl rfl)
theorem dX0_disproof_26 : decode cX0_disproof 26 = .ok (.ldc 65, 2) := dk_18 65 (dk_at dksX0_disproof_1 3 rfl rfl)
theorem dX0_disproof_28 : decode cX0_disproof 28 = .ok (.ireturn, 1) := dk_172 (dk_at dksX0_disproof_1 5 rfl rfl)
theorem dX0_disproof_29 : decode cX0_disproof 29 = .ok (.iconst 0, 1) := dk_3 (dk_at dksX0_disproof_1 6 rfl rfl)
theorem dX0_disproof_30 : decode cX0_disproof 30 = .ok (.istore_n 3, 1) := dk_62 (dk_at dksX0_disproof_1 7 rfl rfl)
theorem dX0_disproof_31 : decode cX0_disproof 31 = .ok (.iload_n 3, 1) := dk_29 (dk_at dksX0_disproof_1 8 rfl rfl)
theorem dX0_disproof_32 : decode cX0_disproof 32 = .ok (.aload_n 0, 1) := dk_42 (dk_at dksX0_disproof_1 9 rfl rfl)
theorem dX0_disproof_33 : decode cX0_disproof 33 = .ok (.getfield 20, 3) := dk_180 0 20 (dk_at dksX0_disproof_1 10 rfl rfl)
theorem dX0_disproof_36 : decode cX0_disproof 36 = .ok (.invokevirtual 54, 3) := dk_182 0 54 (dk_at dksX0_disproof_1 13 rfl rfl)
theorem dX0_disproof_39 : decode cX0_disproof 39 = .ok (.if_icmp .ge 57, 3) := dk_162 0 57 (dk_at dksX0_disproof_1 16 rfl rfl)
theorem dX0_disproof_42 : decode cX0_disproof 42 = .ok (.aload_n 0, 1) := dk_42 (dk_at dksX0_disproof_1 19 rfl rfl)
theorem dX0_disproof_43 : decode cX0_disproof 43 = .ok (.getfield 20, 3) := dk_180 0 20 (dk_at dksX0_disproof_1 20 rfl rfl)
theorem dX0_disproof_46 : decode cX0_disproof 46 = .ok (.iload_n 3, 1) := dk_29 (dk_at dksX0_disproof_1 23 rfl rfl)
theorem dX0_disproof_47 : decode cX0_disproof 47 = .ok (.invokevirtual 85, 3) := dk_182 0 85 (dk_at dksX0_disproof_2 0 rfl rfl)
theorem dX0_disproof_50 : decode cX0_disproof 50 = .ok (.checkcast 60, 3) := dk_192 0 60 (dk_at dksX0_disproof_2 3 rfl rfl)
theorem dX0_disproof_53 : decode cX0_disproof 53 = .ok (.astore 4, 2) := dk_58 4 (dk_at dksX0_disproof_2 6 rfl rfl)
theorem dX0_disproof_55 : decode cX0_disproof 55 = .ok (.aload_n 0, 1) := dk_42 (dk_at dksX0_disproof_2 8 rfl rfl)
theorem dX0_disproof_56 : decode cX0_disproof 56 = .ok (.getfield 31, 3) := dk_180 0 31 (dk_at dksX0_disproof_2 9 rfl rfl)
theorem dX0_disproof_59 : decode cX0_disproof 59 = .ok (.aload 4, 2) := dk_25 4 (dk_at dksX0_disproof_2 12 rfl rfl)
theorem dX0_disproof_61 : decode cX0_disproof 61 = .ok (.getfield 157, 3) := dk_180 0 157 (dk_at dksX0_disproof_2 14 rfl rfl)
theorem dX0_disproof_64 : decode cX0_disproof 64 = .ok (.iaload, 1) := dk_46 (dk_at dksX0_disproof_2 17 rfl rfl)
theorem dX0_disproof_65 : decode cX0_disproof 65 = .ok (.iload_n 2, 1) := dk_28 (dk_at dksX0_disproof_2 18 rfl rfl)
theorem dX0_disproof_66 : decode cX0_disproof 66 = .ok (.aload 4, 2) := dk_25 4 (dk_at dksX0_disproof_2 19 rfl rfl)
theorem dX0_disproof_68 : decode cX0_disproof 68 = .ok (.getfield 163, 3) := dk_180 0 163 (dk_at dksX0_disproof_2 21 rfl rfl)
theorem dX0_disproof_71 : decode cX0_disproof 71 = .ok (.imul, 1) := dk_104 (dk_at dksX0_disproof_3 0 rfl rfl)
theorem dX0_disproof_72 : decode cX0_disproof 72 = .ok (.iadd, 1) := dk_96 (dk_at dksX0_disproof_3 1 rfl rfl)
theorem dX0_disproof_73 : decode cX0_disproof 73 = .ok (.iload_n 1, 1) := dk_27 (dk_at dksX0_disproof_3 2 rfl rfl)
theorem dX0_disproof_74 : decode cX0_disproof 74 = .ok (.isub, 1) := dk_100 (dk_at dksX0_disproof_3 3 rfl rfl)
theorem dX0_disproof_75 : decode cX0_disproof 75 = .ok (.aload_n 0, 1) := dk_42 (dk_at dksX0_disproof_3 4 rfl rfl)
theorem dX0_disproof_76 : decode cX0_disproof 76 = .ok (.getfield 31, 3) := dk_180 0 31 (dk_at dksX0_disproof_3 5 rfl rfl)
theorem dX0_disproof_79 : decode cX0_disproof 79 = .ok (.aload 4, 2) := dk_25 4 (dk_at dksX0_disproof_3 8 rfl rfl)
theorem dX0_disproof_81 : decode cX0_disproof 81 = .ok (.getfield 160, 3) := dk_180 0 160 (dk_at dksX0_disproof_3 10 rfl rfl)
theorem dX0_disproof_84 : decode cX0_disproof 84 = .ok (.iaload, 1) := dk_46 (dk_at dksX0_disproof_3 13 rfl rfl)
theorem dX0_disproof_85 : decode cX0_disproof 85 = .ok (.if_icmp .ge 5, 3) := dk_162 0 5 (dk_at dksX0_disproof_3 14 rfl rfl)
theorem dX0_disproof_88 : decode cX0_disproof 88 = .ok (.iload_n 3, 1) := dk_29 (dk_at dksX0_disproof_3 17 rfl rfl)
theorem dX0_disproof_89 : decode cX0_disproof 89 = .ok (.ireturn, 1) := dk_172 (dk_at dksX0_disproof_3 18 rfl rfl)
theorem dX0_disproof_90 : decode cX0_disproof 90 = .ok (.iinc 3 1, 3) := dk_132 3 1 (dk_at dksX0_disproof_3 19 rfl rfl)
theorem dX0_disproof_93 : decode cX0_disproof 93 = .ok (.goto (-62), 3) := dk_167 255 194 (dk_at dksX0_disproof_4 0 rfl rfl)
theorem dX0_disproof_96 : decode cX0_disproof 96 = .ok (.iconst (-1), 1) := dk_2 (dk_at dksX0_disproof_4 3 rfl rfl)
theorem dX0_disproof_97 : decode cX0_disproof 97 = .ok (.ireturn, 1) := dk_172 (dk_at dksX0_disproof_4 4 rfl rfl)
abbrev cX0_length : ByteArray := prog_1_method_32_code
def yX0_length : MethodName := ⟨RX0, "length", "(IIII)J"⟩
def dkwX0_length_5 : List UInt8 := [180, 0, 248, 109, 105, 173]
abbrev dktX0_length_5 : List UInt8 := dkwX0_length_5 ++ []
def dkwX0_length_4 : List UInt8 := [182, 1, 23, 153, 0, 7, 20, 1, 27, 173, 25, 5, 25, 6, 182, 1, 29, 21, 4, 133, 25, 6]
abbrev dktX0_length_4 : List UInt8 := dkwX0_length_4 ++ dktX0_length_5
def dkwX0_length_3 : List UInt8 := [20, 0, 251, 173, 187, 0, 177, 89, 29, 133, 21, 4, 133, 183, 0, 182, 58, 6, 25, 5, 25, 6]
abbrev dktX0_length_3 : List UInt8 := dkwX0_length_3 ++ dktX0_length_4
def dkwX0_length_2 : List UInt8 := [20, 0, 239, 173, 187, 1, 15, 89, 42, 27, 28, 183, 1, 17, 58, 5, 25, 5, 182, 1, 20, 154, 0, 7]
abbrev dktX0_length_2 : List UInt8 := dkwX0_length_2 ++ dktX0_length_3
def dkwX0_length_1 : List UInt8 := [20, 1, 13, 184, 0, 5, 153, 0, 16, 21, 4, 133, 10, 20, 1, 9, 184, 0, 5, 154, 0, 7]
abbrev dktX0_length_1 : List UInt8 := dkwX0_length_1 ++ dktX0_length_2
def dkwX0_length_0 : List UInt8 := [5, 188, 10, 89, 3, 27, 79, 89, 4, 28, 79, 184, 0, 55, 153, 0, 30, 29, 133, 20, 1, 11]
abbrev dktX0_length_0 : List UInt8 := dkwX0_length_0 ++ dktX0_length_1
theorem dksX0_length_0 : cX0_length.data.toList.drop 0 = dktX0_length_0 := by decide +kernel
theorem dksX0_length_1 : cX0_length.data.toList.drop 22 = dktX0_length_1 := dk_seg dksX0_length_0 22 rfl rfl
theorem dksX0_length_2 : cX0_length.data.toList.drop 44 = dktX0_length_2 := dk_seg dksX0_length_1 22 rfl rfl
theorem dksX0_length_3 : cX0_length.data.toList.drop 68 = dktX0_length_3 := dk_seg dksX0_length_2 24 rfl rfl
theorem dksX0_length_4 : cX0_length.data.toList.drop 90 = dktX0_length_4 := dk_seg dksX0_length_3 22 rfl rfl
theorem dksX0_length_5 : cX0_length.data.toList.drop 112 = dktX0_length_5 := dk_seg dksX0_length_4 22 rfl rfl
theorem dX0_length_0 : decode cX0_length 0 = .ok (.iconst 2, 1) := dk_5 (dk_at dksX0_length_0 0 rfl rfl)
theorem dX0_length_1 : decode cX0_length 1 = .ok (.newarray .int, 2) := dk_188_10 (dk_at dksX0_length_0 1 rfl rfl)
theorem dX0_length_3 : decode cX0_length 3 = .ok (.dup, 1) := dk_89 (dk_at dksX0_length_0 3 rfl rfl)
theorem dX0_length_4 : decode cX0_length 4 = .ok (.iconst 0, 1) := dk_3 (dk_at dksX0_length_0 4 rfl rfl)
theorem dX0_length_5 : decode cX0_length 5 = .ok (.iload_n 1, 1) := dk_27 (dk_at dksX0_length_0 5 rfl rfl)
theorem dX0_length_6 : decode cX0_length 6 = .ok (.iastore, 1) := dk_79 (dk_at dksX0_length_0 6 rfl rfl)
theorem dX0_length_7 : decode cX0_length 7 = .ok (.dup, 1) := dk_89 (dk_at dksX0_length_0 7 rfl rfl)
theorem dX0_length_8 : decode cX0_length 8 = .ok (.iconst 1, 1) := dk_4 (dk_at dksX0_length_0 8 rfl rfl)
theorem dX0_length_9 : decode cX0_length 9 = .ok (.iload_n 2, 1) := dk_28 (dk_at dksX0_length_0 9 rfl rfl)
theorem dX0_length_10 : decode cX0_length 10 = .ok (.iastore, 1) := dk_79 (dk_at dksX0_length_0 10 rfl rfl)
theorem dX0_length_11 : decode cX0_length 11 = .ok (.invokestatic 55, 3) := dk_184 0 55 (dk_at dksX0_length_0 11 rfl rfl)
theorem dX0_length_14 : decode cX0_length 14 = .ok (.ifCond .eq 30, 3) := dk_153 0 30 (dk_at dksX0_length_0 14 rfl rfl)
theorem dX0_length_17 : decode cX0_length 17 = .ok (.iload_n 3, 1) := dk_29 (dk_at dksX0_length_0 17 rfl rfl)
theorem dX0_length_18 : decode cX0_length 18 = .ok (.i2l, 1) := dk_133 (dk_at dksX0_length_0 18 rfl rfl)
theorem dX0_length_19 : decode cX0_length 19 = .ok (.ldc2_w 267, 3) := dk_20 1 11 (dk_at dksX0_length_0 19 rfl rfl)
theorem dX0_length_22 : decode cX0_length 22 = .ok (.ldc2_w 269, 3) := dk_20 1 13 (dk_at dksX0_length_1 0 rfl rfl)
theorem dX0_length_25 : decode cX0_length 25 = .ok (.invokestatic 5, 3) := dk_184 0 5 (dk_at dksX0_length_1 3 rfl rfl)
theorem dX0_length_28 : decode cX0_length 28 = .ok (.ifCond .eq 16, 3) := dk_153 0 16 (dk_at dksX0_length_1 6 rfl rfl)
theorem dX0_length_31 : decode cX0_length 31 = .ok (.iload 4, 2) := dk_21 4 (dk_at dksX0_length_1 9 rfl rfl)
theorem dX0_length_33 : decode cX0_length 33 = .ok (.i2l, 1) := dk_133 (dk_at dksX0_length_1 11 rfl rfl)
theorem dX0_length_34 : decode cX0_length 34 = .ok (.lconst 1, 1) := dk_10 (dk_at dksX0_length_1 12 rfl rfl)
theorem dX0_length_35 : decode cX0_length 35 = .ok (.ldc2_w 265, 3) := dk_20 1 9 (dk_at dksX0_length_1 13 rfl rfl)
theorem dX0_length_38 : decode cX0_length 38 = .ok (.invokestatic 5, 3) := dk_184 0 5 (dk_at dksX0_length_1 16 rfl rfl)
theorem dX0_length_41 : decode cX0_length 41 = .ok (.ifCond .ne 7, 3) := dk_154 0 7 (dk_at dksX0_length_1 19 rfl rfl)
theorem dX0_length_44 : decode cX0_length 44 = .ok (.ldc2_w 239, 3) := dk_20 0 239 (dk_at dksX0_length_2 0 rfl rfl)
theorem dX0_length_47 : decode cX0_length 47 = .ok (.lreturn, 1) := dk_173 (dk_at dksX0_length_2 3 rfl rfl)
theorem dX0_length_48 : decode cX0_length 48 = .ok (.new 271, 3) := dk_187 1 15 (dk_at dksX0_length_2 4 rfl rfl)
theorem dX0_length_51 : decode cX0_length 51 = .ok (.dup, 1) := dk_89 (dk_at dksX0_length_2 7 rfl rfl)
theorem dX0_length_52 : decode cX0_length 52 = .ok (.aload_n 0, 1) := dk_42 (dk_at dksX0_length_2 8 rfl rfl)
theorem dX0_length_53 : decode cX0_length 53 = .ok (.iload_n 1, 1) := dk_27 (dk_at dksX0_length_2 9 rfl rfl)
theorem dX0_length_54 : decode cX0_length 54 = .ok (.iload_n 2, 1) := dk_28 (dk_at dksX0_length_2 10 rfl rfl)
theorem dX0_length_55 : decode cX0_length 55 = .ok (.invokespecial 273, 3) := dk_183 1 17 (dk_at dksX0_length_2 11 rfl rfl)
theorem dX0_length_58 : decode cX0_length 58 = .ok (.astore 5, 2) := dk_58 5 (dk_at dksX0_length_2 14 rfl rfl)
theorem dX0_length_60 : decode cX0_length 60 = .ok (.aload 5, 2) := dk_25 5 (dk_at dksX0_length_2 16 rfl rfl)
theorem dX0_length_62 : decode cX0_length 62 = .ok (.invokevirtual 276, 3) := dk_182 1 20 (dk_at dksX0_length_2 18 rfl rfl)
theorem dX0_length_65 : decode cX0_length 65 = .ok (.ifCond .ne 7, 3) := dk_154 0 7 (dk_at dksX0_length_2 21 rfl rfl)
theorem dX0_length_68 : decode cX0_length 68 = .ok (.ldc2_w 251, 3) := dk_20 0 251 (dk_at dksX0_length_3 0 rfl rfl)
theorem dX0_length_71 : decode cX0_length 71 = .ok (.lreturn, 1) := dk_173 (dk_at dksX0_length_3 3 rfl rfl)
theorem dX0_length_72 : decode cX0_length 72 = .ok (.new 177, 3) := dk_187 0 177 (dk_at dksX0_length_3 4 rfl rfl)
theorem dX0_length_75 : decode cX0_length 75 = .ok (.dup, 1) := dk_89 (dk_at dksX0_length_3 7 rfl rfl)
theorem dX0_length_76 : decode cX0_length 76 = .ok (.iload_n 3, 1) := dk_29 (dk_at dksX0_length_3 8 rfl rfl)
theorem dX0_length_77 : decode cX0_length 77 = .ok (.i2l, 1) := dk_133 (dk_at dksX0_length_3 9 rfl rfl)
theorem dX0_length_78 : decode cX0_length 78 = .ok (.iload 4, 2) := dk_21 4 (dk_at dksX0_length_3 10 rfl rfl)
theorem dX0_length_80 : decode cX0_length 80 = .ok (.i2l, 1) := dk_133 (dk_at dksX0_length_3 12 rfl rfl)
theorem dX0_length_81 : decode cX0_length 81 = .ok (.invokespecial 182, 3) := dk_183 0 182 (dk_at dksX0_length_3 13 rfl rfl)
theorem dX0_length_84 : decode cX0_length 84 = .ok (.astore 6, 2) := dk_58 6 (dk_at dksX0_length_3 16 rfl rfl)
theorem dX0_length_86 : decode cX0_length 86 = .ok (.aload 5, 2) := dk_25 5 (dk_at dksX0_length_3 18 rfl rfl)
theorem dX0_length_88 : decode cX0_length 88 = .ok (.aload 6, 2) := dk_25 6 (dk_at dksX0_length_3 20 rfl rfl)
theorem dX0_length_90 : decode cX0_length 90 = .ok (.invokevirtual 279, 3) := dk_182 1 23 (dk_at dksX0_length_4 0 rfl rfl)
theorem dX0_length_93 : decode cX0_length 93 = .ok (.ifCond .eq 7, 3) := dk_153 0 7 (dk_at dksX0_length_4 3 rfl rfl)
theorem dX0_length_96 : decode cX0_length 96 = .ok (.ldc2_w 283, 3) := dk_20 1 27 (dk_at dksX0_length_4 6 rfl rfl)
theorem dX0_length_99 : decode cX0_length 99 = .ok (.lreturn, 1) := dk_173 (dk_at dksX0_length_4 9 rfl rfl)
theorem dX0_length_100 : decode cX0_length 100 = .ok (.aload 5, 2) := dk_25 5 (dk_at dksX0_length_4 10 rfl rfl)
theorem dX0_length_102 : decode cX0_length 102 = .ok (.aload 6, 2) := dk_25 6 (dk_at dksX0_length_4 12 rfl rfl)
theorem dX0_length_104 : decode cX0_length 104 = .ok (.invokevirtual 285, 3) := dk_182 1 29 (dk_at dksX0_length_4 14 rfl rfl)
theorem dX0_length_107 : decode cX0_length 107 = .ok (.iload 4, 2) := dk_21 4 (dk_at dksX0_length_4 17 rfl rfl)
theorem dX0_length_109 : decode cX0_length 109 = .ok (.i2l, 1) := dk_133 (dk_at dksX0_length_4 19 rfl rfl)
theorem dX0_length_110 : decode cX0_length 110 = .ok (.aload 6, 2) := dk_25 6 (dk_at dksX0_length_4 20 rfl rfl)
theorem dX0_length_112 : decode cX0_length 112 = .ok (.getfield 248, 3) := dk_180 0 248 (dk_at dksX0_length_5 0 rfl rfl)
theorem dX0_length_115 : decode cX0_length 115 = .ok (.ldiv, 1) := dk_109 (dk_at dksX0_length_5 3 rfl rfl)
theorem dX0_length_116 : decode cX0_length 116 = .ok (.lmul, 1) := dk_105 (dk_at dksX0_length_5 4 rfl rfl)
theorem dX0_length_117 : decode cX0_length 117 = .ok (.lreturn, 1) := dk_173 (dk_at dksX0_length_5 5 rfl rfl)
abbrev cX0_pieces : ByteArray := prog_1_method_34_code
def yX0_pieces : MethodName := ⟨RX0, "pieces", "(IIII)I"⟩
def dkwX0_pieces_8 : List UInt8 := [172]
abbrev dktX0_pieces_8 : List UInt8 := dkwX0_pieces_8 ++ []
def dkwX0_pieces_7 : List UInt8 := [25, 5, 25, 7, 4, 182, 1, 45, 25, 8, 182, 1, 55, 42, 25, 8, 181, 1, 70, 25, 8, 182, 0, 54]
abbrev dktX0_pieces_7 : List UInt8 := dkwX0_pieces_7 ++ dktX0_pieces_8
def dkwX0_pieces_6 : List UInt8 := [58, 9, 25, 8, 187, 1, 50, 89, 25, 9, 25, 6, 183, 1, 52, 182, 0, 73, 87, 42, 25, 5, 25, 9]
abbrev dktX0_pieces_6 : List UInt8 := dkwX0_pieces_6 ++ dktX0_pieces_7
def dkwX0_pieces_5 : List UInt8 := [153, 0, 7, 19, 1, 68, 172, 187, 0, 15, 89, 183, 1, 69, 58, 8, 25, 5, 25, 6, 3, 182, 1, 45]
abbrev dktX0_pieces_5 : List UInt8 := dkwX0_pieces_5 ++ dktX0_pieces_6
def dkwX0_pieces_4 : List UInt8 := [183, 1, 65, 58, 7, 25, 5, 25, 6, 182, 1, 23, 154, 0, 13, 25, 5, 25, 7, 182, 1, 23]
abbrev dktX0_pieces_4 : List UInt8 := dkwX0_pieces_4 ++ dktX0_pieces_5
def dkwX0_pieces_3 : List UInt8 := [154, 0, 6, 18, 139, 172, 187, 0, 177, 89, 29, 133, 183, 1, 65, 58, 6, 187, 0, 177, 89, 21, 4, 133]
abbrev dktX0_pieces_3 : List UInt8 := dkwX0_pieces_3 ++ dktX0_pieces_4
def dkwX0_pieces_2 : List UInt8 := [154, 0, 6, 18, 65, 172, 187, 1, 15, 89, 42, 27, 28, 183, 1, 17, 58, 5, 25, 5, 182, 1, 20]
abbrev dktX0_pieces_2 : List UInt8 := dkwX0_pieces_2 ++ dktX0_pieces_3
def dkwX0_pieces_1 : List UInt8 := [20, 1, 61, 184, 0, 5, 153, 0, 19, 21, 4, 133, 29, 4, 96, 133, 20, 1, 63, 184, 0, 5]
abbrev dktX0_pieces_1 : List UInt8 := dkwX0_pieces_1 ++ dktX0_pieces_2
def dkwX0_pieces_0 : List UInt8 := [5, 188, 10, 89, 3, 27, 79, 89, 4, 28, 79, 184, 0, 55, 153, 0, 33, 29, 133, 20, 1, 59]
abbrev dktX0_pieces_0 : List UInt8 := dkwX0_pieces_0 ++ dktX0_pieces_1
theorem dksX0_pieces_0 : cX0_pieces.data.toList.drop 0 = dktX0_pieces_0 := by decide +kernel
theorem dksX0_pieces_1 : cX0_pieces.data.toList.drop 22 = dktX0_pieces_1 := dk_seg dksX0_pieces_0 22 rfl rfl
theorem dksX0_pieces_2 : cX0_pieces.data.toList.drop 44 = dktX0_pieces_2 := dk_seg dksX0_pieces_1 22 rfl rfl
theorem dksX0_pieces_3 : cX0_pieces.data.toList.drop 67 = dktX0_pieces_3 := dk_seg dksX0_pieces_2 23 rfl rfl
theorem dksX0_pieces_4 : cX0_pieces.data.toList.drop 91 = dktX0_pieces_4 := dk_seg dksX0_pieces_3 24 rfl rfl
theorem dksX0_pieces_5 : cX0_pieces.data.toList.drop 113 = dktX0_pieces_5 := dk_seg dksX0_pieces_4 22 rfl rfl
theorem dksX0_pieces_6 : cX0_pieces.data.toList.drop 137 = dktX0_pieces_6 := dk_seg dksX0_pieces_5 24 rfl rfl
theorem dksX0_pieces_7 : cX0_pieces.data.toList.drop 161 = dktX0_pieces_7 := dk_seg dksX0_pieces_6 24 rfl rfl
theorem dksX0_pieces_8 : cX0_pieces.data.toList.drop 185 = dktX0_pieces_8 := dk_seg dksX0_pieces_7 24 rfl rfl
theorem dX0_pieces_0 : decode cX0_pieces 0 = .ok (.iconst 2, 1) := dk_5 (dk_at dksX0_pieces_0 0 rfl rfl)
theorem dX0_pieces_1 : decode cX0_pieces 1 = .ok (.newarray .int, 2) := dk_188_10 (dk_at dksX0_pieces_0 1 rfl rfl)
theorem dX0_pieces_3 : decode cX0_pieces 3 = .ok (.dup, 1) := dk_89 (dk_at dksX0_pieces_0 3 rfl rfl)
theorem dX0_pieces_4 : decode cX0_pieces 4 = .ok (.iconst 0, 1) := dk_3 (dk_at dksX0_pieces_0 4 rfl rfl)
theorem dX0_pieces_5 : decode cX0_pieces 5 = .ok (.iload_n 1, 1) := dk_27 (dk_at dksX0_pieces_0 5 rfl rfl)
theorem dX0_pieces_6 : decode cX0_pieces 6 = .ok (.iastore, 1) := dk_79 (dk_at dksX0_pieces_0 6 rfl rfl)
theorem dX0_pieces_7 : decode cX0_pieces 7 = .ok (.dup, 1) := dk_89 (dk_at dksX0_pieces_0 7 rfl rfl)
theorem dX0_pieces_8 : decode cX0_pieces 8 = .ok (.iconst 1, 1) := dk_4 (dk_at dksX0_pieces_0 8 rfl rfl)
theorem dX0_pieces_9 : decode cX0_pieces 9 = .ok (.iload_n 2, 1) := dk_28 (dk_at dksX0_pieces_0 9 rfl rfl)
theorem dX0_pieces_10 : decode cX0_pieces 10 = .ok (.iastore, 1) := dk_79 (dk_at dksX0_pieces_0 10 rfl rfl)
theorem dX0_pieces_11 : decode cX0_pieces 11 = .ok (.invokestatic 55, 3) := dk_184 0 55 (dk_at dksX0_pieces_0 11 rfl rfl)
theorem dX0_pieces_14 : decode cX0_pieces 14 = .ok (.ifCond .eq 33, 3) := dk_153 0 33 (dk_at dksX0_pieces_0 14 rfl rfl)
theorem dX0_pieces_17 : decode cX0_pieces 17 = .ok (.iload_n 3, 1) := dk_29 (dk_at dksX0_pieces_0 17 rfl rfl)
theorem dX0_pieces_18 : decode cX0_pieces 18 = .ok (.i2l, 1) := dk_133 (dk_at dksX0_pieces_0 18 rfl rfl)
theorem dX0_pieces_19 : decode cX0_pieces 19 = .ok (.ldc2_w 315, 3) := dk_20 1 59 (dk_at dksX0_pieces_0 19 rfl rfl)
theorem dX0_pieces_22 : decode cX0_pieces 22 = .ok (.ldc2_w 317, 3) := dk_20 1 61 (dk_at dksX0_pieces_1 0 rfl rfl)
theorem dX0_pieces_25 : decode cX0_pieces 25 = .ok (.invokestatic 5, 3) := dk_184 0 5 (dk_at dksX0_pieces_1 3 rfl rfl)
theorem dX0_pieces_28 : decode cX0_pieces 28 = .ok (.ifCond .eq 19, 3) := dk_153 0 19 (dk_at dksX0_pieces_1 6 rfl rfl)
theorem dX0_pieces_31 : decode cX0_pieces 31 = .ok (.iload 4, 2) := dk_21 4 (dk_at dksX0_pieces_1 9 rfl rfl)
theorem dX0_pieces_33 : decode cX0_pieces 33 = .ok (.i2l, 1) := dk_133 (dk_at dksX0_pieces_1 11 rfl rfl)
theorem dX0_pieces_34 : decode cX0_pieces 34 = .ok (.iload_n 3, 1) := dk_29 (dk_at dksX0_pieces_1 12 rfl rfl)
theorem dX0_pieces_35 : decode cX0_pieces 35 = .ok (.iconst 1, 1) := dk_4 (dk_at dksX0_pieces_1 13 rfl rfl)
theorem dX0_pieces_36 : decode cX0_pieces 36 = .ok (.iadd, 1) := dk_96 (dk_at dksX0_pieces_1 14 rfl rfl)
theorem dX0_pieces_37 : decode cX0_pieces 37 = .ok (.i2l, 1) := dk_133 (dk_at dksX0_pieces_1 15 rfl rfl)
theorem dX0_pieces_38 : decode cX0_pieces 38 = .ok (.ldc2_w 319, 3) := dk_20 1 63 (dk_at dksX0_pieces_1 16 rfl rfl)
theorem dX0_pieces_41 : decode cX0_pieces 41 = .ok (.invokestatic 5, 3) := dk_184 0 5 (dk_at dksX0_pieces_1 19 rfl rfl)
theorem dX0_pieces_44 : decode cX0_pieces 44 = .ok (.ifCond .ne 6, 3) := dk_154 0 6 (dk_at dksX0_pieces_2 0 rfl rfl)
theorem dX0_pieces_47 : decode cX0_pieces 47 = .ok (.ldc 65, 2) := dk_18 65 (dk_at dksX0_pieces_2 3 rfl rfl)
theorem dX0_pieces_49 : decode cX0_pieces 49 = .ok (.ireturn, 1) := dk_172 (dk_at dksX0_pieces_2 5 rfl rfl)
theorem dX0_pieces_50 : decode cX0_pieces 50 = .ok (.new 271, 3) := dk_187 1 15 (dk_at dksX0_pieces_2 6 rfl rfl)
theorem dX0_pieces_53 : decode cX0_pieces 53 = .ok (.dup, 1) := dk_89 (dk_at dksX0_pieces_2 9 rfl rfl)
theorem dX0_pieces_54 : decode cX0_pieces 54 = .ok (.aload_n 0, 1) := dk_42 (dk_at dksX0_pieces_2 10 rfl rfl)
theorem dX0_pieces_55 : decode cX0_pieces 55 = .ok (.iload_n 1, 1) := dk_27 (dk_at dksX0_pieces_2 11 rfl rfl)
theorem dX0_pieces_56 : decode cX0_pieces 56 = .ok (.iload_n 2, 1) := dk_28 (dk_at dksX0_pieces_2 12 rfl rfl)
theorem dX0_pieces_57 : decode cX0_pieces 57 = .ok (.invokespecial 273, 3) := dk_183 1 17 (dk_at dksX0_pieces_2 13 rfl rfl)
theorem dX0_pieces_60 : decode cX0_pieces 60 = .ok (.astore 5, 2) := dk_58 5 (dk_at dksX0_pieces_2 16 rfl rfl)
theorem dX0_pieces_62 : decode cX0_pieces 62 = .ok (.aload 5, 2) := dk_25 5 (dk_at dksX0_pieces_2 18 rfl rfl)
theorem dX0_pieces_64 : decode cX0_pieces 64 = .ok (.invokevirtual 276, 3) := dk_182 1 20 (dk_at dksX0_pieces_2 20 rfl rfl)
theorem dX0_pieces_67 : decode cX0_pieces 67 = .ok (.ifCond .ne 6, 3) := dk_154 0 6 (dk_at dksX0_pieces_3 0 rfl rfl)
theorem dX0_pieces_70 : decode cX0_pieces 70 = .ok (.ldc 139, 2) := dk_18 139 (dk_at dksX0_pieces_3 3 rfl rfl)
theorem dX0_pieces_72 : decode cX0_pieces 72 = .ok (.ireturn, 1) := dk_172 (dk_at dksX0_pieces_3 5 rfl rfl)
theorem dX0_pieces_73 : decode cX0_pieces 73 = .ok (.new 177, 3) := dk_187 0 177 (dk_at dksX0_pieces_3 6 rfl rfl)
theorem dX0_pieces_76 : decode cX0_pieces 76 = .ok (.dup, 1) := dk_89 (dk_at dksX0_pieces_3 9 rfl rfl)
theorem dX0_pieces_77 : decode cX0_pieces 77 = .ok (.iload_n 3, 1) := dk_29 (dk_at dksX0_pieces_3 10 rfl rfl)
theorem dX0_pieces_78 : decode cX0_pieces 78 = .ok (.i2l, 1) := dk_133 (dk_at dksX0_pieces_3 11 rfl rfl)
theorem dX0_pieces_79 : decode cX0_pieces 79 = .ok (.invokespecial 321, 3) := dk_183 1 65 (dk_at dksX0_pieces_3 12 rfl rfl)
theorem dX0_pieces_82 : decode cX0_pieces 82 = .ok (.astore 6, 2) := dk_58 6 (dk_at dksX0_pieces_3 15 rfl rfl)
theorem dX0_pieces_84 : decode cX0_pieces 84 = .ok (.new 177, 3) := dk_187 0 177 (dk_at dksX0_pieces_3 17 rfl rfl)
theorem dX0_pieces_87 : decode cX0_pieces 87 = .ok (.dup, 1) := dk_89 (dk_at dksX0_pieces_3 20 rfl rfl)
theorem dX0_pieces_88 : decode cX0_pieces 88 = .ok (.iload 4, 2) := dk_21 4 (dk_at dksX0_pieces_3 21 rfl rfl)
theorem dX0_pieces_90 : decode cX0_pieces 90 = .ok (.i2l, 1) := dk_133 (dk_at dksX0_pieces_3 23 rfl rfl)
theorem dX0_pieces_91 : decode cX0_pieces 91 = .ok (.invokespecial 321, 3) := dk_183 1 65 (dk_at dksX0_pieces_4 0 rfl rfl)
theorem dX0_pieces_94 : decode cX0_pieces 94 = .ok (.astore 7, 2) := dk_58 7 (dk_at dksX0_pieces_4 3 rfl rfl)
theorem dX0_pieces_96 : decode cX0_pieces 96 = .ok (.aload 5, 2) := dk_25 5 (dk_at dksX0_pieces_4 5 rfl rfl)
theorem dX0_pieces_98 : decode cX0_pieces 98 = .ok (.aload 6, 2) := dk_25 6 (dk_at dksX0_pieces_4 7 rfl rfl)
theorem dX0_pieces_100 : decode cX0_pieces 100 = .ok (.invokevirtual 279, 3) := dk_182 1 23 (dk_at dksX0_pieces_4 9 rfl rfl)
theorem dX0_pieces_103 : decode cX0_pieces 103 = .ok (.ifCond .ne 13, 3) := dk_154 0 13 (dk_at dksX0_pieces_4 12 rfl rfl)
theorem dX0_pieces_106 : decode cX0_pieces 106 = .ok (.aload 5, 2) := dk_25 5 (dk_at dksX0_pieces_4 15 rfl rfl)
theorem dX0_pieces_108 : decode cX0_pieces 108 = .ok (.aload 7, 2) := dk_25 7 (dk_at dksX0_pieces_4 17 rfl rfl)
theorem dX0_pieces_110 : decode cX0_pieces 110 = .ok (.invokevirtual 279, 3) := dk_182 1 23 (dk_at dksX0_pieces_4 19 rfl rfl)
theorem dX0_pieces_113 : decode cX0_pieces 113 = .ok (.ifCond .eq 7, 3) := dk_153 0 7 (dk_at dksX0_pieces_5 0 rfl rfl)
theorem dX0_pieces_116 : decode cX0_pieces 116 = .ok (.ldc_w 324, 3) := dk_19 1 68 (dk_at dksX0_pieces_5 3 rfl rfl)
theorem dX0_pieces_119 : decode cX0_pieces 119 = .ok (.ireturn, 1) := dk_172 (dk_at dksX0_pieces_5 6 rfl rfl)
theorem dX0_pieces_120 : decode cX0_pieces 120 = .ok (.new 15, 3) := dk_187 0 15 (dk_at dksX0_pieces_5 7 rfl rfl)
theorem dX0_pieces_123 : decode cX0_pieces 123 = .ok (.dup, 1) := dk_89 (dk_at dksX0_pieces_5 10 rfl rfl)
theorem dX0_pieces_124 : decode cX0_pieces 124 = .ok (.invokespecial 325, 3) := dk_183 1 69 (dk_at dksX0_pieces_5 11 rfl rfl)
theorem dX0_pieces_127 : decode cX0_pieces 127 = .ok (.astore 8, 2) := dk_58 8 (dk_at dksX0_pieces_5 14 rfl rfl)
theorem dX0_pieces_129 : decode cX0_pieces 129 = .ok (.aload 5, 2) := dk_25 5 (dk_at dksX0_pieces_5 16 rfl rfl)
theorem dX0_pieces_131 : decode cX0_pieces 131 = .ok (.aload 6, 2) := dk_25 6 (dk_at dksX0_pieces_5 18 rfl rfl)
theorem dX0_pieces_133 : decode cX0_pieces 133 = .ok (.iconst 0, 1) := dk_3 (dk_at dksX0_pieces_5 20 rfl rfl)
theorem dX0_pieces_134 : decode cX0_pieces 134 = .ok (.invokevirtual 301, 3) := dk_182 1 45 (dk_at dksX0_pieces_5 21 rfl rfl)
theorem dX0_pieces_137 : decode cX0_pieces 137 = .ok (.astore 9, 2) := dk_58 9 (dk_at dksX0_pieces_6 0 rfl rfl)
theorem dX0_pieces_139 : decode cX0_pieces 139 = .ok (.aload 8, 2) := dk_25 8 (dk_at dksX0_pieces_6 2 rfl rfl)
theorem dX0_pieces_141 : decode cX0_pieces 141 = .ok (.new 306, 3) := dk_187 1 50 (dk_at dksX0_pieces_6 4 rfl rfl)
theorem dX0_pieces_144 : decode cX0_pieces 144 = .ok (.dup, 1) := dk_89 (dk_at dksX0_pieces_6 7 rfl rfl)
theorem dX0_pieces_145 : decode cX0_pieces 145 = .ok (.aload 9, 2) := dk_25 9 (dk_at dksX0_pieces_6 8 rfl rfl)
theorem dX0_pieces_147 : decode cX0_pieces 147 = .ok (.aload 6, 2) := dk_25 6 (dk_at dksX0_pieces_6 10 rfl rfl)
theorem dX0_pieces_149 : decode cX0_pieces 149 = .ok (.invokespecial 308, 3) := dk_183 1 52 (dk_at dksX0_pieces_6 12 rfl rfl)
theorem dX0_pieces_152 : decode cX0_pieces 152 = .ok (.invokevirtual 73, 3) := dk_182 0 73 (dk_at dksX0_pieces_6 15 rfl rfl)
theorem dX0_pieces_155 : decode cX0_pieces 155 = .ok (.pop, 1) := dk_87 (dk_at dksX0_pieces_6 18 rfl rfl)
theorem dX0_pieces_156 : decode cX0_pieces 156 = .ok (.aload_n 0, 1) := dk_42 (dk_at dksX0_pieces_6 19 rfl rfl)
theorem dX0_pieces_157 : decode cX0_pieces 157 = .ok (.aload 5, 2) := dk_25 5 (dk_at dksX0_pieces_6 20 rfl rfl)
theorem dX0_pieces_159 : decode cX0_pieces 159 = .ok (.aload 9, 2) := dk_25 9 (dk_at dksX0_pieces_6 22 rfl rfl)
theorem dX0_pieces_161 : decode cX0_pieces 161 = .ok (.aload 5, 2) := dk_25 5 (dk_at dksX0_pieces_7 0 rfl rfl)
theorem dX0_pieces_163 : decode cX0_pieces 163 = .ok (.aload 7, 2) := dk_25 7 (dk_at dksX0_pieces_7 2 rfl rfl)
theorem dX0_pieces_165 : decode cX0_pieces 165 = .ok (.iconst 1, 1) := dk_4 (dk_at dksX0_pieces_7 4 rfl rfl)
theorem dX0_pieces_166 : decode cX0_pieces 166 = .ok (.invokevirtual 301, 3) := dk_182 1 45 (dk_at dksX0_pieces_7 5 rfl rfl)
theorem dX0_pieces_169 : decode cX0_pieces 169 = .ok (.aload 8, 2) := dk_25 8 (dk_at dksX0_pieces_7 8 rfl rfl)
theorem dX0_pieces_171 : decode cX0_pieces 171 = .ok (.invokevirtual 311, 3) := dk_182 1 55 (dk_at dksX0_pieces_7 10 rfl rfl)
theorem dX0_pieces_174 : decode cX0_pieces 174 = .ok (.aload_n 0, 1) := dk_42 (dk_at dksX0_pieces_7 13 rfl rfl)
theorem dX0_pieces_175 : decode cX0_pieces 175 = .ok (.aload 8, 2) := dk_25 8 (dk_at dksX0_pieces_7 14 rfl rfl)
theorem dX0_pieces_177 : decode cX0_pieces 177 = .ok (.putfield 326, 3) := dk_181 1 70 (dk_at dksX0_pieces_7 16 rfl rfl)
theorem dX0_pieces_180 : decode cX0_pieces 180 = .ok (.aload 8, 2) := dk_25 8 (dk_at dksX0_pieces_7 19 rfl rfl)
theorem dX0_pieces_182 : decode cX0_pieces 182 = .ok (.invokevirtual 54, 3) := dk_182 0 54 (dk_at dksX0_pieces_7 21 rfl rfl)
theorem dX0_pieces_185 : decode cX0_pieces 185 = .ok (.ireturn, 1) := dk_172 (dk_at dksX0_pieces_8 0 rfl rfl)
abbrev cX0_addPieces : ByteArray := prog_1_method_33_code
def yX0_addPieces : MethodName := ⟨RX0, "addPieces", "(LRatioGraph$Paths;LRatioGraph$Line;LRatioGraph$Line;Ljava/util/ArrayList;)V"⟩
def dkwX0_addPieces_4 : List UInt8 := [45, 25, 4, 182, 1, 55, 177]
abbrev dktX0_addPieces_4 : List UInt8 := dkwX0_addPieces_4 ++ []
def dkwX0_addPieces_3 : List UInt8 := [183, 1, 52, 182, 0, 73, 87, 167, 0, 23, 42, 43, 44, 25, 6, 25, 4, 182, 1, 55, 42, 43, 25, 6]
abbrev dktX0_addPieces_3 : List UInt8 := dkwX0_addPieces_3 ++ dktX0_addPieces_4
def dkwX0_addPieces_2 : List UInt8 := [25, 5, 182, 1, 48, 44, 25, 5, 182, 1, 48, 148, 154, 0, 22, 25, 4, 187, 1, 50, 89, 45, 25, 5]
abbrev dktX0_addPieces_2 : List UInt8 := dkwX0_addPieces_2 ++ dktX0_addPieces_3
def dkwX0_addPieces_1 : List UInt8 := [180, 1, 42, 45, 180, 1, 42, 101, 183, 0, 182, 58, 5, 43, 25, 5, 3, 182, 1, 45, 58, 6, 25, 6]
abbrev dktX0_addPieces_1 : List UInt8 := dkwX0_addPieces_1 ++ dktX0_addPieces_2
def dkwX0_addPieces_0 : List UInt8 := [44, 45, 182, 1, 33, 153, 0, 4, 177, 187, 0, 177, 89, 45, 180, 1, 39, 44, 180, 1, 39, 101, 44]
abbrev dktX0_addPieces_0 : List UInt8 := dkwX0_addPieces_0 ++ dktX0_addPieces_1
theorem dksX0_addPieces_0 : cX0_addPieces.data.toList.drop 0 = dktX0_addPieces_0 := by decide +kernel
theorem dksX0_addPieces_1 : cX0_addPieces.data.toList.drop 23 = dktX0_addPieces_1 := dk_seg dksX0_addPieces_0 23 rfl rfl
theorem dksX0_addPieces_2 : cX0_addPieces.data.toList.drop 47 = dktX0_addPieces_2 := dk_seg dksX0_addPieces_1 24 rfl rfl
theorem dksX0_addPieces_3 : cX0_addPieces.data.toList.drop 71 = dktX0_addPieces_3 := dk_seg dksX0_addPieces_2 24 rfl rfl
theorem dksX0_addPieces_4 : cX0_addPieces.data.toList.drop 95 = dktX0_addPieces_4 := dk_seg dksX0_addPieces_3 24 rfl rfl
theorem dX0_addPieces_0 : decode cX0_addPieces 0 = .ok (.aload_n 2, 1) := dk_44 (dk_at dksX0_addPieces_0 0 rfl rfl)
theorem dX0_addPieces_1 : decode cX0_addPieces 1 = .ok (.aload_n 3, 1) := dk_45 (dk_at dksX0_addPieces_0 1 rfl rfl)
theorem dX0_addPieces_2 : decode cX0_addPieces 2 = .ok (.invokevirtual 289, 3) := dk_182 1 33 (dk_at dksX0_addPieces_0 2 rfl rfl)
theorem dX0_addPieces_5 : decode cX0_addPieces 5 = .ok (.ifCond .eq 4, 3) := dk_153 0 4 (dk_at dksX0_addPieces_0 5 rfl rfl)
theorem dX0_addPieces_8 : decode cX0_addPieces 8 = .ok (.return_, 1) := dk_177 (dk_at dksX0_addPieces_0 8 rfl rfl)
theorem dX0_addPieces_9 : decode cX0_addPieces 9 = .ok (.new 177, 3) := dk_187 0 177 (dk_at dksX0_addPieces_0 9 rfl rfl)
theorem dX0_addPieces_12 : decode cX0_addPieces 12 = .ok (.dup, 1) := dk_89 (dk_at dksX0_addPieces_0 12 rfl rfl)
theorem dX0_addPieces_13 : decode cX0_addPieces 13 = .ok (.aload_n 3, 1) := dk_45 (dk_at dksX0_addPieces_0 13 rfl rfl)
theorem dX0_addPieces_14 : decode cX0_addPieces 14 = .ok (.getfield 295, 3) := dk_180 1 39 (dk_at dksX0_addPieces_0 14 rfl rfl)
theorem dX0_addPieces_17 : decode cX0_addPieces 17 = .ok (.aload_n 2, 1) := dk_44 (dk_at dksX0_addPieces_0 17 rfl rfl)
theorem dX0_addPieces_18 : decode cX0_addPieces 18 = .ok (.getfield 295, 3) := dk_180 1 39 (dk_at dksX0_addPieces_0 18 rfl rfl)
theorem dX0_addPieces_21 : decode cX0_addPieces 21 = .ok (.lsub, 1) := dk_101 (dk_at dksX0_addPieces_0 21 rfl rfl)
theorem dX0_addPieces_22 : decode cX0_addPieces 22 = .ok (.aload_n 2, 1) := dk_44 (dk_at dksX0_addPieces_0 22 rfl rfl)
theorem dX0_addPieces_23 : decode cX0_addPieces 23 = .ok (.getfield 298, 3) := dk_180 1 42 (dk_at dksX0_addPieces_1 0 rfl rfl)
theorem dX0_addPieces_26 : decode cX0_addPieces 26 = .ok (.aload_n 3, 1) := dk_45 (dk_at dksX0_addPieces_1 3 rfl rfl)
theorem dX0_addPieces_27 : decode cX0_addPieces 27 = .ok (.getfield 298, 3) := dk_180 1 42 (dk_at dksX0_addPieces_1 4 rfl rfl)
theorem dX0_addPieces_30 : decode cX0_addPieces 30 = .ok (.lsub, 1) := dk_101 (dk_at dksX0_addPieces_1 7 rfl rfl)
theorem dX0_addPieces_31 : decode cX0_addPieces 31 = .ok (.invokespecial 182, 3) := dk_183 0 182 (dk_at dksX0_addPieces_1 8 rfl rfl)
theorem dX0_addPieces_34 : decode cX0_addPieces 34 = .ok (.astore 5, 2) := dk_58 5 (dk_at dksX0_addPieces_1 11 rfl rfl)
theorem dX0_addPieces_36 : decode cX0_addPieces 36 = .ok (.aload_n 1, 1) := dk_43 (dk_at dksX0_addPieces_1 13 rfl rfl)
theorem dX0_addPieces_37 : decode cX0_addPieces 37 = .ok (.aload 5, 2) := dk_25 5 (dk_at dksX0_addPieces_1 14 rfl rfl)
theorem dX0_addPieces_39 : decode cX0_addPieces 39 = .ok (.iconst 0, 1) := dk_3 (dk_at dksX0_addPieces_1 16 rfl rfl)
theorem dX0_addPieces_40 : decode cX0_addPieces 40 = .ok (.invokevirtual 301, 3) := dk_182 1 45 (dk_at dksX0_addPieces_1 17 rfl rfl)
theorem dX0_addPieces_43 : decode cX0_addPieces 43 = .ok (.astore 6, 2) := dk_58 6 (dk_at dksX0_addPieces_1 20 rfl rfl)
theorem dX0_addPieces_45 : decode cX0_addPieces 45 = .ok (.aload 6, 2) := dk_25 6 (dk_at dksX0_addPieces_1 22 rfl rfl)
theorem dX0_addPieces_47 : decode cX0_addPieces 47 = .ok (.aload 5, 2) := dk_25 5 (dk_at dksX0_addPieces_2 0 rfl rfl)
theorem dX0_addPieces_49 : decode cX0_addPieces 49 = .ok (.invokevirtual 304, 3) := dk_182 1 48 (dk_at dksX0_addPieces_2 2 rfl rfl)
theorem dX0_addPieces_52 : decode cX0_addPieces 52 = .ok (.aload_n 2, 1) := dk_44 (dk_at dksX0_addPieces_2 5 rfl rfl)
theorem dX0_addPieces_53 : decode cX0_addPieces 53 = .ok (.aload 5, 2) := dk_25 5 (dk_at dksX0_addPieces_2 6 rfl rfl)
theorem dX0_addPieces_55 : decode cX0_addPieces 55 = .ok (.invokevirtual 304, 3) := dk_182 1 48 (dk_at dksX0_addPieces_2 8 rfl rfl)
theorem dX0_addPieces_58 : decode cX0_addPieces 58 = .ok (.lcmp, 1) := dk_148 (dk_at dksX0_addPieces_2 11 rfl rfl)
theorem dX0_addPieces_59 : decode cX0_addPieces 59 = .ok (.ifCond .ne 22, 3) := dk_154 0 22 (dk_at dksX0_addPieces_2 12 rfl rfl)
theorem dX0_addPieces_62 : decode cX0_addPieces 62 = .ok (.aload 4, 2) := dk_25 4 (dk_at dksX0_addPieces_2 15 rfl rfl)
theorem dX0_addPieces_64 : decode cX0_addPieces 64 = .ok (.new 306, 3) := dk_187 1 50 (dk_at dksX0_addPieces_2 17 rfl rfl)
theorem dX0_addPieces_67 : decode cX0_addPieces 67 = .ok (.dup, 1) := dk_89 (dk_at dksX0_addPieces_2 20 rfl rfl)
theorem dX0_addPieces_68 : decode cX0_addPieces 68 = .ok (.aload_n 3, 1) := dk_45 (dk_at dksX0_addPieces_2 21 rfl rfl)
theorem dX0_addPieces_69 : decode cX0_addPieces 69 = .ok (.aload 5, 2) := dk_25 5 (dk_at dksX0_addPieces_2 22 rfl rfl)
theorem dX0_addPieces_71 : decode cX0_addPieces 71 = .ok (.invokespecial 308, 3) := dk_183 1 52 (dk_at dksX0_addPieces_3 0 rfl rfl)
theorem dX0_addPieces_74 : decode cX0_addPieces 74 = .ok (.invokevirtual 73, 3) := dk_182 0 73 (dk_at dksX0_addPieces_3 3 rfl rfl)
theorem dX0_addPieces_77 : decode cX0_addPieces 77 = .ok (.pop, 1) := dk_87 (dk_at dksX0_addPieces_3 6 rfl rfl)
theorem dX0_addPieces_78 : decode cX0_addPieces 78 = .ok (.goto 23, 3) := dk_167 0 23 (dk_at dksX0_addPieces_3 7 rfl rfl)
theorem dX0_addPieces_81 : decode cX0_addPieces 81 = .ok (.aload_n 0, 1) := dk_42 (dk_at dksX0_addPieces_3 10 rfl rfl)
theorem dX0_addPieces_82 : decode cX0_addPieces 82 = .ok (.aload_n 1, 1) := dk_43 (dk_at dksX0_addPieces_3 11 rfl rfl)
theorem dX0_addPieces_83 : decode cX0_addPieces 83 = .ok (.aload_n 2, 1) := dk_44 (dk_at dksX0_addPieces_3 12 rfl rfl)
theorem dX0_addPieces_84 : decode cX0_addPieces 84 = .ok (.aload 6, 2) := dk_25 6 (dk_at dksX0_addPieces_3 13 rfl rfl)
theorem dX0_addPieces_86 : decode cX0_addPieces 86 = .ok (.aload 4, 2) := dk_25 4 (dk_at dksX0_addPieces_3 15 rfl rfl)
theorem dX0_addPieces_88 : decode cX0_addPieces 88 = .ok (.invokevirtual 311, 3) := dk_182 1 55 (dk_at dksX0_addPieces_3 17 rfl rfl)
theorem dX0_addPieces_91 : decode cX0_addPieces 91 = .ok (.aload_n 0, 1) := dk_42 (dk_at dksX0_addPieces_3 20 rfl rfl)
theorem dX0_addPieces_92 : decode cX0_addPieces 92 = .ok (.aload_n 1, 1) := dk_43 (dk_at dksX0_addPieces_3 21 rfl rfl)
theorem dX0_addPieces_93 : decode cX0_addPieces 93 = .ok (.aload 6, 2) := dk_25 6 (dk_at dksX0_addPieces_3 22 rfl rfl)
theorem dX0_addPieces_95 : decode cX0_addPieces 95 = .ok (.aload_n 3, 1) := dk_45 (dk_at dksX0_addPieces_4 0 rfl rfl)
theorem dX0_addPieces_96 : decode cX0_addPieces 96 = .ok (.aload 4, 2) := dk_25 4 (dk_at dksX0_addPieces_4 1 rfl rfl)
theorem dX0_addPieces_98 : decode cX0_addPieces 98 = .ok (.invokevirtual 311, 3) := dk_182 1 55 (dk_at dksX0_addPieces_4 3 rfl rfl)
theorem dX0_addPieces_101 : decode cX0_addPieces 101 = .ok (.return_, 1) := dk_177 (dk_at dksX0_addPieces_4 6 rfl rfl)
abbrev cX0_piece : ByteArray := prog_1_method_35_code
def yX0_piece : MethodName := ⟨RX0, "piece", "(II)J"⟩
def dkwX0_piece_2 : List UInt8 := [182, 0, 85, 192, 1, 50, 28, 182, 1, 75, 167, 0, 6, 20, 0, 251, 173]
abbrev dktX0_piece_2 : List UInt8 := dkwX0_piece_2 ++ []
def dkwX0_piece_1 : List UInt8 := [199, 0, 7, 20, 0, 241, 173, 27, 42, 180, 1, 70, 182, 0, 54, 162, 0, 21, 42, 180, 1, 70, 27]
abbrev dktX0_piece_1 : List UInt8 := dkwX0_piece_1 ++ dktX0_piece_2
def dkwX0_piece_0 : List UInt8 := [27, 155, 0, 15, 28, 133, 9, 20, 1, 73, 184, 0, 5, 154, 0, 7, 20, 0, 239, 173, 42, 180, 1, 70]
abbrev dktX0_piece_0 : List UInt8 := dkwX0_piece_0 ++ dktX0_piece_1
theorem dksX0_piece_0 : cX0_piece.data.toList.drop 0 = dktX0_piece_0 := by decide +kernel
theorem dksX0_piece_1 : cX0_piece.data.toList.drop 24 = dktX0_piece_1 := dk_seg dksX0_piece_0 24 rfl rfl
theorem dksX0_piece_2 : cX0_piece.data.toList.drop 47 = dktX0_piece_2 := dk_seg dksX0_piece_1 23 rfl rfl
theorem dX0_piece_0 : decode cX0_piece 0 = .ok (.iload_n 1, 1) := dk_27 (dk_at dksX0_piece_0 0 rfl rfl)
theorem dX0_piece_1 : decode cX0_piece 1 = .ok (.ifCond .lt 15, 3) := dk_155 0 15 (dk_at dksX0_piece_0 1 rfl rfl)
theorem dX0_piece_4 : decode cX0_piece 4 = .ok (.iload_n 2, 1) := dk_28 (dk_at dksX0_piece_0 4 rfl rfl)
theorem dX0_piece_5 : decode cX0_piece 5 = .ok (.i2l, 1) := dk_133 (dk_at dksX0_piece_0 5 rfl rfl)
theorem dX0_piece_6 : decode cX0_piece 6 = .ok (.lconst 0, 1) := dk_9 (dk_at dksX0_piece_0 6 rfl rfl)
theorem dX0_piece_7 : decode cX0_piece 7 = .ok (.ldc2_w 329, 3) := dk_20 1 73 (dk_at dksX0_piece_0 7 rfl rfl)
theorem dX0_piece_10 : decode cX0_piece 10 = .ok (.invokestatic 5, 3) := dk_184 0 5 (dk_at dksX0_piece_0 10 rfl rfl)
theorem dX0_piece_13 : decode cX0_piece 13 = .ok (.ifCond .ne 7, 3) := dk_154 0 7 (dk_at dksX0_piece_0 13 rfl rfl)
theorem dX0_piece_16 : decode cX0_piece 16 = .ok (.ldc2_w 239, 3) := dk_20 0 239 (dk_at dksX0_piece_0 16 rfl rfl)
theorem dX0_piece_19 : decode cX0_piece 19 = .ok (.lreturn, 1) := dk_173 (dk_at dksX0_piece_0 19 rfl rfl)
theorem dX0_piece_20 : decode cX0_piece 20 = .ok (.aload_n 0, 1) := dk_42 (dk_at dksX0_piece_0 20 rfl rfl)
theorem dX0_piece_21 : decode cX0_piece 21 = .ok (.getfield 326, 3) := dk_180 1 70 (dk_at dksX0_piece_0 21 rfl rfl)
theorem dX0_piece_24 : decode cX0_piece 24 = .ok (.ifnonnull 7, 3) := dk_199 0 7 (dk_at dksX0_piece_1 0 rfl rfl)
theorem dX0_piece_27 : decode cX0_piece 27 = .ok (.ldc2_w 241, 3) := dk_20 0 241 (dk_at dksX0_piece_1 3 rfl rfl)
theorem dX0_piece_30 : decode cX0_piece 30 = .ok (.lreturn, 1) := dk_173 (dk_at dksX0_piece_1 6 rfl rfl)
theorem dX0_piece_31 : decode cX0_piece 31 = .ok (.iload_n 1, 1) := dk_27 (dk_at dksX0_piece_1 7 rfl rfl)
theorem dX0_piece_32 : decode cX0_piece 32 = .ok (.aload_n 0, 1) := dk_42 (dk_at dksX0_piece_1 8 rfl rfl)
theorem dX0_piece_33 : decode cX0_piece 33 = .ok (.getfield 326, 3) := dk_180 1 70 (dk_at dksX0_piece_1 9 rfl rfl)
theorem dX0_piece_36 : decode cX0_piece 36 = .ok (.invokevirtual 54, 3) := dk_182 0 54 (dk_at dksX0_piece_1 12 rfl rfl)
theorem dX0_piece_39 : decode cX0_piece 39 = .ok (.if_icmp .ge 21, 3) := dk_162 0 21 (dk_at dksX0_piece_1 15 rfl rfl)
theorem dX0_piece_42 : decode cX0_piece 42 = .ok (.aload_n 0, 1) := dk_42 (dk_at dksX0_piece_1 18 rfl rfl)
theorem dX0_piece_43 : decode cX0_piece 43 = .ok (.getfield 326, 3) := dk_180 1 70 (dk_at dksX0_piece_1 19 rfl rfl)
theorem dX0_piece_46 : decode cX0_piece 46 = .ok (.iload_n 1, 1) := dk_27 (dk_at dksX0_piece_1 22 rfl rfl)
theorem dX0_piece_47 : decode cX0_piece 47 = .ok (.invokevirtual 85, 3) := dk_182 0 85 (dk_at dksX0_piece_2 0 rfl rfl)
theorem dX0_piece_50 : decode cX0_piece 50 = .ok (.checkcast 306, 3) := dk_192 1 50 (dk_at dksX0_piece_2 3 rfl rfl)
theorem dX0_piece_53 : decode cX0_piece 53 = .ok (.iload_n 2, 1) := dk_28 (dk_at dksX0_piece_2 6 rfl rfl)
theorem dX0_piece_54 : decode cX0_piece 54 = .ok (.invokevirtual 331, 3) := dk_182 1 75 (dk_at dksX0_piece_2 7 rfl rfl)
theorem dX0_piece_57 : decode cX0_piece 57 = .ok (.goto 6, 3) := dk_167 0 6 (dk_at dksX0_piece_2 10 rfl rfl)
theorem dX0_piece_60 : decode cX0_piece 60 = .ok (.ldc2_w 251, 3) := dk_20 0 251 (dk_at dksX0_piece_2 13 rfl rfl)
theorem dX0_piece_63 : decode cX0_piece 63 = .ok (.lreturn, 1) := dk_173 (dk_at dksX0_piece_2 16 rfl rfl)
abbrev cX0_feasible : ByteArray := prog_1_method_36_code
def yX0_feasible : MethodName := ⟨RX0, "feasible", "(I)J"⟩
def dkwX0_feasible_3 : List UInt8 := [167, 0, 7, 45, 180, 0, 248, 173]
abbrev dktX0_feasible_3 : List UInt8 := dkwX0_feasible_3 ++ []
def dkwX0_feasible_2 : List UInt8 := [44, 180, 1, 84, 78, 45, 199, 0, 7, 20, 0, 251, 173, 27, 5, 112, 154, 0, 10, 45, 180, 0, 244]
abbrev dktX0_feasible_2 : List UInt8 := dkwX0_feasible_2 ++ dktX0_feasible_3
def dkwX0_feasible_1 : List UInt8 := [77, 44, 182, 1, 81, 153, 0, 7, 20, 0, 241, 173, 27, 5, 162, 0, 10, 44, 180, 1, 82, 167, 0, 7]
abbrev dktX0_feasible_1 : List UInt8 := dkwX0_feasible_1 ++ dktX0_feasible_2
def dkwX0_feasible_0 : List UInt8 := [27, 133, 9, 20, 1, 73, 184, 0, 5, 154, 0, 7, 20, 0, 239, 173, 187, 1, 78, 89, 42, 183, 1, 80]
abbrev dktX0_feasible_0 : List UInt8 := dkwX0_feasible_0 ++ dktX0_feasible_1
theorem dksX0_feasible_0 : cX0_feasible.data.toList.drop 0 = dktX0_feasible_0 := by decide +kernel
theorem dksX0_feasible_1 : cX0_feasible.data.toList.drop 24 = dktX0_feasible_1 := dk_seg dksX0_feasible_0 24 rfl rfl
theorem dksX0_feasible_2 : cX0_feasible.data.toList.drop 48 = dktX0_feasible_2 := dk_seg dksX0_feasible_1 24 rfl rfl
theorem dksX0_feasible_3 : cX0_feasible.data.toList.drop 71 = dktX0_feasible_3 := dk_seg dksX0_feasible_2 23 rfl rfl
theorem dX0_feasible_0 : decode cX0_feasible 0 = .ok (.iload_n 1, 1) := dk_27 (dk_at dksX0_feasible_0 0 rfl rfl)
theorem dX0_feasible_1 : decode cX0_feasible 1 = .ok (.i2l, 1) := dk_133 (dk_at dksX0_feasible_0 1 rfl rfl)
theorem dX0_feasible_2 : decode cX0_feasible 2 = .ok (.lconst 0, 1) := dk_9 (dk_at dksX0_feasible_0 2 rfl rfl)
theorem dX0_feasible_3 : decode cX0_feasible 3 = .ok (.ldc2_w 329, 3) := dk_20 1 73 (dk_at dksX0_feasible_0 3 rfl rfl)
theorem dX0_feasible_6 : decode cX0_feasible 6 = .ok (.invokestatic 5, 3) := dk_184 0 5 (dk_at dksX0_feasible_0 6 rfl rfl)
theorem dX0_feasible_9 : decode cX0_feasible 9 = .ok (.ifCond .ne 7, 3) := dk_154 0 7 (dk_at dksX0_feasible_0 9 rfl rfl)
theorem dX0_feasible_12 : decode cX0_feasible 12 = .ok (.ldc2_w 239, 3) := dk_20 0 239 (dk_at dksX0_feasible_0 12 rfl rfl)
theorem dX0_feasible_15 : decode cX0_feasible 15 = .ok (.lreturn, 1) := dk_173 (dk_at dksX0_feasible_0 15 rfl rfl)
theorem dX0_feasible_16 : decode cX0_feasible 16 = .ok (.new 334, 3) := dk_187 1 78 (dk_at dksX0_feasible_0 16 rfl rfl)
theorem dX0_feasible_19 : decode cX0_feasible 19 = .ok (.dup, 1) := dk_89 (dk_at dksX0_feasible_0 19 rfl rfl)
theorem dX0_feasible_20 : decode cX0_feasible 20 = .ok (.aload_n 0, 1) := dk_42 (dk_at dksX0_feasible_0 20 rfl rfl)
theorem dX0_feasible_21 : decode cX0_feasible 21 = .ok (.invokespecial 336, 3) := dk_183 1 80 (dk_at dksX0_feasible_0 21 rfl rfl)
theorem dX0_feasible_24 : decode cX0_feasible 24 = .ok (.astore_n 2, 1) := dk_77 (dk_at dksX0_feasible_1 0 rfl rfl)
theorem dX0_feasible_25 : decode cX0_feasible 25 = .ok (.aload_n 2, 1) := dk_44 (dk_at dksX0_feasible_1 1 rfl rfl)
theorem dX0_feasible_26 : decode cX0_feasible 26 = .ok (.invokevirtual 337, 3) := dk_182 1 81 (dk_at dksX0_feasible_1 2 rfl rfl)
theorem dX0_feasible_29 : decode cX0_feasible 29 = .ok (.ifCond .eq 7, 3) := dk_153 0 7 (dk_at dksX0_feasible_1 5 rfl rfl)
theorem dX0_feasible_32 : decode cX0_feasible 32 = .ok (.ldc2_w 241, 3) := dk_20 0 241 (dk_at dksX0_feasible_1 8 rfl rfl)
theorem dX0_feasible_35 : decode cX0_feasible 35 = .ok (.lreturn, 1) := dk_173 (dk_at dksX0_feasible_1 11 rfl rfl)
theorem dX0_feasible_36 : decode cX0_feasible 36 = .ok (.iload_n 1, 1) := dk_27 (dk_at dksX0_feasible_1 12 rfl rfl)
theorem dX0_feasible_37 : decode cX0_feasible 37 = .ok (.iconst 2, 1) := dk_5 (dk_at dksX0_feasible_1 13 rfl rfl)
theorem dX0_feasible_38 : decode cX0_feasible 38 = .ok (.if_icmp .ge 10, 3) := dk_162 0 10 (dk_at dksX0_feasible_1 14 rfl rfl)
theorem dX0_feasible_41 : decode cX0_feasible 41 = .ok (.aload_n 2, 1) := dk_44 (dk_at dksX0_feasible_1 17 rfl rfl)
theorem dX0_feasible_42 : decode cX0_feasible 42 = .ok (.getfield 338, 3) := dk_180 1 82 (dk_at dksX0_feasible_1 18 rfl rfl)
theorem dX0_feasible_45 : decode cX0_feasible 45 = .ok (.goto 7, 3) := dk_167 0 7 (dk_at dksX0_feasible_1 21 rfl rfl)
theorem dX0_feasible_48 : decode cX0_feasible 48 = .ok (.aload_n 2, 1) := dk_44 (dk_at dksX0_feasible_2 0 rfl rfl)
theorem dX0_feasible_49 : decode cX0_feasible 49 = .ok (.getfield 340, 3) := dk_180 1 84 (dk_at dksX0_feasible_2 1 rfl rfl)
theorem dX0_feasible_52 : decode cX0_feasible 52 = .ok (.astore_n 3, 1) := dk_78 (dk_at dksX0_feasible_2 4 rfl rfl)
theorem dX0_feasible_53 : decode cX0_feasible 53 = .ok (.aload_n 3, 1) := dk_45 (dk_at dksX0_feasible_2 5 rfl rfl)
theorem dX0_feasible_54 : decode cX0_feasible 54 = .ok (.ifnonnull 7, 3) := dk_199 0 7 (dk_at dksX0_feasible_2 6 rfl rfl)
theorem dX0_feasible_57 : decode cX0_feasible 57 = .ok (.ldc2_w 251, 3) := dk_20 0 251 (dk_at dksX0_feasible_2 9 rfl rfl)
theorem dX0_feasible_60 : decode cX0_feasible 60 = .ok (.lreturn, 1) := dk_173 (dk_at dksX0_feasible_2 12 rfl rfl)
theorem dX0_feasible_61 : decode cX0_feasible 61 = .ok (.iload_n 1, 1) := dk_27 (dk_at dksX0_feasible_2 13 rfl rfl)
theorem dX0_feasible_62 : decode cX0_feasible 62 = .ok (.iconst 2, 1) := dk_5 (dk_at dksX0_feasible_2 14 rfl rfl)
theorem dX0_feasible_63 : decode cX0_feasible 63 = .ok (.irem, 1) := dk_112 (dk_at dksX0_feasible_2 15 rfl rfl)
theorem dX0_feasible_64 : decode cX0_feasible 64 = .ok (.ifCond .ne 10, 3) := dk_154 0 10 (dk_at dksX0_feasible_2 16 rfl rfl)
theorem dX0_feasible_67 : decode cX0_feasible 67 = .ok (.aload_n 3, 1) := dk_45 (dk_at dksX0_feasible_2 19 rfl rfl)
theorem dX0_feasible_68 : decode cX0_feasible 68 = .ok (.getfield 244, 3) := dk_180 0 244 (dk_at dksX0_feasible_2 20 rfl rfl)
theorem dX0_feasible_71 : decode cX0_feasible 71 = .ok (.goto 7, 3) := dk_167 0 7 (dk_at dksX0_feasible_3 0 rfl rfl)
theorem dX0_feasible_74 : decode cX0_feasible 74 = .ok (.aload_n 3, 1) := dk_45 (dk_at dksX0_feasible_3 3 rfl rfl)
theorem dX0_feasible_75 : decode cX0_feasible 75 = .ok (.getfield 248, 3) := dk_180 0 248 (dk_at dksX0_feasible_3 4 rfl rfl)
theorem dX0_feasible_78 : decode cX0_feasible 78 = .ok (.lreturn, 1) := dk_173 (dk_at dksX0_feasible_3 7 rfl rfl)
abbrev cX0_convert : ByteArray := prog_1_method_37_code
def yX0_convert : MethodName := ⟨RX0, "convert", "(II)I"⟩
def dkwX0_convert_2 : List UInt8 := [167, 0, 16, 187, 1, 90, 89, 42, 28, 183, 1, 92, 27, 182, 1, 95, 182, 0, 217, 172]
abbrev dktX0_convert_2 : List UInt8 := dkwX0_convert_2 ++ []
def dkwX0_convert_1 : List UInt8 := [160, 0, 25, 187, 0, 150, 89, 3, 188, 10, 3, 187, 0, 177, 89, 10, 183, 1, 65, 183, 1, 87]
abbrev dktX0_convert_1 : List UInt8 := dkwX0_convert_1 ++ dktX0_convert_2
def dkwX0_convert_0 : List UInt8 := [5, 188, 10, 89, 3, 27, 79, 89, 4, 28, 79, 184, 0, 55, 154, 0, 6, 18, 65, 172, 42, 27, 28]
abbrev dktX0_convert_0 : List UInt8 := dkwX0_convert_0 ++ dktX0_convert_1
theorem dksX0_convert_0 : cX0_convert.data.toList.drop 0 = dktX0_convert_0 := by decide +kernel
theorem dksX0_convert_1 : cX0_convert.data.toList.drop 23 = dktX0_convert_1 := dk_seg dksX0_convert_0 23 rfl rfl
theorem dksX0_convert_2 : cX0_convert.data.toList.drop 45 = dktX0_convert_2 := dk_seg dksX0_convert_1 22 rfl rfl
theorem dX0_convert_0 : decode cX0_convert 0 = .ok (.iconst 2, 1) := dk_5 (dk_at dksX0_convert_0 0 rfl rfl)
theorem dX0_convert_1 : decode cX0_convert 1 = .ok (.newarray .int, 2) := dk_188_10 (dk_at dksX0_convert_0 1 rfl rfl)
theorem dX0_convert_3 : decode cX0_convert 3 = .ok (.dup, 1) := dk_89 (dk_at dksX0_convert_0 3 rfl rfl)
theorem dX0_convert_4 : decode cX0_convert 4 = .ok (.iconst 0, 1) := dk_3 (dk_at dksX0_convert_0 4 rfl rfl)
theorem dX0_convert_5 : decode cX0_convert 5 = .ok (.iload_n 1, 1) := dk_27 (dk_at dksX0_convert_0 5 rfl rfl)
theorem dX0_convert_6 : decode cX0_convert 6 = .ok (.iastore, 1) := dk_79 (dk_at dksX0_convert_0 6 rfl rfl)
theorem dX0_convert_7 : decode cX0_convert 7 = .ok (.dup, 1) := dk_89 (dk_at dksX0_convert_0 7 rfl rfl)
theorem dX0_convert_8 : decode cX0_convert 8 = .ok (.iconst 1, 1) := dk_4 (dk_at dksX0_convert_0 8 rfl rfl)
theorem dX0_convert_9 : decode cX0_convert 9 = .ok (.iload_n 2, 1) := dk_28 (dk_at dksX0_convert_0 9 rfl rfl)
theorem dX0_convert_10 : decode cX0_convert 10 = .ok (.iastore, 1) := dk_79 (dk_at dksX0_convert_0 10 rfl rfl)
theorem dX0_convert_11 : decode cX0_convert 11 = .ok (.invokestatic 55, 3) := dk_184 0 55 (dk_at dksX0_convert_0 11 rfl rfl)
theorem dX0_convert_14 : decode cX0_convert 14 = .ok (.ifCond .ne 6, 3) := dk_154 0 6 (dk_at dksX0_convert_0 14 rfl rfl)
theorem dX0_convert_17 : decode cX0_convert 17 = .ok (.ldc 65, 2) := dk_18 65 (dk_at dksX0_convert_0 17 rfl rfl)
theorem dX0_convert_19 : decode cX0_convert 19 = .ok (.ireturn, 1) := dk_172 (dk_at dksX0_convert_0 19 rfl rfl)
theorem dX0_convert_20 : decode cX0_convert 20 = .ok (.aload_n 0, 1) := dk_42 (dk_at dksX0_convert_0 20 rfl rfl)
theorem dX0_convert_21 : decode cX0_convert 21 = .ok (.iload_n 1, 1) := dk_27 (dk_at dksX0_convert_0 21 rfl rfl)
theorem dX0_convert_22 : decode cX0_convert 22 = .ok (.iload_n 2, 1) := dk_28 (dk_at dksX0_convert_0 22 rfl rfl)
theorem dX0_convert_23 : decode cX0_convert 23 = .ok (.if_icmp .ne 25, 3) := dk_160 0 25 (dk_at dksX0_convert_1 0 rfl rfl)
theorem dX0_convert_26 : decode cX0_convert 26 = .ok (.new 150, 3) := dk_187 0 150 (dk_at dksX0_convert_1 3 rfl rfl)
theorem dX0_convert_29 : decode cX0_convert 29 = .ok (.dup, 1) := dk_89 (dk_at dksX0_convert_1 6 rfl rfl)
theorem dX0_convert_30 : decode cX0_convert 30 = .ok (.iconst 0, 1) := dk_3 (dk_at dksX0_convert_1 7 rfl rfl)
theorem dX0_convert_31 : decode cX0_convert 31 = .ok (.newarray .int, 2) := dk_188_10 (dk_at dksX0_convert_1 8 rfl rfl)
theorem dX0_convert_33 : decode cX0_convert 33 = .ok (.iconst 0, 1) := dk_3 (dk_at dksX0_convert_1 10 rfl rfl)
theorem dX0_convert_34 : decode cX0_convert 34 = .ok (.new 177, 3) := dk_187 0 177 (dk_at dksX0_convert_1 11 rfl rfl)
theorem dX0_convert_37 : decode cX0_convert 37 = .ok (.dup, 1) := dk_89 (dk_at dksX0_convert_1 14 rfl rfl)
theorem dX0_convert_38 : decode cX0_convert 38 = .ok (.lconst 1, 1) := dk_10 (dk_at dksX0_convert_1 15 rfl rfl)
theorem dX0_convert_39 : decode cX0_convert 39 = .ok (.invokespecial 321, 3) := dk_183 1 65 (dk_at dksX0_convert_1 16 rfl rfl)
theorem dX0_convert_42 : decode cX0_convert 42 = .ok (.invokespecial 343, 3) := dk_183 1 87 (dk_at dksX0_convert_1 19 rfl rfl)
theorem dX0_convert_45 : decode cX0_convert 45 = .ok (.goto 16, 3) := dk_167 0 16 (dk_at dksX0_convert_2 0 rfl rfl)
theorem dX0_convert_48 : decode cX0_convert 48 = .ok (.new 346, 3) := dk_187 1 90 (dk_at dksX0_convert_2 3 rfl rfl)
theorem dX0_convert_51 : decode cX0_convert 51 = .ok (.dup, 1) := dk_89 (dk_at dksX0_convert_2 6 rfl rfl)
theorem dX0_convert_52 : decode cX0_convert 52 = .ok (.aload_n 0, 1) := dk_42 (dk_at dksX0_convert_2 7 rfl rfl)
theorem dX0_convert_53 : decode cX0_convert 53 = .ok (.iload_n 2, 1) := dk_28 (dk_at dksX0_convert_2 8 rfl rfl)
theorem dX0_convert_54 : decode cX0_convert 54 = .ok (.invokespecial 348, 3) := dk_183 1 92 (dk_at dksX0_convert_2 9 rfl rfl)
theorem dX0_convert_57 : decode cX0_convert 57 = .ok (.iload_n 1, 1) := dk_27 (dk_at dksX0_convert_2 12 rfl rfl)
theorem dX0_convert_58 : decode cX0_convert 58 = .ok (.invokevirtual 351, 3) := dk_182 1 95 (dk_at dksX0_convert_2 13 rfl rfl)
theorem dX0_convert_61 : decode cX0_convert 61 = .ok (.invokevirtual 217, 3) := dk_182 0 217 (dk_at dksX0_convert_2 16 rfl rfl)
theorem dX0_convert_64 : decode cX0_convert 64 = .ok (.ireturn, 1) := dk_172 (dk_at dksX0_convert_2 19 rfl rfl)
abbrev cX0_count : ByteArray := prog_1_method_40_code
def yX0_count : MethodName := ⟨RX0, "count", "(I)I"⟩
def dkwX0_count_4 : List UInt8 := [182, 0, 54, 172, 18, 65, 172]
abbrev dktX0_count_4 : List UInt8 := dkwX0_count_4 ++ []
def dkwX0_count_3 : List UInt8 := [182, 1, 103, 172, 42, 182, 1, 106, 172, 42, 180, 1, 70, 199, 0, 7, 3, 167, 0, 10, 42, 180, 1, 70]
abbrev dktX0_count_3 : List UInt8 := dkwX0_count_3 ++ dktX0_count_4
def dkwX0_count_2 : List UInt8 := [42, 180, 0, 20, 182, 0, 54, 172, 42, 180, 0, 27, 182, 0, 46, 172, 42, 180, 0, 127, 172, 42]
abbrev dktX0_count_2 : List UInt8 := dkwX0_count_2 ++ dktX0_count_3
def dkwX0_count_1 : List UInt8 := [170, 0, 0, 0, 0, 0, 89, 0, 0, 0, 0, 0, 0, 0, 5, 0, 0, 0, 39, 0, 0, 0, 47, 0, 0, 0, 55, 0, 0, 0, 60, 0, 0, 0, 65, 0, 0, 0, 70]
abbrev dktX0_count_1 : List UInt8 := dkwX0_count_1 ++ dktX0_count_2
def dkwX0_count_0 : List UInt8 := [27]
abbrev dktX0_count_0 : List UInt8 := dkwX0_count_0 ++ dktX0_count_1
theorem dksX0_count_0 : cX0_count.data.toList.drop 0 = dktX0_count_0 := by decide +kernel
theorem dksX0_count_1 : cX0_count.data.toList.drop 1 = dktX0_count_1 := dk_seg dksX0_count_0 1 rfl rfl
theorem dksX0_count_2 : cX0_count.data.toList.drop 40 = dktX0_count_2 := dk_seg dksX0_count_1 39 rfl rfl
theorem dksX0_count_3 : cX0_count.data.toList.drop 62 = dktX0_count_3 := dk_seg dksX0_count_2 22 rfl rfl
theorem dksX0_count_4 : cX0_count.data.toList.drop 86 = dktX0_count_4 := dk_seg dksX0_count_3 24 rfl rfl
theorem dX0_count_0 : decode cX0_count 0 = .ok (.iload_n 1, 1) := dk_27 (dk_at dksX0_count_0 0 rfl rfl)
theorem dX0_count_1 : decode cX0_count 1 = .ok (.tableswitch 89 0 5 #[39, 47, 55, 60, 65, 70], 39) := by decide +kernel
theorem dX0_count_40 : decode cX0_count 40 = .ok (.aload_n 0, 1) := dk_42 (dk_at dksX0_count_2 0 rfl rfl)
theorem dX0_count_41 : decode cX0_count 41 = .ok (.getfield 20, 3) := dk_180 0 20 (dk_at dksX0_count_2 1 rfl rfl)
theorem dX0_count_44 : decode cX0_count 44 = .ok (.invokevirtual 54, 3) := dk_182 0 54 (dk_at dksX0_count_2 4 rfl rfl)
theorem dX0_count_47 : decode cX0_count 47 = .ok (.ireturn, 1) := dk_172 (dk_at dksX0_count_2 7 rfl rfl)
theorem dX0_count_48 : decode cX0_count 48 = .ok (.aload_n 0, 1) := dk_42 (dk_at dksX0_count_2 8 rfl rfl)
theorem dX0_count_49 : decode cX0_count 49 = .ok (.getfield 27, 3) := dk_180 0 27 (dk_at dksX0_count_2 9 rfl rfl)
theorem dX0_count_52 : decode cX0_count 52 = .ok (.invokevirtual 46, 3) := dk_182 0 46 (dk_at dksX0_count_2 12 rfl rfl)
theorem dX0_count_55 : decode cX0_count 55 = .ok (.ireturn, 1) := dk_172 (dk_at dksX0_count_2 15 rfl rfl)
theorem dX0_count_56 : decode cX0_count 56 = .ok (.aload_n 0, 1) := dk_42 (dk_at dksX0_count_2 16 rfl rfl)
theorem dX0_count_57 : decode cX0_count 57 = .ok (.getfield 127, 3) := dk_180 0 127 (dk_at dksX0_count_2 17 rfl rfl)
theorem dX0_count_60 : decode cX0_count 60 = .ok (.ireturn, 1) := dk_172 (dk_at dksX0_count_2 20 rfl rfl)
theorem dX0_count_61 : decode cX0_count 61 = .ok (.aload_n 0, 1) := dk_42 (dk_at dksX0_count_2 21 rfl rfl)
theorem dX0_count_62 : decode cX0_count 62 = .ok (.invokevirtual 359, 3) := dk_182 1 103 (dk_at dksX0_count_3 0 rfl rfl)
theorem dX0_count_65 : decode cX0_count 65 = .ok (.ireturn, 1) := dk_172 (dk_at dksX0_count_3 3 rfl rfl)
theorem dX0_count_66 : decode cX0_count 66 = .ok (.aload_n 0, 1) := dk_42 (dk_at dksX0_count_3 4 rfl rfl)
theorem dX0_count_67 : decode cX0_count 67 = .ok (.invokevirtual 362, 3) := dk_182 1 106 (dk_at dksX0_count_3 5 rfl rfl)
theorem dX0_count_70 : decode cX0_count 70 = .ok (.ireturn, 1) := dk_172 (dk_at dksX0_count_3 8 rfl rfl)
theorem dX0_count_71 : decode cX0_count 71 = .ok (.aload_n 0, 1) := dk_42 (dk_at dksX0_count_3 9 rfl rfl)
theorem dX0_count_72 : decode cX0_count 72 = .ok (.getfield 326, 3) := dk_180 1 70 (dk_at dksX0_count_3 10 rfl rfl)
theorem dX0_count_75 : decode cX0_count 75 = .ok (.ifnonnull 7, 3) := dk_199 0 7 (dk_at dksX0_count_3 13 rfl rfl)
theorem dX0_count_78 : decode cX0_count 78 = .ok (.iconst 0, 1) := dk_3 (dk_at dksX0_count_3 16 rfl rfl)
theorem dX0_count_79 : decode cX0_count 79 = .ok (.goto 10, 3) := dk_167 0 10 (dk_at dksX0_count_3 17 rfl rfl)
theorem dX0_count_82 : decode cX0_count 82 = .ok (.aload_n 0, 1) := dk_42 (dk_at dksX0_count_3 20 rfl rfl)
theorem dX0_count_83 : decode cX0_count 83 = .ok (.getfield 326, 3) := dk_180 1 70 (dk_at dksX0_count_3 21 rfl rfl)
theorem dX0_count_86 : decode cX0_count 86 = .ok (.invokevirtual 54, 3) := dk_182 0 54 (dk_at dksX0_count_4 0 rfl rfl)
theorem dX0_count_89 : decode cX0_count 89 = .ok (.ireturn, 1) := dk_172 (dk_at dksX0_count_4 3 rfl rfl)
theorem dX0_count_90 : decode cX0_count 90 = .ok (.ldc 65, 2) := dk_18 65 (dk_at dksX0_count_4 4 rfl rfl)
theorem dX0_count_92 : decode cX0_count 92 = .ok (.ireturn, 1) := dk_172 (dk_at dksX0_count_4 6 rfl rfl)
abbrev cX0_weightSum : ByteArray := prog_1_method_38_code
def yX0_weightSum : MethodName := ⟨RX0, "weightSum", "()I"⟩
def dkwX0_weightSum_1 : List UInt8 := [192, 0, 60, 180, 0, 163, 96, 60, 132, 2, 1, 167, 255, 225, 27, 172]
abbrev dktX0_weightSum_1 : List UInt8 := dkwX0_weightSum_1 ++ []
def dkwX0_weightSum_0 : List UInt8 := [3, 60, 3, 61, 28, 42, 180, 0, 20, 182, 0, 54, 162, 0, 26, 27, 42, 180, 0, 20, 28, 182, 0, 85]
abbrev dktX0_weightSum_0 : List UInt8 := dkwX0_weightSum_0 ++ dktX0_weightSum_1
theorem dksX0_weightSum_0 : cX0_weightSum.data.toList.drop 0 = dktX0_weightSum_0 := by decide +kernel
theorem dksX0_weightSum_1 : cX0_weightSum.data.toList.drop 24 = dktX0_weightSum_1 := dk_seg dksX0_weightSum_0 24 rfl rfl
theorem dX0_weightSum_0 : decode cX0_weightSum 0 = .ok (.iconst 0, 1) := dk_3 (dk_at dksX0_weightSum_0 0 rfl rfl)
theorem dX0_weightSum_1 : decode cX0_weightSum 1 = .ok (.istore_n 1, 1) := dk_60 (dk_at dksX0_weightSum_0 1 rfl rfl)
theorem dX0_weightSum_2 : decode cX0_weightSum 2 = .ok (.iconst 0, 1) := dk_3 (dk_at dksX0_weightSum_0 2 rfl rfl)
theorem dX0_weightSum_3 : decode cX0_weightSum 3 = .ok (.istore_n 2, 1) := dk_61 (dk_at dksX0_weightSum_0 3 rfl rfl)
theorem dX0_weightSum_4 : decode cX0_weightSum 4 = .ok (.iload_n 2, 1) := dk_28 (dk_at dksX0_weightSum_0 4 rfl rfl)
theorem dX0_weightSum_5 : decode cX0_weightSum 5 = .ok (.aload_n 0, 1) := dk_42 (dk_at dksX0_weightSum_0 5 rfl rfl)
theorem dX0_weightSum_6 : decode cX0_weightSum 6 = .ok (.getfield 20, 3) := dk_180 0 20 (dk_at dksX0_weightSum_0 6 rfl rfl)
theorem dX0_weightSum_9 : decode cX0_weightSum 9 = .ok (.invokevirtual 54, 3) := dk_182 0 54 (dk_at dksX0_weightSum_0 9 rfl rfl)
theorem dX0_weightSum_12 : decode cX0_weightSum 12 = .ok (.if_icmp .ge 26, 3) := dk_162 0 26 (dk_at dksX0_weightSum_0 12 rfl rfl)
theorem dX0_weightSum_15 : decode cX0_weightSum 15 = .ok (.iload_n 1, 1) := dk_27 (dk_at dksX0_weightSum_0 15 rfl rfl)
theorem dX0_weightSum_16 : decode cX0_weightSum 16 = .ok (.aload_n 0, 1) := dk_42 (dk_at dksX0_weightSum_0 16 rfl rfl)
theorem dX0_weightSum_17 : decode cX0_weightSum 17 = .ok (.getfield 20, 3) := dk_180 0 20 (dk_at dksX0_weightSum_0 17 rfl rfl)
theorem dX0_weightSum_20 : decode cX0_weightSum 20 = .ok (.iload_n 2, 1) := dk_28 (dk_at dksX0_weightSum_0 20 rfl rfl)
theorem dX0_weightSum_21 : decode cX0_weightSum 21 = .ok (.invokevirtual 85, 3) := dk_182 0 85 (dk_at dksX0_weightSum_0 21 rfl rfl)
theorem dX0_weightSum_24 : decode cX0_weightSum 24 = .ok (.checkcast 60, 3) := dk_192 0 60 (dk_at dksX0_weightSum_1 0 rfl rfl)
theorem dX0_weightSum_27 : decode cX0_weightSum 27 = .ok (.getfield 163, 3) := dk_180 0 163 (dk_at dksX0_weightSum_1 3 rfl rfl)
theorem dX0_weightSum_30 : decode cX0_weightSum 30 = .ok (.iadd, 1) := dk_96 (dk_at dksX0_weightSum_1 6 rfl rfl)
theorem dX0_weightSum_31 : decode cX0_weightSum 31 = .ok (.istore_n 1, 1) := dk_60 (dk_at dksX0_weightSum_1 7 rfl rfl)
theorem dX0_weightSum_32 : decode cX0_weightSum 32 = .ok (.iinc 2 1, 3) := dk_132 2 1 (dk_at dksX0_weightSum_1 8 rfl rfl)
theorem dX0_weightSum_35 : decode cX0_weightSum 35 = .ok (.goto (-31), 3) := dk_167 255 225 (dk_at dksX0_weightSum_1 11 rfl rfl)
theorem dX0_weightSum_38 : decode cX0_weightSum 38 = .ok (.iload_n 1, 1) := dk_27 (dk_at dksX0_weightSum_1 14 rfl rfl)
theorem dX0_weightSum_39 : decode cX0_weightSum 39 = .ok (.ireturn, 1) := dk_172 (dk_at dksX0_weightSum_1 15 rfl rfl)
abbrev cX0_reachablePairs : ByteArray := prog_1_method_39_code
def yX0_reachablePairs : MethodName := ⟨RX0, "reachablePairs", "()I"⟩
def dkwX0_reachablePairs_4 : List UInt8 := [45, 21, 5, 46, 54, 6, 28, 21, 6, 184, 1, 98, 96, 61, 132, 5, 1, 167, 255, 232, 28, 172]
abbrev dktX0_reachablePairs_4 : List UInt8 := dkwX0_reachablePairs_4 ++ []
def dkwX0_reachablePairs_3 : List UInt8 := [132, 2, 1, 167, 255, 190, 3, 61, 43, 78, 45, 190, 54, 4, 3, 54, 5, 21, 5, 21, 4, 162, 0, 23]
abbrev dktX0_reachablePairs_3 : List UInt8 := dkwX0_reachablePairs_3 ++ dktX0_reachablePairs_4
def dkwX0_reachablePairs_2 : List UInt8 := [4, 25, 4, 180, 0, 160, 120, 43, 25, 4, 180, 0, 160, 46, 128, 128, 79, 132, 3, 1, 167, 255, 204]
abbrev dktX0_reachablePairs_2 : List UInt8 := dkwX0_reachablePairs_2 ++ dktX0_reachablePairs_3
def dkwX0_reachablePairs_1 : List UInt8 := [162, 0, 47, 42, 180, 0, 20, 29, 182, 0, 85, 192, 0, 60, 58, 4, 43, 25, 4, 180, 0, 157, 92, 46]
abbrev dktX0_reachablePairs_1 : List UInt8 := dkwX0_reachablePairs_1 ++ dktX0_reachablePairs_2
def dkwX0_reachablePairs_0 : List UInt8 := [16, 8, 188, 10, 76, 3, 61, 28, 16, 8, 162, 0, 66, 3, 62, 29, 42, 180, 0, 20, 182, 0, 54]
abbrev dktX0_reachablePairs_0 : List UInt8 := dkwX0_reachablePairs_0 ++ dktX0_reachablePairs_1
theorem dksX0_reachablePairs_0 : cX0_reachablePairs.data.toList.drop 0 = dktX0_reachablePairs_0 := by decide +kernel
theorem dksX0_reachablePairs_1 : cX0_reachablePairs.data.toList.drop 23 = dktX0_reachablePairs_1 := dk_seg dksX0_reachablePairs_0 23 rfl rfl
theorem dksX0_reachablePairs_2 : cX0_reachablePairs.data.toList.drop 47 = dktX0_reachablePairs_2 := dk_seg dksX0_reachablePairs_1 24 rfl rfl
theorem dksX0_reachablePairs_3 : cX0_reachablePairs.data.toList.drop 70 = dktX0_reachablePairs_3 := dk_seg dksX0_reachablePairs_2 23 rfl rfl
theorem dksX0_reachablePairs_4 : cX0_reachablePairs.data.toList.drop 94 = dktX0_reachablePairs_4 := dk_seg dksX0_reachablePairs_3 24 rfl rfl
theorem dX0_reachablePairs_0 : decode cX0_reachablePairs 0 = .ok (.bipush 8, 2) := dk_16 8 (dk_at dksX0_reachablePairs_0 0 rfl rfl)
theorem dX0_reachablePairs_2 : decode cX0_reachablePairs 2 = .ok (.newarray .int, 2) := dk_188_10 (dk_at dksX0_reachablePairs_0 2 rfl rfl)
theorem dX0_reachablePairs_4 : decode cX0_reachablePairs 4 = .ok (.astore_n 1, 1) := dk_76 (dk_at dksX0_reachablePairs_0 4 rfl rfl)
theorem dX0_reachablePairs_5 : decode cX0_reachablePairs 5 = .ok (.iconst 0, 1) := dk_3 (dk_at dksX0_reachablePairs_0 5 rfl rfl)
theorem dX0_reachablePairs_6 : decode cX0_reachablePairs 6 = .ok (.istore_n 2, 1) := dk_61 (dk_at dksX0_reachablePairs_0 6 rfl rfl)
theorem dX0_reachablePairs_7 : decode cX0_reachablePairs 7 = .ok (.iload_n 2, 1) := dk_28 (dk_at dksX0_reachablePairs_0 7 rfl rfl)
theorem dX0_reachablePairs_8 : decode cX0_reachablePairs 8 = .ok (.bipush 8, 2) := dk_16 8 (dk_at dksX0_reachablePairs_0 8 rfl rfl)
theorem dX0_reachablePairs_10 : decode cX0_reachablePairs 10 = .ok (.if_icmp .ge 66, 3) := dk_162 0 66 (dk_at dksX0_reachablePairs_0 10 rfl rfl)
theorem dX0_reachablePairs_13 : decode cX0_reachablePairs 13 = .ok (.iconst 0, 1) := dk_3 (dk_at dksX0_reachablePairs_0 13 rfl rfl)
theorem dX0_reachablePairs_14 : decode cX0_reachablePairs 14 = .ok (.istore_n 3, 1) := dk_62 (dk_at dksX0_reachablePairs_0 14 rfl rfl)
theorem dX0_reachablePairs_15 : decode cX0_reachablePairs 15 = .ok (.iload_n 3, 1) := dk_29 (dk_at dksX0_reachablePairs_0 15 rfl rfl)
theorem dX0_reachablePairs_16 : decode cX0_reachablePairs 16 = .ok (.aload_n 0, 1) := dk_42 (dk_at dksX0_reachablePairs_0 16 rfl rfl)
theorem dX0_reachablePairs_17 : decode cX0_reachablePairs 17 = .ok (.getfield 20, 3) := dk_180 0 20 (dk_at dksX0_reachablePairs_0 17 rfl rfl)
theorem dX0_reachablePairs_20 : decode cX0_reachablePairs 20 = .ok (.invokevirtual 54, 3) := dk_182 0 54 (dk_at dksX0_reachablePairs_0 20 rfl rfl)
theorem dX0_reachablePairs_23 : decode cX0_reachablePairs 23 = .ok (.if_icmp .ge 47, 3) := dk_162 0 47 (dk_at dksX0_reachablePairs_1 0 rfl rfl)
theorem dX0_reachablePairs_26 : decode cX0_reachablePairs 26 = .ok (.aload_n 0, 1) := dk_42 (dk_at dksX0_reachablePairs_1 3 rfl rfl)
theorem dX0_reachablePairs_27 : decode cX0_reachablePairs 27 = .ok (.getfield 20, 3) := dk_180 0 20 (dk_at dksX0_reachablePairs_1 4 rfl rfl)
theorem dX0_reachablePairs_30 : decode cX0_reachablePairs 30 = .ok (.iload_n 3, 1) := dk_29 (dk_at dksX0_reachablePairs_1 7 rfl rfl)
theorem dX0_reachablePairs_31 : decode cX0_reachablePairs 31 = .ok (.invokevirtual 85, 3) := dk_182 0 85 (dk_at dksX0_reachablePairs_1 8 rfl rfl)
theorem dX0_reachablePairs_34 : decode cX0_reachablePairs 34 = .ok (.checkcast 60, 3) := dk_192 0 60 (dk_at dksX0_reachablePairs_1 11 rfl rfl)
theorem dX0_reachablePairs_37 : decode cX0_reachablePairs 37 = .ok (.astore 4, 2) := dk_58 4 (dk_at dksX0_reachablePairs_1 14 rfl rfl)
theorem dX0_reachablePairs_39 : decode cX0_reachablePairs 39 = .ok (.aload_n 1, 1) := dk_43 (dk_at dksX0_reachablePairs_1 16 rfl rfl)
theorem dX0_reachablePairs_40 : decode cX0_reachablePairs 40 = .ok (.aload 4, 2) := dk_25 4 (dk_at dksX0_reachablePairs_1 17 rfl rfl)
theorem dX0_reachablePairs_42 : decode cX0_reachablePairs 42 = .ok (.getfield 157, 3) := dk_180 0 157 (dk_at dksX0_reachablePairs_1 19 rfl rfl)
theorem dX0_reachablePairs_45 : decode cX0_reachablePairs 45 = .ok (.dup2, 1) := dk_92 (dk_at dksX0_reachablePairs_1 22 rfl rfl)
theorem dX0_reachablePairs_46 : decode cX0_reachablePairs 46 = .ok (.iaload, 1) := dk_46 (dk_at dksX0_reachablePairs_1 23 rfl rfl)
theorem dX0_reachablePairs_47 : decode cX0_reachablePairs 47 = .ok (.iconst 1, 1) := dk_4 (dk_at dksX0_reachablePairs_2 0 rfl rfl)
theorem dX0_reachablePairs_48 : decode cX0_reachablePairs 48 = .ok (.aload 4, 2) := dk_25 4 (dk_at dksX0_reachablePairs_2 1 rfl rfl)
theorem dX0_reachablePairs_50 : decode cX0_reachablePairs 50 = .ok (.getfield 160, 3) := dk_180 0 160 (dk_at dksX0_reachablePairs_2 3 rfl rfl)
theorem dX0_reachablePairs_53 : decode cX0_reachablePairs 53 = .ok (.ishl, 1) := dk_120 (dk_at dksX0_reachablePairs_2 6 rfl rfl)
theorem dX0_reachablePairs_54 : decode cX0_reachablePairs 54 = .ok (.aload_n 1, 1) := dk_43 (dk_at dksX0_reachablePairs_2 7 rfl rfl)
theorem dX0_reachablePairs_55 : decode cX0_reachablePairs 55 = .ok (.aload 4, 2) := dk_25 4 (dk_at dksX0_reachablePairs_2 8 rfl rfl)
theorem dX0_reachablePairs_57 : decode cX0_reachablePairs 57 = .ok (.getfield 160, 3) := dk_180 0 160 (dk_at dksX0_reachablePairs_2 10 rfl rfl)
theorem dX0_reachablePairs_60 : decode cX0_reachablePairs 60 = .ok (.iaload, 1) := dk_46 (dk_at dksX0_reachablePairs_2 13 rfl rfl)
theorem dX0_reachablePairs_61 : decode cX0_reachablePairs 61 = .ok (.ior, 1) := dk_128 (dk_at dksX0_reachablePairs_2 14 rfl rfl)
theorem dX0_reachablePairs_62 : decode cX0_reachablePairs 62 = .ok (.ior, 1) := dk_128 (dk_at dksX0_reachablePairs_2 15 rfl rfl)
theorem dX0_reachablePairs_63 : decode cX0_reachablePairs 63 = .ok (.iastore, 1) := dk_79 (dk_at dksX0_reachablePairs_2 16 rfl rfl)
theorem dX0_reachablePairs_64 : decode cX0_reachablePairs 64 = .ok (.iinc 3 1, 3) := dk_132 3 1 (dk_at dksX0_reachablePairs_2 17 rfl rfl)
theorem dX0_reachablePairs_67 : decode cX0_reachablePairs 67 = .ok (.goto (-52), 3) := dk_167 255 204 (dk_at dksX0_reachablePairs_2 20 rfl rfl)
theorem dX0_reachablePairs_70 : decode cX0_reachablePairs 70 = .ok (.iinc 2 1, 3) := dk_132 2 1 (dk_at dksX0_reachablePairs_3 0 rfl rfl)
theorem dX0_reachablePairs_73 : decode cX0_reachablePairs 73 = .ok (.goto (-66), 3) := dk_167 255 190 (dk_at dksX0_reachablePairs_3 3 rfl rfl)
theorem dX0_reachablePairs_76 : decode cX0_reachablePairs 76 = .ok (.iconst 0, 1) := dk_3 (dk_at dksX0_reachablePairs_3 6 rfl rfl)
theorem dX0_reachablePairs_77 : decode cX0_reachablePairs 77 = .ok (.istore_n 2, 1) := dk_61 (dk_at dksX0_reachablePairs_3 7 rfl rfl)
theorem dX0_reachablePairs_78 : decode cX0_reachablePairs 78 = .ok (.aload_n 1, 1) := dk_43 (dk_at dksX0_reachablePairs_3 8 rfl rfl)
theorem dX0_reachablePairs_79 : decode cX0_reachablePairs 79 = .ok (.astore_n 3, 1) := dk_78 (dk_at dksX0_reachablePairs_3 9 rfl rfl)
theorem dX0_reachablePairs_80 : decode cX0_reachablePairs 80 = .ok (.aload_n 3, 1) := dk_45 (dk_at dksX0_reachablePairs_3 10 rfl rfl)
theorem dX0_reachablePairs_81 : decode cX0_reachablePairs 81 = .ok (.arraylength, 1) := dk_190 (dk_at dksX0_reachablePairs_3 11 rfl rfl)
theorem dX0_reachablePairs_82 : decode cX0_reachablePairs 82 = .ok (.istore 4, 2) := dk_54 4 (dk_at dksX0_reachablePairs_3 12 rfl rfl)
theorem dX0_reachablePairs_84 : decode cX0_reachablePairs 84 = .ok (.iconst 0, 1) := dk_3 (dk_at dksX0_reachablePairs_3 14 rfl rfl)
theorem dX0_reachablePairs_85 : decode cX0_reachablePairs 85 = .ok (.istore 5, 2) := dk_54 5 (dk_at dksX0_reachablePairs_3 15 rfl rfl)
theorem dX0_reachablePairs_87 : decode cX0_reachablePairs 87 = .ok (.iload 5, 2) := dk_21 5 (dk_at dksX0_reachablePairs_3 17 rfl rfl)
theorem dX0_reachablePairs_89 : decode cX0_reachablePairs 89 = .ok (.iload 4, 2) := dk_21 4 (dk_at dksX0_reachablePairs_3 19 rfl rfl)
theorem dX0_reachablePairs_91 : decode cX0_reachablePairs 91 = .ok (.if_icmp .ge 23, 3) := dk_162 0 23 (dk_at dksX0_reachablePairs_3 21 rfl rfl)
theorem dX0_reachablePairs_94 : decode cX0_reachablePairs 94 = .ok (.aload_n 3, 1) := dk_45 (dk_at dksX0_reachablePairs_4 0 rfl rfl)
theorem dX0_reachablePairs_95 : decode cX0_reachablePairs 95 = .ok (.iload 5, 2) := dk_21 5 (dk_at dksX0_reachablePairs_4 1 rfl rfl)
theorem dX0_reachablePairs_97 : decode cX0_reachablePairs 97 = .ok (.iaload, 1) := dk_46 (dk_at dksX0_reachablePairs_4 3 rfl rfl)
theorem dX0_reachablePairs_98 : decode cX0_reachablePairs 98 = .ok (.istore 6, 2) := dk_54 6 (dk_at dksX0_reachablePairs_4 4 rfl rfl)
theorem dX0_reachablePairs_100 : decode cX0_reachablePairs 100 = .ok (.iload_n 2, 1) := dk_28 (dk_at dksX0_reachablePairs_4 6 rfl rfl)
theorem dX0_reachablePairs_101 : decode cX0_reachablePairs 101 = .ok (.iload 6, 2) := dk_21 6 (dk_at dksX0_reachablePairs_4 7 rfl rfl)
theorem dX0_reachablePairs_103 : decode cX0_reachablePairs 103 = .ok (.invokestatic 354, 3) := dk_184 1 98 (dk_at dksX0_reachablePairs_4 9 rfl rfl)
theorem dX0_reachablePairs_106 : decode cX0_reachablePairs 106 = .ok (.iadd, 1) := dk_96 (dk_at dksX0_reachablePairs_4 12 rfl rfl)
theorem dX0_reachablePairs_107 : decode cX0_reachablePairs 107 = .ok (.istore_n 2, 1) := dk_61 (dk_at dksX0_reachablePairs_4 13 rfl rfl)
theorem dX0_reachablePairs_108 : decode cX0_reachablePairs 108 = .ok (.iinc 5 1, 3) := dk_132 5 1 (dk_at dksX0_reachablePairs_4 14 rfl rfl)
theorem dX0_reachablePairs_111 : decode cX0_reachablePairs 111 = .ok (.goto (-24), 3) := dk_167 255 232 (dk_at dksX0_reachablePairs_4 17 rfl rfl)
theorem dX0_reachablePairs_114 : decode cX0_reachablePairs 114 = .ok (.iload_n 2, 1) := dk_28 (dk_at dksX0_reachablePairs_4 20 rfl rfl)
theorem dX0_reachablePairs_115 : decode cX0_reachablePairs 115 = .ok (.ireturn, 1) := dk_172 (dk_at dksX0_reachablePairs_4 21 rfl rfl)
abbrev cX0_digest : ByteArray := prog_1_method_43_code
def yX0_digest : MethodName := ⟨RX0, "digest", "()J"⟩
def dkwX0_digest_9 : List UInt8 := [180, 0, 35, 27, 51, 133, 182, 1, 114, 132, 1, 1, 167, 255, 234, 42, 180, 1, 111, 173]
abbrev dktX0_digest_9 : List UInt8 := dkwX0_digest_9 ++ []
def dkwX0_digest_8 : List UInt8 := [132, 2, 1, 167, 255, 229, 132, 1, 1, 167, 255, 212, 3, 60, 27, 42, 180, 0, 127, 162, 0, 20, 42, 42]
abbrev dktX0_digest_8 : List UInt8 := dkwX0_digest_8 ++ dktX0_digest_9
def dkwX0_digest_7 : List UInt8 := [163, 0, 28, 42, 42, 180, 1, 70, 27, 182, 0, 85, 192, 1, 50, 28, 182, 1, 75, 182, 1, 114]
abbrev dktX0_digest_7 : List UInt8 := dkwX0_digest_7 ++ dktX0_digest_8
def dkwX0_digest_6 : List UInt8 := [182, 1, 114, 132, 3, 1, 167, 255, 236, 3, 60, 27, 42, 8, 182, 1, 125, 162, 0, 41, 3, 61, 28, 6]
abbrev dktX0_digest_6 : List UInt8 := dkwX0_digest_6 ++ dktX0_digest_7
def dkwX0_digest_5 : List UInt8 := [180, 0, 149, 76, 43, 190, 61, 3, 62, 29, 28, 162, 0, 21, 43, 29, 46, 54, 4, 42, 21, 4, 133]
abbrev dktX0_digest_5 : List UInt8 := dkwX0_digest_5 ++ dktX0_digest_6
def dkwX0_digest_4 : List UInt8 := [180, 0, 244, 182, 1, 114, 42, 42, 180, 0, 145, 180, 0, 243, 180, 0, 248, 182, 1, 114, 42, 180, 0, 145]
abbrev dktX0_digest_4 : List UInt8 := dkwX0_digest_4 ++ dktX0_digest_5
def dkwX0_digest_3 : List UInt8 := [167, 255, 217, 42, 182, 1, 130, 42, 180, 0, 145, 198, 0, 67, 42, 42, 180, 0, 145, 180, 0, 243]
abbrev dktX0_digest_3 : List UInt8 := dkwX0_digest_3 ++ dktX0_digest_4
def dkwX0_digest_2 : List UInt8 := [163, 0, 20, 42, 42, 27, 28, 182, 1, 126, 133, 182, 1, 114, 132, 2, 1, 167, 255, 236, 132, 1, 1]
abbrev dktX0_digest_2 : List UInt8 := dkwX0_digest_2 ++ dktX0_digest_3
def dkwX0_digest_1 : List UInt8 := [132, 1, 1, 167, 255, 238, 3, 60, 27, 42, 180, 0, 20, 182, 0, 54, 162, 0, 34, 3, 61, 28, 16, 6]
abbrev dktX0_digest_1 : List UInt8 := dkwX0_digest_1 ++ dktX0_digest_2
def dkwX0_digest_0 : List UInt8 := [42, 20, 1, 123, 181, 1, 111, 3, 60, 27, 8, 163, 0, 19, 42, 42, 27, 182, 1, 125, 133, 182, 1, 114]
abbrev dktX0_digest_0 : List UInt8 := dkwX0_digest_0 ++ dktX0_digest_1
theorem dksX0_digest_0 : cX0_digest.data.toList.drop 0 = dktX0_digest_0 := by decide +kernel
theorem dksX0_digest_1 : cX0_digest.data.toList.drop 24 = dktX0_digest_1 := dk_seg dksX0_digest_0 24 rfl rfl
theorem dksX0_digest_2 : cX0_digest.data.toList.drop 48 = dktX0_digest_2 := dk_seg dksX0_digest_1 24 rfl rfl
theorem dksX0_digest_3 : cX0_digest.data.toList.drop 71 = dktX0_digest_3 := dk_seg dksX0_digest_2 23 rfl rfl
theorem dksX0_digest_4 : cX0_digest.data.toList.drop 93 = dktX0_digest_4 := dk_seg dksX0_digest_3 22 rfl rfl
theorem dksX0_digest_5 : cX0_digest.data.toList.drop 117 = dktX0_digest_5 := dk_seg dksX0_digest_4 24 rfl rfl
theorem dksX0_digest_6 : cX0_digest.data.toList.drop 140 = dktX0_digest_6 := dk_seg dksX0_digest_5 23 rfl rfl
theorem dksX0_digest_7 : cX0_digest.data.toList.drop 164 = dktX0_digest_7 := dk_seg dksX0_digest_6 24 rfl rfl
theorem dksX0_digest_8 : cX0_digest.data.toList.drop 186 = dktX0_digest_8 := dk_seg dksX0_digest_7 22 rfl rfl
theorem dksX0_digest_9 : cX0_digest.data.toList.drop 210 = dktX0_digest_9 := dk_seg dksX0_digest_8 24 rfl rfl
theorem dX0_digest_0 : decode cX0_digest 0 = .ok (.aload_n 0, 1) := dk_42 (dk_at dksX0_digest_0 0 rfl rfl)
theorem dX0_digest_1 : decode cX0_digest 1 = .ok (.ldc2_w 379, 3) := dk_20 1 123 (dk_at dksX0_digest_0 1 rfl rfl)
theorem dX0_digest_4 : decode cX0_digest 4 = .ok (.putfield 367, 3) := dk_181 1 111 (dk_at dksX0_digest_0 4 rfl rfl)
theorem dX0_digest_7 : decode cX0_digest 7 = .ok (.iconst 0, 1) := dk_3 (dk_at dksX0_digest_0 7 rfl rfl)
theorem dX0_digest_8 : decode cX0_digest 8 = .ok (.istore_n 1, 1) := dk_60 (dk_at dksX0_digest_0 8 rfl rfl)
theorem dX0_digest_9 : decode cX0_digest 9 = .ok (.iload_n 1, 1) := dk_27 (dk_at dksX0_digest_0 9 rfl rfl)
theorem dX0_digest_10 : decode cX0_digest 10 = .ok (.iconst 5, 1) := dk_8 (dk_at dksX0_digest_0 10 rfl rfl)
theorem dX0_digest_11 : decode cX0_digest 11 = .ok (.if_icmp .gt 19, 3) := dk_163 0 19 (dk_at dksX0_digest_0 11 rfl rfl)
theorem dX0_digest_14 : decode cX0_digest 14 = .ok (.aload_n 0, 1) := dk_42 (dk_at dksX0_digest_0 14 rfl rfl)
theorem dX0_digest_15 : decode cX0_digest 15 = .ok (.aload_n 0, 1) := dk_42 (dk_at dksX0_digest_0 15 rfl rfl)
theorem dX0_digest_16 : decode cX0_digest 16 = .ok (.iload_n 1, 1) := dk_27 (dk_at dksX0_digest_0 16 rfl rfl)
theorem dX0_digest_17 : decode cX0_digest 17 = .ok (.invokevirtual 381, 3) := dk_182 1 125 (dk_at dksX0_digest_0 17 rfl rfl)
theorem dX0_digest_20 : decode cX0_digest 20 = .ok (.i2l, 1) := dk_133 (dk_at dksX0_digest_0 20 rfl rfl)
theorem dX0_digest_21 : decode cX0_digest 21 = .ok (.invokevirtual 370, 3) := dk_182 1 114 (dk_at dksX0_digest_0 21 rfl rfl)
theorem dX0_digest_24 : decode cX0_digest 24 = .ok (.iinc 1 1, 3) := dk_132 1 1 (dk_at dksX0_digest_1 0 rfl rfl)
theorem dX0_digest_27 : decode cX0_digest 27 = .ok (.goto (-18), 3) := dk_167 255 238 (dk_at dksX0_digest_1 3 rfl rfl)
theorem dX0_digest_30 : decode cX0_digest 30 = .ok (.iconst 0, 1) := dk_3 (dk_at dksX0_digest_1 6 rfl rfl)
theorem dX0_digest_31 : decode cX0_digest 31 = .ok (.istore_n 1, 1) := dk_60 (dk_at dksX0_digest_1 7 rfl rfl)
theorem dX0_digest_32 : decode cX0_digest 32 = .ok (.iload_n 1, 1) := dk_27 (dk_at dksX0_digest_1 8 rfl rfl)
theorem dX0_digest_33 : decode cX0_digest 33 = .ok (.aload_n 0, 1) := dk_42 (dk_at dksX0_digest_1 9 rfl rfl)
theorem dX0_digest_34 : decode cX0_digest 34 = .ok (.getfield 20, 3) := dk_180 0 20 (dk_at dksX0_digest_1 10 rfl rfl)
theorem dX0_digest_37 : decode cX0_digest 37 = .ok (.invokevirtual 54, 3) := dk_182 0 54 (dk_at dksX0_digest_1 13 rfl rfl)
theorem dX0_digest_40 : decode cX0_digest 40 = .ok (.if_icmp .ge 34, 3) := dk_162 0 34 (dk_at dksX0_digest_1 16 rfl rfl)
theorem dX0_digest_43 : decode cX0_digest 43 = .ok (.iconst 0, 1) := dk_3 (dk_at dksX0_digest_1 19 rfl rfl)
theorem dX0_digest_44 : decode cX0_digest 44 = .ok (.istore_n 2, 1) := dk_61 (dk_at dksX0_digest_1 20 rfl rfl)
theorem dX0_digest_45 : decode cX0_digest 45 = .ok (.iload_n 2, 1) := dk_28 (dk_at dksX0_digest_1 21 rfl rfl)
theorem dX0_digest_46 : decode cX0_digest 46 = .ok (.bipush 6, 2) := dk_16 6 (dk_at dksX0_digest_1 22 rfl rfl)
theorem dX0_digest_48 : decode cX0_digest 48 = .ok (.if_icmp .gt 20, 3) := dk_163 0 20 (dk_at dksX0_digest_2 0 rfl rfl)
theorem dX0_digest_51 : decode cX0_digest 51 = .ok (.aload_n 0, 1) := dk_42 (dk_at dksX0_digest_2 3 rfl rfl)
theorem dX0_digest_52 : decode cX0_digest 52 = .ok (.aload_n 0, 1) := dk_42 (dk_at dksX0_digest_2 4 rfl rfl)
theorem dX0_digest_53 : decode cX0_digest 53 = .ok (.iload_n 1, 1) := dk_27 (dk_at dksX0_digest_2 5 rfl rfl)
theorem dX0_digest_54 : decode cX0_digest 54 = .ok (.iload_n 2, 1) := dk_28 (dk_at dksX0_digest_2 6 rfl rfl)
theorem dX0_digest_55 : decode cX0_digest 55 = .ok (.invokevirtual 382, 3) := dk_182 1 126 (dk_at dksX0_digest_2 7 rfl rfl)
theorem dX0_digest_58 : decode cX0_digest 58 = .ok (.i2l, 1) := dk_133 (dk_at dksX0_digest_2 10 rfl rfl)
theorem dX0_digest_59 : decode cX0_digest 59 = .ok (.invokevirtual 370, 3) := dk_182 1 114 (dk_at dksX0_digest_2 11 rfl rfl)
theorem dX0_digest_62 : decode cX0_digest 62 = .ok (.iinc 2 1, 3) := dk_132 2 1 (dk_at dksX0_digest_2 14 rfl rfl)
theorem dX0_digest_65 : decode cX0_digest 65 = .ok (.goto (-20), 3) := dk_167 255 236 (dk_at dksX0_digest_2 17 rfl rfl)
theorem dX0_digest_68 : decode cX0_digest 68 = .ok (.iinc 1 1, 3) := dk_132 1 1 (dk_at dksX0_digest_2 20 rfl rfl)
theorem dX0_digest_71 : decode cX0_digest 71 = .ok (.goto (-39), 3) := dk_167 255 217 (dk_at dksX0_digest_3 0 rfl rfl)
theorem dX0_digest_74 : decode cX0_digest 74 = .ok (.aload_n 0, 1) := dk_42 (dk_at dksX0_digest_3 3 rfl rfl)
theorem dX0_digest_75 : decode cX0_digest 75 = .ok (.invokevirtual 386, 3) := dk_182 1 130 (dk_at dksX0_digest_3 4 rfl rfl)
theorem dX0_digest_78 : decode cX0_digest 78 = .ok (.aload_n 0, 1) := dk_42 (dk_at dksX0_digest_3 7 rfl rfl)
theorem dX0_digest_79 : decode cX0_digest 79 = .ok (.getfield 145, 3) := dk_180 0 145 (dk_at dksX0_digest_3 8 rfl rfl)
theorem dX0_digest_82 : decode cX0_digest 82 = .ok (.ifnull 67, 3) := dk_198 0 67 (dk_at dksX0_digest_3 11 rfl rfl)
theorem dX0_digest_85 : decode cX0_digest 85 = .ok (.aload_n 0, 1) := dk_42 (dk_at dksX0_digest_3 14 rfl rfl)
theorem dX0_digest_86 : decode cX0_digest 86 = .ok (.aload_n 0, 1) := dk_42 (dk_at dksX0_digest_3 15 rfl rfl)
theorem dX0_digest_87 : decode cX0_digest 87 = .ok (.getfield 145, 3) := dk_180 0 145 (dk_at dksX0_digest_3 16 rfl rfl)
theorem dX0_digest_90 : decode cX0_digest 90 = .ok (.getfield 243, 3) := dk_180 0 243 (dk_at dksX0_digest_3 19 rfl rfl)
theorem dX0_digest_93 : decode cX0_digest 93 = .ok (.getfield 244, 3) := dk_180 0 244 (dk_at dksX0_digest_4 0 rfl rfl)
theorem dX0_digest_96 : decode cX0_digest 96 = .ok (.invokevirtual 370, 3) := dk_182 1 114 (dk_at dksX0_digest_4 3 rfl rfl)
theorem dX0_digest_99 : decode cX0_digest 99 = .ok (.aload_n 0, 1) := dk_42 (dk_at dksX0_digest_4 6 rfl rfl)
theorem dX0_digest_100 : decode cX0_digest 100 = .ok (.aload_n 0, 1) := dk_42 (dk_at dksX0_digest_4 7 rfl rfl)
theorem dX0_digest_101 : decode cX0_digest 101 = .ok (.getfield 145, 3) := dk_180 0 145 (dk_at dksX0_digest_4 8 rfl rfl)
theorem dX0_digest_104 : decode cX0_digest 104 = .ok (.getfield 243, 3) := dk_180 0 243 (dk_at dksX0_digest_4 11 rfl rfl)
theorem dX0_digest_107 : decode cX0_digest 107 = .ok (.getfield 248, 3) := dk_180 0 248 (dk_at dksX0_digest_4 14 rfl rfl)
theorem dX0_digest_110 : decode cX0_digest 110 = .ok (.invokevirtual 370, 3) := dk_182 1 114 (dk_at dksX0_digest_4 17 rfl rfl)
theorem dX0_digest_113 : decode cX0_digest 113 = .ok (.aload_n 0, 1) := dk_42 (dk_at dksX0_digest_4 20 rfl rfl)
theorem dX0_digest_114 : decode cX0_digest 114 = .ok (.getfield 145, 3) := dk_180 0 145 (dk_at dksX0_digest_4 21 rfl rfl)
theorem dX0_digest_117 : decode cX0_digest 117 = .ok (.getfield 149, 3) := dk_180 0 149 (dk_at dksX0_digest_5 0 rfl rfl)
theorem dX0_digest_120 : decode cX0_digest 120 = .ok (.astore_n 1, 1) := dk_76 (dk_at dksX0_digest_5 3 rfl rfl)
theorem dX0_digest_121 : decode cX0_digest 121 = .ok (.aload_n 1, 1) := dk_43 (dk_at dksX0_digest_5 4 rfl rfl)
theorem dX0_digest_122 : decode cX0_digest 122 = .ok (.arraylength, 1) := dk_190 (dk_at dksX0_digest_5 5 rfl rfl)
theorem dX0_digest_123 : decode cX0_digest 123 = .ok (.istore_n 2, 1) := dk_61 (dk_at dksX0_digest_5 6 rfl rfl)
theorem dX0_digest_124 : decode cX0_digest 124 = .ok (.iconst 0, 1) := dk_3 (dk_at dksX0_digest_5 7 rfl rfl)
theorem dX0_digest_125 : decode cX0_digest 125 = .ok (.istore_n 3, 1) := dk_62 (dk_at dksX0_digest_5 8 rfl rfl)
theorem dX0_digest_126 : decode cX0_digest 126 = .ok (.iload_n 3, 1) := dk_29 (dk_at dksX0_digest_5 9 rfl rfl)
theorem dX0_digest_127 : decode cX0_digest 127 = .ok (.iload_n 2, 1) := dk_28 (dk_at dksX0_digest_5 10 rfl rfl)
theorem dX0_digest_128 : decode cX0_digest 128 = .ok (.if_icmp .ge 21, 3) := dk_162 0 21 (dk_at dksX0_digest_5 11 rfl rfl)
theorem dX0_digest_131 : decode cX0_digest 131 = .ok (.aload_n 1, 1) := dk_43 (dk_at dksX0_digest_5 14 rfl rfl)
theorem dX0_digest_132 : decode cX0_digest 132 = .ok (.iload_n 3, 1) := dk_29 (dk_at dksX0_digest_5 15 rfl rfl)
theorem dX0_digest_133 : decode cX0_digest 133 = .ok (.iaload, 1) := dk_46 (dk_at dksX0_digest_5 16 rfl rfl)
theorem dX0_digest_134 : decode cX0_digest 134 = .ok (.istore 4, 2) := dk_54 4 (dk_at dksX0_digest_5 17 rfl rfl)
theorem dX0_digest_136 : decode cX0_digest 136 = .ok (.aload_n 0, 1) := dk_42 (dk_at dksX0_digest_5 19 rfl rfl)
theorem dX0_digest_137 : decode cX0_digest 137 = .ok (.iload 4, 2) := dk_21 4 (dk_at dksX0_digest_5 20 rfl rfl)
theorem dX0_digest_139 : decode cX0_digest 139 = .ok (.i2l, 1) := dk_133 (dk_at dksX0_digest_5 22 rfl rfl)
theorem dX0_digest_140 : decode cX0_digest 140 = .ok (.invokevirtual 370, 3) := dk_182 1 114 (dk_at dksX0_digest_6 0 rfl rfl)
theorem dX0_digest_143 : decode cX0_digest 143 = .ok (.iinc 3 1, 3) := dk_132 3 1 (dk_at dksX0_digest_6 3 rfl rfl)
theorem dX0_digest_146 : decode cX0_digest 146 = .ok (.goto (-20), 3) := dk_167 255 236 (dk_at dksX0_digest_6 6 rfl rfl)
theorem dX0_digest_149 : decode cX0_digest 149 = .ok (.iconst 0, 1) := dk_3 (dk_at dksX0_digest_6 9 rfl rfl)
theorem dX0_digest_150 : decode cX0_digest 150 = .ok (.istore_n 1, 1) := dk_60 (dk_at dksX0_digest_6 10 rfl rfl)
theorem dX0_digest_151 : decode cX0_digest 151 = .ok (.iload_n 1, 1) := dk_27 (dk_at dksX0_digest_6 11 rfl rfl)
theorem dX0_digest_152 : decode cX0_digest 152 = .ok (.aload_n 0, 1) := dk_42 (dk_at dksX0_digest_6 12 rfl rfl)
theorem dX0_digest_153 : decode cX0_digest 153 = .ok (.iconst 5, 1) := dk_8 (dk_at dksX0_digest_6 13 rfl rfl)
theorem dX0_digest_154 : decode cX0_digest 154 = .ok (.invokevirtual 381, 3) := dk_182 1 125 (dk_at dksX0_digest_6 14 rfl rfl)
theorem dX0_digest_157 : decode cX0_digest 157 = .ok (.if_icmp .ge 41, 3) := dk_162 0 41 (dk_at dksX0_digest_6 17 rfl rfl)
theorem dX0_digest_160 : decode cX0_digest 160 = .ok (.iconst 0, 1) := dk_3 (dk_at dksX0_digest_6 20 rfl rfl)
theorem dX0_digest_161 : decode cX0_digest 161 = .ok (.istore_n 2, 1) := dk_61 (dk_at dksX0_digest_6 21 rfl rfl)
theorem dX0_digest_162 : decode cX0_digest 162 = .ok (.iload_n 2, 1) := dk_28 (dk_at dksX0_digest_6 22 rfl rfl)
theorem dX0_digest_163 : decode cX0_digest 163 = .ok (.iconst 3, 1) := dk_6 (dk_at dksX0_digest_6 23 rfl rfl)
theorem dX0_digest_164 : decode cX0_digest 164 = .ok (.if_icmp .gt 28, 3) := dk_163 0 28 (dk_at dksX0_digest_7 0 rfl rfl)
theorem dX0_digest_167 : decode cX0_digest 167 = .ok (.aload_n 0, 1) := dk_42 (dk_at dksX0_digest_7 3 rfl rfl)
theorem dX0_digest_168 : decode cX0_digest 168 = .ok (.aload_n 0, 1) := dk_42 (dk_at dksX0_digest_7 4 rfl rfl)
theorem dX0_digest_169 : decode cX0_digest 169 = .ok (.getfield 326, 3) := dk_180 1 70 (dk_at dksX0_digest_7 5 rfl rfl)
theorem dX0_digest_172 : decode cX0_digest 172 = .ok (.iload_n 1, 1) := dk_27 (dk_at dksX0_digest_7 8 rfl rfl)
theorem dX0_digest_173 : decode cX0_digest 173 = .ok (.invokevirtual 85, 3) := dk_182 0 85 (dk_at dksX0_digest_7 9 rfl rfl)
theorem dX0_digest_176 : decode cX0_digest 176 = .ok (.checkcast 306, 3) := dk_192 1 50 (dk_at dksX0_digest_7 12 rfl rfl)
theorem dX0_digest_179 : decode cX0_digest 179 = .ok (.iload_n 2, 1) := dk_28 (dk_at dksX0_digest_7 15 rfl rfl)
theorem dX0_digest_180 : decode cX0_digest 180 = .ok (.invokevirtual 331, 3) := dk_182 1 75 (dk_at dksX0_digest_7 16 rfl rfl)
theorem dX0_digest_183 : decode cX0_digest 183 = .ok (.invokevirtual 370, 3) := dk_182 1 114 (dk_at dksX0_digest_7 19 rfl rfl)
theorem dX0_digest_186 : decode cX0_digest 186 = .ok (.iinc 2 1, 3) := dk_132 2 1 (dk_at dksX0_digest_8 0 rfl rfl)
theorem dX0_digest_189 : decode cX0_digest 189 = .ok (.goto (-27), 3) := dk_167 255 229 (dk_at dksX0_digest_8 3 rfl rfl)
theorem dX0_digest_192 : decode cX0_digest 192 = .ok (.iinc 1 1, 3) := dk_132 1 1 (dk_at dksX0_digest_8 6 rfl rfl)
theorem dX0_digest_195 : decode cX0_digest 195 = .ok (.goto (-44), 3) := dk_167 255 212 (dk_at dksX0_digest_8 9 rfl rfl)
theorem dX0_digest_198 : decode cX0_digest 198 = .ok (.iconst 0, 1) := dk_3 (dk_at dksX0_digest_8 12 rfl rfl)
theorem dX0_digest_199 : decode cX0_digest 199 = .ok (.istore_n 1, 1) := dk_60 (dk_at dksX0_digest_8 13 rfl rfl)
theorem dX0_digest_200 : decode cX0_digest 200 = .ok (.iload_n 1, 1) := dk_27 (dk_at dksX0_digest_8 14 rfl rfl)
theorem dX0_digest_201 : decode cX0_digest 201 = .ok (.aload_n 0, 1) := dk_42 (dk_at dksX0_digest_8 15 rfl rfl)
theorem dX0_digest_202 : decode cX0_digest 202 = .ok (.getfield 127, 3) := dk_180 0 127 (dk_at dksX0_digest_8 16 rfl rfl)
theorem dX0_digest_205 : decode cX0_digest 205 = .ok (.if_icmp .ge 20, 3) := dk_162 0 20 (dk_at dksX0_digest_8 19 rfl rfl)
theorem dX0_digest_208 : decode cX0_digest 208 = .ok (.aload_n 0, 1) := dk_42 (dk_at dksX0_digest_8 22 rfl rfl)
theorem dX0_digest_209 : decode cX0_digest 209 = .ok (.aload_n 0, 1) := dk_42 (dk_at dksX0_digest_8 23 rfl rfl)
theorem dX0_digest_210 : decode cX0_digest 210 = .ok (.getfield 35, 3) := dk_180 0 35 (dk_at dksX0_digest_9 0 rfl rfl)
theorem dX0_digest_213 : decode cX0_digest 213 = .ok (.iload_n 1, 1) := dk_27 (dk_at dksX0_digest_9 3 rfl rfl)
theorem dX0_digest_214 : decode cX0_digest 214 = .ok (.baload, 1) := dk_51 (dk_at dksX0_digest_9 4 rfl rfl)
theorem dX0_digest_215 : decode cX0_digest 215 = .ok (.i2l, 1) := dk_133 (dk_at dksX0_digest_9 5 rfl rfl)
theorem dX0_digest_216 : decode cX0_digest 216 = .ok (.invokevirtual 370, 3) := dk_182 1 114 (dk_at dksX0_digest_9 6 rfl rfl)
theorem dX0_digest_219 : decode cX0_digest 219 = .ok (.iinc 1 1, 3) := dk_132 1 1 (dk_at dksX0_digest_9 9 rfl rfl)
theorem dX0_digest_222 : decode cX0_digest 222 = .ok (.goto (-22), 3) := dk_167 255 234 (dk_at dksX0_digest_9 12 rfl rfl)
theorem dX0_digest_225 : decode cX0_digest 225 = .ok (.aload_n 0, 1) := dk_42 (dk_at dksX0_digest_9 15 rfl rfl)
theorem dX0_digest_226 : decode cX0_digest 226 = .ok (.getfield 367, 3) := dk_180 1 111 (dk_at dksX0_digest_9 16 rfl rfl)
theorem dX0_digest_229 : decode cX0_digest 229 = .ok (.lreturn, 1) := dk_173 (dk_at dksX0_digest_9 19 rfl rfl)
abbrev cX0_mix : ByteArray := prog_1_method_41_code
def yX0_mix : MethodName := ⟨RX0, "mix", "(J)V"⟩
def dkwX0_mix_0 : List UInt8 := [42, 20, 1, 109, 42, 180, 1, 111, 105, 31, 97, 181, 1, 111, 177]
abbrev dktX0_mix_0 : List UInt8 := dkwX0_mix_0 ++ []
theorem dksX0_mix_0 : cX0_mix.data.toList.drop 0 = dktX0_mix_0 := by decide +kernel
theorem dX0_mix_0 : decode cX0_mix 0 = .ok (.aload_n 0, 1) := dk_42 (dk_at dksX0_mix_0 0 rfl rfl)
theorem dX0_mix_1 : decode cX0_mix 1 = .ok (.ldc2_w 365, 3) := dk_20 1 109 (dk_at dksX0_mix_0 1 rfl rfl)
theorem dX0_mix_4 : decode cX0_mix 4 = .ok (.aload_n 0, 1) := dk_42 (dk_at dksX0_mix_0 4 rfl rfl)
theorem dX0_mix_5 : decode cX0_mix 5 = .ok (.getfield 367, 3) := dk_180 1 111 (dk_at dksX0_mix_0 5 rfl rfl)
theorem dX0_mix_8 : decode cX0_mix 8 = .ok (.lmul, 1) := dk_105 (dk_at dksX0_mix_0 8 rfl rfl)
theorem dX0_mix_9 : decode cX0_mix 9 = .ok (.lload_n 1, 1) := dk_31 (dk_at dksX0_mix_0 9 rfl rfl)
theorem dX0_mix_10 : decode cX0_mix 10 = .ok (.ladd, 1) := dk_97 (dk_at dksX0_mix_0 10 rfl rfl)
theorem dX0_mix_11 : decode cX0_mix 11 = .ok (.putfield 367, 3) := dk_181 1 111 (dk_at dksX0_mix_0 11 rfl rfl)
theorem dX0_mix_14 : decode cX0_mix 14 = .ok (.return_, 1) := dk_177 (dk_at dksX0_mix_0 14 rfl rfl)
abbrev cX0_mixCycles : ByteArray := prog_1_method_42_code
def yX0_mixCycles : MethodName := ⟨RX0, "mixCycles", "()V"⟩
def dkwX0_mixCycles_4 : List UInt8 := [182, 1, 114, 132, 2, 1, 167, 255, 239, 177]
abbrev dktX0_mixCycles_4 : List UInt8 := dkwX0_mixCycles_4 ++ []
def dkwX0_mixCycles_3 : List UInt8 := [182, 1, 114, 132, 2, 1, 167, 255, 238, 3, 61, 28, 6, 163, 0, 18, 42, 42, 28, 182, 1, 120]
abbrev dktX0_mixCycles_3 : List UInt8 := dkwX0_mixCycles_3 ++ dktX0_mixCycles_4
def dkwX0_mixCycles_2 : List UInt8 := [43, 182, 0, 203, 133, 182, 1, 114, 3, 61, 28, 5, 163, 0, 19, 42, 42, 28, 182, 1, 117, 133]
abbrev dktX0_mixCycles_2 : List UInt8 := dkwX0_mixCycles_2 ++ dktX0_mixCycles_3
def dkwX0_mixCycles_1 : List UInt8 := [43, 180, 0, 253, 28, 47, 182, 1, 114, 132, 2, 1, 167, 255, 227, 42, 43, 199, 0, 7, 9, 167, 0, 8]
abbrev dktX0_mixCycles_1 : List UInt8 := dkwX0_mixCycles_1 ++ dktX0_mixCycles_2
def dkwX0_mixCycles_0 : List UInt8 := [42, 182, 0, 197, 76, 3, 61, 28, 16, 8, 162, 0, 29, 42, 43, 199, 0, 9, 20, 0, 251, 167, 0, 9]
abbrev dktX0_mixCycles_0 : List UInt8 := dkwX0_mixCycles_0 ++ dktX0_mixCycles_1
theorem dksX0_mixCycles_0 : cX0_mixCycles.data.toList.drop 0 = dktX0_mixCycles_0 := by decide +kernel
theorem dksX0_mixCycles_1 : cX0_mixCycles.data.toList.drop 24 = dktX0_mixCycles_1 := dk_seg dksX0_mixCycles_0 24 rfl rfl
theorem dksX0_mixCycles_2 : cX0_mixCycles.data.toList.drop 48 = dktX0_mixCycles_2 := dk_seg dksX0_mixCycles_1 24 rfl rfl
theorem dksX0_mixCycles_3 : cX0_mixCycles.data.toList.drop 70 = dktX0_mixCycles_3 := dk_seg dksX0_mixCycles_2 22 rfl rfl
theorem dksX0_mixCycles_4 : cX0_mixCycles.data.toList.drop 92 = dktX0_mixCycles_4 := dk_seg dksX0_mixCycles_3 22 rfl rfl
theorem dX0_mixCycles_0 : decode cX0_mixCycles 0 = .ok (.aload_n 0, 1) := dk_42 (dk_at dksX0_mixCycles_0 0 rfl rfl)
theorem dX0_mixCycles_1 : decode cX0_mixCycles 1 = .ok (.invokevirtual 197, 3) := dk_182 0 197 (dk_at dksX0_mixCycles_0 1 rfl rfl)
theorem dX0_mixCycles_4 : decode cX0_mixCycles 4 = .ok (.astore_n 1, 1) := dk_76 (dk_at dksX0_mixCycles_0 4 rfl rfl)
theorem dX0_mixCycles_5 : decode cX0_mixCycles 5 = .ok (.iconst 0, 1) := dk_3 (dk_at dksX0_mixCycles_0 5 rfl rfl)
theorem dX0_mixCycles_6 : decode cX0_mixCycles 6 = .ok (.istore_n 2, 1) := dk_61 (dk_at dksX0_mixCycles_0 6 rfl rfl)
theorem dX0_mixCycles_7 : decode cX0_mixCycles 7 = .ok (.iload_n 2, 1) := dk_28 (dk_at dksX0_mixCycles_0 7 rfl rfl)
theorem dX0_mixCycles_8 : decode cX0_mixCycles 8 = .ok (.bipush 8, 2) := dk_16 8 (dk_at dksX0_mixCycles_0 8 rfl rfl)
theorem dX0_mixCycles_10 : decode cX0_mixCycles 10 = .ok (.if_icmp .ge 29, 3) := dk_162 0 29 (dk_at dksX0_mixCycles_0 10 rfl rfl)
theorem dX0_mixCycles_13 : decode cX0_mixCycles 13 = .ok (.aload_n 0, 1) := dk_42 (dk_at dksX0_mixCycles_0 13 rfl rfl)
theorem dX0_mixCycles_14 : decode cX0_mixCycles 14 = .ok (.aload_n 1, 1) := dk_43 (dk_at dksX0_mixCycles_0 14 rfl rfl)
theorem dX0_mixCycles_15 : decode cX0_mixCycles 15 = .ok (.ifnonnull 9, 3) := dk_199 0 9 (dk_at dksX0_mixCycles_0 15 rfl rfl)
theorem dX0_mixCycles_18 : decode cX0_mixCycles 18 = .ok (.ldc2_w 251, 3) := dk_20 0 251 (dk_at dksX0_mixCycles_0 18 rfl rfl)
theorem dX0_mixCycles_21 : decode cX0_mixCycles 21 = .ok (.goto 9, 3) := dk_167 0 9 (dk_at dksX0_mixCycles_0 21 rfl rfl)
theorem dX0_mixCycles_24 : decode cX0_mixCycles 24 = .ok (.aload_n 1, 1) := dk_43 (dk_at dksX0_mixCycles_1 0 rfl rfl)
theorem dX0_mixCycles_25 : decode cX0_mixCycles 25 = .ok (.getfield 253, 3) := dk_180 0 253 (dk_at dksX0_mixCycles_1 1 rfl rfl)
theorem dX0_mixCycles_28 : decode cX0_mixCycles 28 = .ok (.iload_n 2, 1) := dk_28 (dk_at dksX0_mixCycles_1 4 rfl rfl)
theorem dX0_mixCycles_29 : decode cX0_mixCycles 29 = .ok (.laload, 1) := dk_47 (dk_at dksX0_mixCycles_1 5 rfl rfl)
theorem dX0_mixCycles_30 : decode cX0_mixCycles 30 = .ok (.invokevirtual 370, 3) := dk_182 1 114 (dk_at dksX0_mixCycles_1 6 rfl rfl)
theorem dX0_mixCycles_33 : decode cX0_mixCycles 33 = .ok (.iinc 2 1, 3) := dk_132 2 1 (dk_at dksX0_mixCycles_1 9 rfl rfl)
theorem dX0_mixCycles_36 : decode cX0_mixCycles 36 = .ok (.goto (-29), 3) := dk_167 255 227 (dk_at dksX0_mixCycles_1 12 rfl rfl)
theorem dX0_mixCycles_39 : decode cX0_mixCycles 39 = .ok (.aload_n 0, 1) := dk_42 (dk_at dksX0_mixCycles_1 15 rfl rfl)
theorem dX0_mixCycles_40 : decode cX0_mixCycles 40 = .ok (.aload_n 1, 1) := dk_43 (dk_at dksX0_mixCycles_1 16 rfl rfl)
theorem dX0_mixCycles_41 : decode cX0_mixCycles 41 = .ok (.ifnonnull 7, 3) := dk_199 0 7 (dk_at dksX0_mixCycles_1 17 rfl rfl)
theorem dX0_mixCycles_44 : decode cX0_mixCycles 44 = .ok (.lconst 0, 1) := dk_9 (dk_at dksX0_mixCycles_1 20 rfl rfl)
theorem dX0_mixCycles_45 : decode cX0_mixCycles 45 = .ok (.goto 8, 3) := dk_167 0 8 (dk_at dksX0_mixCycles_1 21 rfl rfl)
theorem dX0_mixCycles_48 : decode cX0_mixCycles 48 = .ok (.aload_n 1, 1) := dk_43 (dk_at dksX0_mixCycles_2 0 rfl rfl)
theorem dX0_mixCycles_49 : decode cX0_mixCycles 49 = .ok (.invokevirtual 203, 3) := dk_182 0 203 (dk_at dksX0_mixCycles_2 1 rfl rfl)
theorem dX0_mixCycles_52 : decode cX0_mixCycles 52 = .ok (.i2l, 1) := dk_133 (dk_at dksX0_mixCycles_2 4 rfl rfl)
theorem dX0_mixCycles_53 : decode cX0_mixCycles 53 = .ok (.invokevirtual 370, 3) := dk_182 1 114 (dk_at dksX0_mixCycles_2 5 rfl rfl)
theorem dX0_mixCycles_56 : decode cX0_mixCycles 56 = .ok (.iconst 0, 1) := dk_3 (dk_at dksX0_mixCycles_2 8 rfl rfl)
theorem dX0_mixCycles_57 : decode cX0_mixCycles 57 = .ok (.istore_n 2, 1) := dk_61 (dk_at dksX0_mixCycles_2 9 rfl rfl)
theorem dX0_mixCycles_58 : decode cX0_mixCycles 58 = .ok (.iload_n 2, 1) := dk_28 (dk_at dksX0_mixCycles_2 10 rfl rfl)
theorem dX0_mixCycles_59 : decode cX0_mixCycles 59 = .ok (.iconst 2, 1) := dk_5 (dk_at dksX0_mixCycles_2 11 rfl rfl)
theorem dX0_mixCycles_60 : decode cX0_mixCycles 60 = .ok (.if_icmp .gt 19, 3) := dk_163 0 19 (dk_at dksX0_mixCycles_2 12 rfl rfl)
theorem dX0_mixCycles_63 : decode cX0_mixCycles 63 = .ok (.aload_n 0, 1) := dk_42 (dk_at dksX0_mixCycles_2 15 rfl rfl)
theorem dX0_mixCycles_64 : decode cX0_mixCycles 64 = .ok (.aload_n 0, 1) := dk_42 (dk_at dksX0_mixCycles_2 16 rfl rfl)
theorem dX0_mixCycles_65 : decode cX0_mixCycles 65 = .ok (.iload_n 2, 1) := dk_28 (dk_at dksX0_mixCycles_2 17 rfl rfl)
theorem dX0_mixCycles_66 : decode cX0_mixCycles 66 = .ok (.invokevirtual 373, 3) := dk_182 1 117 (dk_at dksX0_mixCycles_2 18 rfl rfl)
theorem dX0_mixCycles_69 : decode cX0_mixCycles 69 = .ok (.i2l, 1) := dk_133 (dk_at dksX0_mixCycles_2 21 rfl rfl)
theorem dX0_mixCycles_70 : decode cX0_mixCycles 70 = .ok (.invokevirtual 370, 3) := dk_182 1 114 (dk_at dksX0_mixCycles_3 0 rfl rfl)
theorem dX0_mixCycles_73 : decode cX0_mixCycles 73 = .ok (.iinc 2 1, 3) := dk_132 2 1 (dk_at dksX0_mixCycles_3 3 rfl rfl)
theorem dX0_mixCycles_76 : decode cX0_mixCycles 76 = .ok (.goto (-18), 3) := dk_167 255 238 (dk_at dksX0_mixCycles_3 6 rfl rfl)
theorem dX0_mixCycles_79 : decode cX0_mixCycles 79 = .ok (.iconst 0, 1) := dk_3 (dk_at dksX0_mixCycles_3 9 rfl rfl)
theorem dX0_mixCycles_80 : decode cX0_mixCycles 80 = .ok (.istore_n 2, 1) := dk_61 (dk_at dksX0_mixCycles_3 10 rfl rfl)
theorem dX0_mixCycles_81 : decode cX0_mixCycles 81 = .ok (.iload_n 2, 1) := dk_28 (dk_at dksX0_mixCycles_3 11 rfl rfl)
theorem dX0_mixCycles_82 : decode cX0_mixCycles 82 = .ok (.iconst 3, 1) := dk_6 (dk_at dksX0_mixCycles_3 12 rfl rfl)
theorem dX0_mixCycles_83 : decode cX0_mixCycles 83 = .ok (.if_icmp .gt 18, 3) := dk_163 0 18 (dk_at dksX0_mixCycles_3 13 rfl rfl)
theorem dX0_mixCycles_86 : decode cX0_mixCycles 86 = .ok (.aload_n 0, 1) := dk_42 (dk_at dksX0_mixCycles_3 16 rfl rfl)
theorem dX0_mixCycles_87 : decode cX0_mixCycles 87 = .ok (.aload_n 0, 1) := dk_42 (dk_at dksX0_mixCycles_3 17 rfl rfl)
theorem dX0_mixCycles_88 : decode cX0_mixCycles 88 = .ok (.iload_n 2, 1) := dk_28 (dk_at dksX0_mixCycles_3 18 rfl rfl)
theorem dX0_mixCycles_89 : decode cX0_mixCycles 89 = .ok (.invokevirtual 376, 3) := dk_182 1 120 (dk_at dksX0_mixCycles_3 19 rfl rfl)
theorem dX0_mixCycles_92 : decode cX0_mixCycles 92 = .ok (.invokevirtual 370, 3) := dk_182 1 114 (dk_at dksX0_mixCycles_4 0 rfl rfl)
theorem dX0_mixCycles_95 : decode cX0_mixCycles 95 = .ok (.iinc 2 1, 3) := dk_132 2 1 (dk_at dksX0_mixCycles_4 3 rfl rfl)
theorem dX0_mixCycles_98 : decode cX0_mixCycles 98 = .ok (.goto (-17), 3) := dk_167 255 239 (dk_at dksX0_mixCycles_4 6 rfl rfl)
theorem dX0_mixCycles_101 : decode cX0_mixCycles 101 = .ok (.return_, 1) := dk_177 (dk_at dksX0_mixCycles_4 9 rfl rfl)
theorem q65 : (Jvm.Cond.initialized "RatioGraph") ∈ lw_all := lw_g (lw_at lw_m1 1 rfl) rfl
theorem q100 : (Jvm.Cond.instantiable "RatioGraph" (8 : Nat)) ∈ lw_all := lw_g (lw_at lw_m1 36 rfl) rfl
theorem q102 : (Jvm.Cond.instanceMethod ({ cls := "RatioGraph", name := "<init>", desc := "()V" } : Jvm.MethodName)) ∈ lw_all := lw_g (lw_at lw_m1 38 rfl) rfl
theorem q103 : (Jvm.Cond.code ({ cls := "RatioGraph", name := "<init>", desc := "()V" } : Jvm.MethodName) prog_1_method_3_code (1 : Nat) (Option.none : Option Jvm.ClassFile.FieldType)) ∈ lw_all := lw_g (lw_at lw_m1 39 rfl) rfl
theorem q104 : (Jvm.Cond.methodLink "RatioGraph" (9 : Nat) ({ cls := "java/lang/Object", name := "<init>", desc := "()V" } : Jvm.MethodName)) ∈ lw_all := lw_g (lw_at lw_m1 40 rfl) rfl
theorem q107 : (Jvm.Cond.classLink "RatioGraph" (15 : Nat) "java/util/ArrayList") ∈ lw_all := lw_g (lw_at lw_m1 43 rfl) rfl
theorem q109 : (Jvm.Cond.methodLink "RatioGraph" (17 : Nat) ({ cls := "java/util/ArrayList", name := "<init>", desc := "(I)V" } : Jvm.MethodName)) ∈ lw_all := lw_g (lw_at lw_m1 45 rfl) rfl
theorem q137 : (Jvm.Cond.classLink "RatioGraph" (24 : Nat) "java/util/LinkedList") ∈ lw_all := lw_g (lw_at lw_m1 73 rfl) rfl
theorem q139 : (Jvm.Cond.methodLink "RatioGraph" (26 : Nat) ({ cls := "java/util/LinkedList", name := "<init>", desc := "()V" } : Jvm.MethodName)) ∈ lw_all := lw_g (lw_at lw_m1 75 rfl) rfl
theorem q159 : (Jvm.Cond.fieldLink "RatioGraph" (20 : Nat) "RatioGraph" "edges" "Ljava/util/ArrayList;") ∈ lw_all := lw_g (lw_at lw_m1 95 rfl) rfl
theorem q161 : (Jvm.Cond.fieldLink "RatioGraph" (27 : Nat) "RatioGraph" "history" "Ljava/util/LinkedList;") ∈ lw_all := lw_g (lw_at lw_m1 97 rfl) rfl
theorem q162 : (Jvm.Cond.fieldLink "RatioGraph" (31 : Nat) "RatioGraph" "marks" "[I") ∈ lw_all := lw_g (lw_at lw_m1 98 rfl) rfl
theorem q164 : (Jvm.Cond.fieldLink "RatioGraph" (35 : Nat) "RatioGraph" "text" "[B") ∈ lw_all := lw_g (lw_at lw_m1 100 rfl) rfl
theorem q166 : (Jvm.Cond.fieldLink "RatioGraph" (127 : Nat) "RatioGraph" "textLength" "I") ∈ lw_all := lw_g (lw_at lw_m1 102 rfl) rfl
theorem q167 : (Jvm.Cond.fieldLink "RatioGraph" (145 : Nat) "RatioGraph" "found" "LRatioGraph$Finding;") ∈ lw_all := lw_g (lw_at lw_m1 103 rfl) rfl
theorem q168 : (Jvm.Cond.fieldLink "RatioGraph" (326 : Nat) "RatioGraph" "pieces" "Ljava/util/ArrayList;") ∈ lw_all := lw_g (lw_at lw_m1 104 rfl) rfl
theorem q169 : (Jvm.Cond.fieldLink "RatioGraph" (367 : Nat) "RatioGraph" "hash" "J") ∈ lw_all := lw_g (lw_at lw_m1 105 rfl) rfl
theorem q170 : (Jvm.Cond.lays "RatioGraph" "RatioGraph" "edges" "Ljava/util/ArrayList;") ∈ lw_all := lw_g (lw_at lw_m1 106 rfl) rfl
theorem q171 : (Jvm.Cond.soleField "RatioGraph" "edges") ∈ lw_all := lw_g (lw_at lw_m1 107 rfl) rfl
theorem q172 : (Jvm.Cond.laysFinal "RatioGraph" "RatioGraph" "history" "Ljava/util/LinkedList;") ∈ lw_all := lw_g (lw_at lw_m1 108 rfl) rfl
theorem q173 : (Jvm.Cond.soleField "RatioGraph" "history") ∈ lw_all := lw_g (lw_at lw_m1 109 rfl) rfl
theorem q174 : (Jvm.Cond.laysFinal "RatioGraph" "RatioGraph" "marks" "[I") ∈ lw_all := lw_g (lw_at lw_m1 110 rfl) rfl
theorem q175 : (Jvm.Cond.soleField "RatioGraph" "marks") ∈ lw_all := lw_g (lw_at lw_m1 111 rfl) rfl
theorem q176 : (Jvm.Cond.laysFinal "RatioGraph" "RatioGraph" "text" "[B") ∈ lw_all := lw_g (lw_at lw_m1 112 rfl) rfl
theorem q177 : (Jvm.Cond.soleField "RatioGraph" "text") ∈ lw_all := lw_g (lw_at lw_m1 113 rfl) rfl
theorem q178 : (Jvm.Cond.lays "RatioGraph" "RatioGraph" "textLength" "I") ∈ lw_all := lw_g (lw_at lw_m1 114 rfl) rfl
theorem q179 : (Jvm.Cond.soleField "RatioGraph" "textLength") ∈ lw_all := lw_g (lw_at lw_m1 115 rfl) rfl
theorem q180 : (Jvm.Cond.lays "RatioGraph" "RatioGraph" "found" "LRatioGraph$Finding;") ∈ lw_all := lw_g (lw_at lw_m1 116 rfl) rfl
theorem q181 : (Jvm.Cond.soleField "RatioGraph" "found") ∈ lw_all := lw_g (lw_at lw_m1 117 rfl) rfl
theorem q182 : (Jvm.Cond.lays "RatioGraph" "RatioGraph" "pieces" "Ljava/util/ArrayList;") ∈ lw_all := lw_g (lw_at lw_m1 118 rfl) rfl
theorem q183 : (Jvm.Cond.soleField "RatioGraph" "pieces") ∈ lw_all := lw_g (lw_at lw_m1 119 rfl) rfl
theorem q184 : (Jvm.Cond.lays "RatioGraph" "RatioGraph" "hash" "J") ∈ lw_all := lw_g (lw_at lw_m1 120 rfl) rfl
theorem q185 : (Jvm.Cond.soleField "RatioGraph" "hash") ∈ lw_all := lw_g (lw_at lw_m1 121 rfl) rfl
theorem q186 : (Jvm.Cond.superclass "RatioGraph" "java/lang/Object") ∈ lw_all := lw_g (lw_at lw_m1 122 rfl) rfl
theorem q190 : (Jvm.Cond.instanceMethod ({ cls := "RatioGraph", name := "addEdge", desc := "(IIIII)I" } : Jvm.MethodName)) ∈ lw_all := lw_g (lw_at lw_m1 126 rfl) rfl
theorem q191 : (Jvm.Cond.selects "RatioGraph" ({ cls := "RatioGraph", name := "addEdge", desc := "(IIIII)I" } : Jvm.MethodName) ({ cls := "RatioGraph", name := "addEdge", desc := "(IIIII)I" } : Jvm.MethodName)) ∈ lw_all := lw_g (lw_at lw_m1 127 rfl) rfl
theorem q192 : (Jvm.Cond.code ({ cls := "RatioGraph", name := "addEdge", desc := "(IIIII)I" } : Jvm.MethodName) prog_1_method_6_code (6 : Nat) (Option.some Jvm.ClassFile.FieldType.int)) ∈ lw_all := lw_g (lw_at lw_m1 128 rfl) rfl
theorem q193 : (Jvm.Cond.methodLink "RatioGraph" (55 : Nat) ({ cls := "RatioGraph", name := "areNodes", desc := "([I)Z" } : Jvm.MethodName)) ∈ lw_all := lw_g (lw_at lw_m1 129 rfl) rfl
theorem q194 : (Jvm.Cond.static ({ cls := "RatioGraph", name := "areNodes", desc := "([I)Z" } : Jvm.MethodName)) ∈ lw_all := lw_g (lw_at lw_m1 130 rfl) rfl
theorem q195 : (Jvm.Cond.code ({ cls := "RatioGraph", name := "areNodes", desc := "([I)Z" } : Jvm.MethodName) prog_1_method_2_code (6 : Nat) (Option.some Jvm.ClassFile.FieldType.boolean)) ∈ lw_all := lw_g (lw_at lw_m1 131 rfl) rfl
theorem q196 : (Jvm.Cond.constantLong "RatioGraph" (3 : Nat) (7 : Int64)) ∈ lw_all := lw_g (lw_at lw_m1 132 rfl) rfl
theorem q197 : (Jvm.Cond.methodLink "RatioGraph" (5 : Nat) ({ cls := "RatioGraph", name := "isIn", desc := "(JJJ)Z" } : Jvm.MethodName)) ∈ lw_all := lw_g (lw_at lw_m1 133 rfl) rfl
theorem q198 : (Jvm.Cond.static ({ cls := "RatioGraph", name := "isIn", desc := "(JJJ)Z" } : Jvm.MethodName)) ∈ lw_all := lw_g (lw_at lw_m1 134 rfl) rfl
theorem q199 : (Jvm.Cond.code ({ cls := "RatioGraph", name := "isIn", desc := "(JJJ)Z" } : Jvm.MethodName) prog_1_method_1_code (6 : Nat) (Option.some Jvm.ClassFile.FieldType.boolean)) ∈ lw_all := lw_g (lw_at lw_m1 135 rfl) rfl
theorem q200 : (Jvm.Cond.methodLink "RatioGraph" (59 : Nat) ({ cls := "RatioGraph$Edge", name := "fits", desc := "(II)Z" } : Jvm.MethodName)) ∈ lw_all := lw_g (lw_at lw_m1 136 rfl) rfl
theorem q208 : (Jvm.Cond.constant "RatioGraph" (65 : Nat) (-1000002 : Int32)) ∈ lw_all := lw_g (lw_at lw_m1 144 rfl) rfl
theorem q209 : (Jvm.Cond.methodLink "RatioGraph" (54 : Nat) ({ cls := "java/util/ArrayList", name := "size", desc := "()I" } : Jvm.MethodName)) ∈ lw_all := lw_g (lw_at lw_m1 145 rfl) rfl
theorem q213 : (Jvm.Cond.constant "RatioGraph" (66 : Nat) (-1000004 : Int32)) ∈ lw_all := lw_g (lw_at lw_m1 149 rfl) rfl
theorem q214 : (Jvm.Cond.methodLink "RatioGraph" (67 : Nat) ({ cls := "RatioGraph", name := "note", desc := "()V" } : Jvm.MethodName)) ∈ lw_all := lw_g (lw_at lw_m1 150 rfl) rfl
theorem q215 : (Jvm.Cond.privateMethod ({ cls := "RatioGraph", name := "note", desc := "()V" } : Jvm.MethodName)) ∈ lw_tbl := lw_at lw_m1 151 rfl
theorem q216 : (Jvm.Cond.instanceMethod ({ cls := "RatioGraph", name := "note", desc := "()V" } : Jvm.MethodName)) ∈ lw_all := lw_g (lw_at lw_m1 152 rfl) rfl
theorem q217 : (Jvm.Cond.code ({ cls := "RatioGraph", name := "note", desc := "()V" } : Jvm.MethodName) prog_1_method_4_code (1 : Nat) (Option.none : Option Jvm.ClassFile.FieldType)) ∈ lw_all := lw_g (lw_at lw_m1 153 rfl) rfl
theorem q218 : (Jvm.Cond.methodLink "RatioGraph" (39 : Nat) ({ cls := "java/util/LinkedList", name := "addLast", desc := "(Ljava/lang/Object;)V" } : Jvm.MethodName)) ∈ lw_all := lw_g (lw_at lw_m1 154 rfl) rfl
theorem q245 : (Jvm.Cond.methodLink "RatioGraph" (43 : Nat) ({ cls := "java/util/ArrayList", name := "<init>", desc := "(Ljava/util/Collection;)V" } : Jvm.MethodName)) ∈ lw_all := lw_g (lw_at lw_m1 181 rfl) rfl
theorem q264 : (Jvm.Cond.selects "RatioGraph" ({ cls := "java/lang/Object", name := "getClass", desc := "()Ljava/lang/Class;" } : Jvm.MethodName) ({ cls := "java/lang/Object", name := "getClass", desc := "()Ljava/lang/Class;" } : Jvm.MethodName)) ∈ lw_all := lw_g (lw_at lw_m1 200 rfl) rfl
theorem q313 : (Jvm.Cond.methodLink "RatioGraph" (46 : Nat) ({ cls := "java/util/LinkedList", name := "size", desc := "()I" } : Jvm.MethodName)) ∈ lw_all := lw_g (lw_at lw_m2 9 rfl) rfl
theorem q317 : (Jvm.Cond.methodLink "RatioGraph" (50 : Nat) ({ cls := "java/util/LinkedList", name := "removeFirst", desc := "()Ljava/lang/Object;" } : Jvm.MethodName)) ∈ lw_all := lw_g (lw_at lw_m2 13 rfl) rfl
theorem q325 : (Jvm.Cond.classLink "RatioGraph" (60 : Nat) "RatioGraph$Edge") ∈ lw_all := lw_g (lw_at lw_m2 21 rfl) rfl
theorem q327 : (Jvm.Cond.methodLink "RatioGraph" (70 : Nat) ({ cls := "RatioGraph$Edge", name := "<init>", desc := "(IIIII)V" } : Jvm.MethodName)) ∈ lw_all := lw_g (lw_at lw_m2 23 rfl) rfl
theorem q338 : (Jvm.Cond.fieldLinkNest "RatioGraph" (157 : Nat) "RatioGraph$Edge" "from" "I" "RatioGraph") ∈ lw_tbl := lw_at lw_m2 34 rfl
theorem q343 : (Jvm.Cond.fieldLinkNest "RatioGraph" (160 : Nat) "RatioGraph$Edge" "to" "I" "RatioGraph") ∈ lw_tbl := lw_at lw_m2 39 rfl
theorem q347 : (Jvm.Cond.fieldLinkNest "RatioGraph" (163 : Nat) "RatioGraph$Edge" "weight" "I" "RatioGraph") ∈ lw_tbl := lw_at lw_m2 43 rfl
theorem q355 : (Jvm.Cond.fieldLinkNest "RatioGraph" (105 : Nat) "RatioGraph$Edge" "top" "I" "RatioGraph") ∈ lw_tbl := lw_at lw_m2 51 rfl
theorem q359 : (Jvm.Cond.fieldLinkNest "RatioGraph" (109 : Nat) "RatioGraph$Edge" "bottom" "I" "RatioGraph") ∈ lw_tbl := lw_at lw_m2 55 rfl
theorem q375 : (Jvm.Cond.methodLink "RatioGraph" (73 : Nat) ({ cls := "java/util/ArrayList", name := "add", desc := "(Ljava/lang/Object;)Z" } : Jvm.MethodName)) ∈ lw_all := lw_g (lw_at lw_m2 71 rfl) rfl
theorem q405 : (Jvm.Cond.instanceMethod ({ cls := "RatioGraph", name := "removeEdge", desc := "(I)I" } : Jvm.MethodName)) ∈ lw_all := lw_g (lw_at lw_m2 101 rfl) rfl
theorem q406 : (Jvm.Cond.selects "RatioGraph" ({ cls := "RatioGraph", name := "removeEdge", desc := "(I)I" } : Jvm.MethodName) ({ cls := "RatioGraph", name := "removeEdge", desc := "(I)I" } : Jvm.MethodName)) ∈ lw_all := lw_g (lw_at lw_m2 102 rfl) rfl
theorem q407 : (Jvm.Cond.code ({ cls := "RatioGraph", name := "removeEdge", desc := "(I)I" } : Jvm.MethodName) prog_1_method_7_code (2 : Nat) (Option.some Jvm.ClassFile.FieldType.int)) ∈ lw_all := lw_g (lw_at lw_m2 103 rfl) rfl
theorem q408 : (Jvm.Cond.methodLink "RatioGraph" (77 : Nat) ({ cls := "RatioGraph", name := "isEdge", desc := "(I)Z" } : Jvm.MethodName)) ∈ lw_all := lw_g (lw_at lw_m2 104 rfl) rfl
theorem q409 : (Jvm.Cond.privateMethod ({ cls := "RatioGraph", name := "isEdge", desc := "(I)Z" } : Jvm.MethodName)) ∈ lw_tbl := lw_at lw_m2 105 rfl
theorem q410 : (Jvm.Cond.instanceMethod ({ cls := "RatioGraph", name := "isEdge", desc := "(I)Z" } : Jvm.MethodName)) ∈ lw_all := lw_g (lw_at lw_m2 106 rfl) rfl
theorem q411 : (Jvm.Cond.code ({ cls := "RatioGraph", name := "isEdge", desc := "(I)Z" } : Jvm.MethodName) prog_1_method_5_code (2 : Nat) (Option.some Jvm.ClassFile.FieldType.boolean)) ∈ lw_all := lw_g (lw_at lw_m2 107 rfl) rfl
theorem q412 : (Jvm.Cond.methodLink "RatioGraph" (81 : Nat) ({ cls := "java/util/ArrayList", name := "remove", desc := "(I)Ljava/lang/Object;" } : Jvm.MethodName)) ∈ lw_all := lw_g (lw_at lw_m2 108 rfl) rfl
theorem q428 : (Jvm.Cond.instanceMethod ({ cls := "RatioGraph", name := "setEdge", desc := "(III)I" } : Jvm.MethodName)) ∈ lw_all := lw_g (lw_at lw_m2 124 rfl) rfl
theorem q429 : (Jvm.Cond.selects "RatioGraph" ({ cls := "RatioGraph", name := "setEdge", desc := "(III)I" } : Jvm.MethodName) ({ cls := "RatioGraph", name := "setEdge", desc := "(III)I" } : Jvm.MethodName)) ∈ lw_all := lw_g (lw_at lw_m2 125 rfl) rfl
theorem q430 : (Jvm.Cond.code ({ cls := "RatioGraph", name := "setEdge", desc := "(III)I" } : Jvm.MethodName) prog_1_method_8_code (5 : Nat) (Option.some Jvm.ClassFile.FieldType.int)) ∈ lw_all := lw_g (lw_at lw_m2 126 rfl) rfl
theorem q431 : (Jvm.Cond.methodLink "RatioGraph" (85 : Nat) ({ cls := "java/util/ArrayList", name := "get", desc := "(I)Ljava/lang/Object;" } : Jvm.MethodName)) ∈ lw_all := lw_g (lw_at lw_m2 127 rfl) rfl
theorem q439 : (Jvm.Cond.methodLink "RatioGraph" (88 : Nat) ({ cls := "RatioGraph$Edge", name := "with", desc := "(II)LRatioGraph$Edge;" } : Jvm.MethodName)) ∈ lw_all := lw_g (lw_at lw_m2 135 rfl) rfl
theorem q444 : (Jvm.Cond.methodLink "RatioGraph" (92 : Nat) ({ cls := "java/util/ArrayList", name := "set", desc := "(ILjava/lang/Object;)Ljava/lang/Object;" } : Jvm.MethodName)) ∈ lw_all := lw_g (lw_at lw_m2 140 rfl) rfl
theorem q448 : (Jvm.Cond.methodLink "RatioGraph" (96 : Nat) ({ cls := "RatioGraph$Edge", name := "part", desc := "(I)I" } : Jvm.MethodName)) ∈ lw_all := lw_g (lw_at lw_m2 144 rfl) rfl
theorem q453 : (Jvm.Cond.instanceMethod ({ cls := "RatioGraph", name := "setRate", desc := "(III)I" } : Jvm.MethodName)) ∈ lw_all := lw_g (lw_at lw_m2 149 rfl) rfl
theorem q454 : (Jvm.Cond.selects "RatioGraph" ({ cls := "RatioGraph", name := "setRate", desc := "(III)I" } : Jvm.MethodName) ({ cls := "RatioGraph", name := "setRate", desc := "(III)I" } : Jvm.MethodName)) ∈ lw_all := lw_g (lw_at lw_m2 150 rfl) rfl
theorem q455 : (Jvm.Cond.code ({ cls := "RatioGraph", name := "setRate", desc := "(III)I" } : Jvm.MethodName) prog_1_method_9_code (5 : Nat) (Option.some Jvm.ClassFile.FieldType.int)) ∈ lw_all := lw_g (lw_at lw_m2 151 rfl) rfl
theorem q456 : (Jvm.Cond.constantLong "RatioGraph" (100 : Nat) (30 : Int64)) ∈ lw_all := lw_g (lw_at lw_m2 152 rfl) rfl
theorem q457 : (Jvm.Cond.methodLink "RatioGraph" (102 : Nat) ({ cls := "RatioGraph$Edge", name := "at", desc := "(II)LRatioGraph$Edge;" } : Jvm.MethodName)) ∈ lw_all := lw_g (lw_at lw_m2 153 rfl) rfl
theorem q462 : (Jvm.Cond.instanceMethod ({ cls := "RatioGraph", name := "edge", desc := "(II)I" } : Jvm.MethodName)) ∈ lw_all := lw_g (lw_at lw_m2 158 rfl) rfl
theorem q463 : (Jvm.Cond.selects "RatioGraph" ({ cls := "RatioGraph", name := "edge", desc := "(II)I" } : Jvm.MethodName) ({ cls := "RatioGraph", name := "edge", desc := "(II)I" } : Jvm.MethodName)) ∈ lw_all := lw_g (lw_at lw_m2 159 rfl) rfl
theorem q464 : (Jvm.Cond.code ({ cls := "RatioGraph", name := "edge", desc := "(II)I" } : Jvm.MethodName) prog_1_method_10_code (3 : Nat) (Option.some Jvm.ClassFile.FieldType.int)) ∈ lw_all := lw_g (lw_at lw_m2 160 rfl) rfl
theorem q465 : (Jvm.Cond.constantLong "RatioGraph" (112 : Nat) (6 : Int64)) ∈ lw_all := lw_g (lw_at lw_m2 161 rfl) rfl
theorem q467 : (Jvm.Cond.instanceMethod ({ cls := "RatioGraph", name := "clear", desc := "()I" } : Jvm.MethodName)) ∈ lw_all := lw_g (lw_at lw_m2 163 rfl) rfl
theorem q468 : (Jvm.Cond.selects "RatioGraph" ({ cls := "RatioGraph", name := "clear", desc := "()I" } : Jvm.MethodName) ({ cls := "RatioGraph", name := "clear", desc := "()I" } : Jvm.MethodName)) ∈ lw_all := lw_g (lw_at lw_m2 164 rfl) rfl
theorem q469 : (Jvm.Cond.code ({ cls := "RatioGraph", name := "clear", desc := "()I" } : Jvm.MethodName) prog_1_method_11_code (2 : Nat) (Option.some Jvm.ClassFile.FieldType.int)) ∈ lw_all := lw_g (lw_at lw_m2 165 rfl) rfl
theorem q470 : (Jvm.Cond.methodLink "RatioGraph" (114 : Nat) ({ cls := "java/util/ArrayList", name := "clear", desc := "()V" } : Jvm.MethodName)) ∈ lw_all := lw_g (lw_at lw_m2 166 rfl) rfl
theorem q475 : (Jvm.Cond.instanceMethod ({ cls := "RatioGraph", name := "undo", desc := "()I" } : Jvm.MethodName)) ∈ lw_all := lw_g (lw_at lw_m2 171 rfl) rfl
theorem q476 : (Jvm.Cond.selects "RatioGraph" ({ cls := "RatioGraph", name := "undo", desc := "()I" } : Jvm.MethodName) ({ cls := "RatioGraph", name := "undo", desc := "()I" } : Jvm.MethodName)) ∈ lw_all := lw_g (lw_at lw_m2 172 rfl) rfl
theorem q477 : (Jvm.Cond.code ({ cls := "RatioGraph", name := "undo", desc := "()I" } : Jvm.MethodName) prog_1_method_12_code (1 : Nat) (Option.some Jvm.ClassFile.FieldType.int)) ∈ lw_all := lw_g (lw_at lw_m2 173 rfl) rfl
theorem q478 : (Jvm.Cond.methodLink "RatioGraph" (117 : Nat) ({ cls := "java/util/LinkedList", name := "isEmpty", desc := "()Z" } : Jvm.MethodName)) ∈ lw_all := lw_g (lw_at lw_m2 174 rfl) rfl
theorem q489 : (Jvm.Cond.constant "RatioGraph" (121 : Nat) (-1000003 : Int32)) ∈ lw_all := lw_g (lw_at lw_m2 185 rfl) rfl
theorem q490 : (Jvm.Cond.methodLink "RatioGraph" (122 : Nat) ({ cls := "java/util/LinkedList", name := "removeLast", desc := "()Ljava/lang/Object;" } : Jvm.MethodName)) ∈ lw_all := lw_g (lw_at lw_m2 186 rfl) rfl
theorem q499 : (Jvm.Cond.instanceMethod ({ cls := "RatioGraph", name := "type", desc := "(I)I" } : Jvm.MethodName)) ∈ lw_all := lw_g (lw_at lw_m2 195 rfl) rfl
theorem q500 : (Jvm.Cond.selects "RatioGraph" ({ cls := "RatioGraph", name := "type", desc := "(I)I" } : Jvm.MethodName) ({ cls := "RatioGraph", name := "type", desc := "(I)I" } : Jvm.MethodName)) ∈ lw_all := lw_g (lw_at lw_m2 196 rfl) rfl
theorem q501 : (Jvm.Cond.code ({ cls := "RatioGraph", name := "type", desc := "(I)I" } : Jvm.MethodName) prog_1_method_13_code (2 : Nat) (Option.some Jvm.ClassFile.FieldType.int)) ∈ lw_all := lw_g (lw_at lw_m2 197 rfl) rfl
theorem q502 : (Jvm.Cond.constantLong "RatioGraph" (125 : Nat) (127 : Int64)) ∈ lw_all := lw_g (lw_at lw_m2 198 rfl) rfl
theorem q504 : (Jvm.Cond.instanceMethod ({ cls := "RatioGraph", name := "clearText", desc := "()I" } : Jvm.MethodName)) ∈ lw_all := lw_g (lw_at lw_m2 200 rfl) rfl
theorem q505 : (Jvm.Cond.selects "RatioGraph" ({ cls := "RatioGraph", name := "clearText", desc := "()I" } : Jvm.MethodName) ({ cls := "RatioGraph", name := "clearText", desc := "()I" } : Jvm.MethodName)) ∈ lw_all := lw_g (lw_at lw_m2 201 rfl) rfl
theorem q506 : (Jvm.Cond.code ({ cls := "RatioGraph", name := "clearText", desc := "()I" } : Jvm.MethodName) prog_1_method_14_code (2 : Nat) (Option.some Jvm.ClassFile.FieldType.int)) ∈ lw_all := lw_g (lw_at lw_m2 202 rfl) rfl
theorem q508 : (Jvm.Cond.instanceMethod ({ cls := "RatioGraph", name := "fault", desc := "()I" } : Jvm.MethodName)) ∈ lw_all := lw_g (lw_at lw_m2 204 rfl) rfl
theorem q509 : (Jvm.Cond.selects "RatioGraph" ({ cls := "RatioGraph", name := "fault", desc := "()I" } : Jvm.MethodName) ({ cls := "RatioGraph", name := "fault", desc := "()I" } : Jvm.MethodName)) ∈ lw_all := lw_g (lw_at lw_m2 205 rfl) rfl
theorem q510 : (Jvm.Cond.codeWith ({ cls := "RatioGraph", name := "fault", desc := "()I" } : Jvm.MethodName) prog_1_method_15_code (2 : Nat) (Option.some Jvm.ClassFile.FieldType.int) [((0 : Nat), (14 : Nat), (15 : Nat), (140 : Nat))]) ∈ lw_all := lw_g (lw_at lw_m2 206 rfl) rfl
theorem q511 : (Jvm.Cond.classLink "RatioGraph" (140 : Nat) "RatioGraph$TextFault") ∈ lw_all := lw_g (lw_at lw_m2 207 rfl) rfl
theorem q512 : (Jvm.Cond.classLink "RatioGraph" (130 : Nat) "RatioGraph$GraphReader") ∈ lw_all := lw_g (lw_at lw_m2 208 rfl) rfl
theorem q514 : (Jvm.Cond.methodLinkNest "RatioGraph" (132 : Nat) ({ cls := "RatioGraph$GraphReader", name := "<init>", desc := "(LRatioGraph;)V" } : Jvm.MethodName) "RatioGraph") ∈ lw_tbl := lw_at lw_m2 210 rfl
theorem q538 : (Jvm.Cond.methodLink "RatioGraph" (135 : Nat) ({ cls := "RatioGraph$GraphReader", name := "read", desc := "()Ljava/util/ArrayList;" } : Jvm.MethodName)) ∈ lw_all := lw_g (lw_at lw_m2 234 rfl) rfl
theorem q598 : (Jvm.Cond.fieldLinkNest "RatioGraph" (142 : Nat) "RatioGraph$TextFault" "index" "I" "RatioGraph") ∈ lw_tbl := lw_at lw_m3 54 rfl
theorem q647 : (Jvm.Cond.constant "RatioGraph" (139 : Nat) (-1000001 : Int32)) ∈ lw_all := lw_g (lw_at lw_m3 103 rfl) rfl
theorem q649 : (Jvm.Cond.instanceMethod ({ cls := "RatioGraph", name := "load", desc := "()I" } : Jvm.MethodName)) ∈ lw_all := lw_g (lw_at lw_m3 105 rfl) rfl
theorem q650 : (Jvm.Cond.selects "RatioGraph" ({ cls := "RatioGraph", name := "load", desc := "()I" } : Jvm.MethodName) ({ cls := "RatioGraph", name := "load", desc := "()I" } : Jvm.MethodName)) ∈ lw_all := lw_g (lw_at lw_m3 106 rfl) rfl
theorem q651 : (Jvm.Cond.codeWith ({ cls := "RatioGraph", name := "load", desc := "()I" } : Jvm.MethodName) prog_1_method_16_code (3 : Nat) (Option.some Jvm.ClassFile.FieldType.int) [((0 : Nat), (12 : Nat), (15 : Nat), (140 : Nat))]) ∈ lw_all := lw_g (lw_at lw_m3 107 rfl) rfl
theorem q653 : (Jvm.Cond.instanceMethod ({ cls := "RatioGraph", name := "meanCycle", desc := "()I" } : Jvm.MethodName)) ∈ lw_all := lw_g (lw_at lw_m3 109 rfl) rfl
theorem q654 : (Jvm.Cond.selects "RatioGraph" ({ cls := "RatioGraph", name := "meanCycle", desc := "()I" } : Jvm.MethodName) ({ cls := "RatioGraph", name := "meanCycle", desc := "()I" } : Jvm.MethodName)) ∈ lw_all := lw_g (lw_at lw_m3 110 rfl) rfl
theorem q655 : (Jvm.Cond.code ({ cls := "RatioGraph", name := "meanCycle", desc := "()I" } : Jvm.MethodName) prog_1_method_22_code (2 : Nat) (Option.some Jvm.ClassFile.FieldType.int)) ∈ lw_all := lw_g (lw_at lw_m3 111 rfl) rfl
theorem q656 : (Jvm.Cond.methodLink "RatioGraph" (197 : Nat) ({ cls := "RatioGraph", name := "meanPotentials", desc := "()LRatioGraph$Potentials;" } : Jvm.MethodName)) ∈ lw_all := lw_g (lw_at lw_m3 112 rfl) rfl
theorem q657 : (Jvm.Cond.privateMethod ({ cls := "RatioGraph", name := "meanPotentials", desc := "()LRatioGraph$Potentials;" } : Jvm.MethodName)) ∈ lw_tbl := lw_at lw_m3 113 rfl
theorem q658 : (Jvm.Cond.instanceMethod ({ cls := "RatioGraph", name := "meanPotentials", desc := "()LRatioGraph$Potentials;" } : Jvm.MethodName)) ∈ lw_all := lw_g (lw_at lw_m3 114 rfl) rfl
theorem q659 : (Jvm.Cond.code ({ cls := "RatioGraph", name := "meanPotentials", desc := "()LRatioGraph$Potentials;" } : Jvm.MethodName) prog_1_method_21_code (3 : Nat) (Option.some (Jvm.ClassFile.FieldType.object "RatioGraph$Potentials"))) ∈ lw_all := lw_g (lw_at lw_m3 115 rfl) rfl
theorem q660 : (Jvm.Cond.methodLink "RatioGraph" (185 : Nat) ({ cls := "RatioGraph", name := "leastMean", desc := "()LRatioGraph$Fraction;" } : Jvm.MethodName)) ∈ lw_all := lw_g (lw_at lw_m3 116 rfl) rfl
theorem q661 : (Jvm.Cond.privateMethod ({ cls := "RatioGraph", name := "leastMean", desc := "()LRatioGraph$Fraction;" } : Jvm.MethodName)) ∈ lw_tbl := lw_at lw_m3 117 rfl
theorem q662 : (Jvm.Cond.instanceMethod ({ cls := "RatioGraph", name := "leastMean", desc := "()LRatioGraph$Fraction;" } : Jvm.MethodName)) ∈ lw_all := lw_g (lw_at lw_m3 118 rfl) rfl
theorem q663 : (Jvm.Cond.code ({ cls := "RatioGraph", name := "leastMean", desc := "()LRatioGraph$Fraction;" } : Jvm.MethodName) prog_1_method_19_code (5 : Nat) (Option.some (Jvm.ClassFile.FieldType.object "RatioGraph$Fraction"))) ∈ lw_all := lw_g (lw_at lw_m3 119 rfl) rfl
theorem q664 : (Jvm.Cond.classLink "RatioGraph" (153 : Nat) "[[J") ∈ lw_all := lw_g (lw_at lw_m3 120 rfl) rfl
theorem q666 : (Jvm.Cond.constantLong "RatioGraph" (155 : Nat) (1125899906842624 : Int64)) ∈ lw_all := lw_g (lw_at lw_m3 122 rfl) rfl
theorem q667 : (Jvm.Cond.methodLink "RatioGraph" (166 : Nat) ({ cls := "java/lang/Math", name := "min", desc := "(JJ)J" } : Jvm.MethodName)) ∈ lw_all := lw_g (lw_at lw_m3 123 rfl) rfl
theorem q670 : (Jvm.Cond.methodLink "RatioGraph" (172 : Nat) ({ cls := "RatioGraph", name := "greatestMean", desc := "([[JI)LRatioGraph$Fraction;" } : Jvm.MethodName)) ∈ lw_all := lw_g (lw_at lw_m3 126 rfl) rfl
theorem q671 : (Jvm.Cond.static ({ cls := "RatioGraph", name := "greatestMean", desc := "([[JI)LRatioGraph$Fraction;" } : Jvm.MethodName)) ∈ lw_all := lw_g (lw_at lw_m3 127 rfl) rfl
theorem q672 : (Jvm.Cond.code ({ cls := "RatioGraph", name := "greatestMean", desc := "([[JI)LRatioGraph$Fraction;" } : Jvm.MethodName) prog_1_method_20_code (5 : Nat) (Option.some (Jvm.ClassFile.FieldType.object "RatioGraph$Fraction"))) ∈ lw_all := lw_g (lw_at lw_m3 128 rfl) rfl
theorem q673 : (Jvm.Cond.classLink "RatioGraph" (177 : Nat) "RatioGraph$Fraction") ∈ lw_all := lw_g (lw_at lw_m3 129 rfl) rfl
theorem q675 : (Jvm.Cond.methodLink "RatioGraph" (182 : Nat) ({ cls := "RatioGraph$Fraction", name := "<init>", desc := "(JJ)V" } : Jvm.MethodName)) ∈ lw_all := lw_g (lw_at lw_m3 131 rfl) rfl
theorem q691 : (Jvm.Cond.fieldLinkNest "RatioGraph" (244 : Nat) "RatioGraph$Fraction" "n" "J" "RatioGraph") ∈ lw_tbl := lw_at lw_m3 147 rfl
theorem q698 : (Jvm.Cond.fieldLinkNest "RatioGraph" (248 : Nat) "RatioGraph$Fraction" "d" "J" "RatioGraph") ∈ lw_tbl := lw_at lw_m3 154 rfl
theorem q705 : (Jvm.Cond.methodLink "RatioGraph" (176 : Nat) ({ cls := "RatioGraph$Fraction", name := "compareTo", desc := "(LRatioGraph$Fraction;)I" } : Jvm.MethodName)) ∈ lw_all := lw_g (lw_at lw_m3 161 rfl) rfl
theorem q712 : (Jvm.Cond.classLink "RatioGraph" (189 : Nat) "RatioGraph$Potentials") ∈ lw_all := lw_g (lw_at lw_m3 168 rfl) rfl
theorem q714 : (Jvm.Cond.methodLink "RatioGraph" (191 : Nat) ({ cls := "RatioGraph$Potentials", name := "<init>", desc := "(LRatioGraph;LRatioGraph$Fraction;Z)V" } : Jvm.MethodName)) ∈ lw_all := lw_g (lw_at lw_m3 170 rfl) rfl
theorem q719 : (Jvm.Cond.fieldLinkNest "RatioGraph" (253 : Nat) "RatioGraph$Potentials" "sums" "[J" "RatioGraph") ∈ lw_tbl := lw_at lw_m3 175 rfl
theorem q721 : (Jvm.Cond.fieldLinkNest "RatioGraph" (206 : Nat) "RatioGraph$Potentials" "value" "LRatioGraph$Fraction;" "RatioGraph") ∈ lw_tbl := lw_at lw_m3 177 rfl
theorem q733 : (Jvm.Cond.methodLink "RatioGraph" (194 : Nat) ({ cls := "RatioGraph$Potentials", name := "settle", desc := "()Z" } : Jvm.MethodName)) ∈ lw_all := lw_g (lw_at lw_m3 189 rfl) rfl
theorem q749 : (Jvm.Cond.classLink "RatioGraph" (201 : Nat) "RatioGraph$FirstCycle") ∈ lw_all := lw_g (lw_at lw_m3 205 rfl) rfl
theorem q751 : (Jvm.Cond.methodLink "RatioGraph" (203 : Nat) ({ cls := "RatioGraph$Potentials", name := "tight", desc := "()I" } : Jvm.MethodName)) ∈ lw_all := lw_g (lw_at lw_m3 207 rfl) rfl
theorem q755 : (Jvm.Cond.methodLink "RatioGraph" (210 : Nat) ({ cls := "RatioGraph$FirstCycle", name := "<init>", desc := "(LRatioGraph;ILRatioGraph$Fraction;)V" } : Jvm.MethodName)) ∈ lw_all := lw_g (lw_at lw_m3 211 rfl) rfl
theorem q796 : (Jvm.Cond.methodLink "RatioGraph" (213 : Nat) ({ cls := "RatioGraph$FirstCycle", name := "best", desc := "()LRatioGraph$Finding;" } : Jvm.MethodName)) ∈ lw_all := lw_g (lw_at lw_m4 12 rfl) rfl
theorem q908 : (Jvm.Cond.fieldLinkNest "RatioGraph" (149 : Nat) "RatioGraph$Finding" "edges" "[I" "RatioGraph") ∈ lw_tbl := lw_at lw_m4 124 rfl
theorem q912 : (Jvm.Cond.fieldLinkNest "RatioGraph" (243 : Nat) "RatioGraph$Finding" "value" "LRatioGraph$Fraction;" "RatioGraph") ∈ lw_tbl := lw_at lw_m4 128 rfl
theorem q987 : (Jvm.Cond.methodLink "RatioGraph" (217 : Nat) ({ cls := "RatioGraph", name := "keep", desc := "(LRatioGraph$Finding;)I" } : Jvm.MethodName)) ∈ lw_all := lw_g (lw_at lw_m4 203 rfl) rfl
theorem q988 : (Jvm.Cond.privateMethod ({ cls := "RatioGraph", name := "keep", desc := "(LRatioGraph$Finding;)I" } : Jvm.MethodName)) ∈ lw_tbl := lw_at lw_m4 204 rfl
theorem q989 : (Jvm.Cond.instanceMethod ({ cls := "RatioGraph", name := "keep", desc := "(LRatioGraph$Finding;)I" } : Jvm.MethodName)) ∈ lw_all := lw_g (lw_at lw_m4 205 rfl) rfl
theorem q990 : (Jvm.Cond.code ({ cls := "RatioGraph", name := "keep", desc := "(LRatioGraph$Finding;)I" } : Jvm.MethodName) prog_1_method_17_code (2 : Nat) (Option.some Jvm.ClassFile.FieldType.int)) ∈ lw_all := lw_g (lw_at lw_m4 206 rfl) rfl
theorem q992 : (Jvm.Cond.instanceMethod ({ cls := "RatioGraph", name := "ratioCycle", desc := "()I" } : Jvm.MethodName)) ∈ lw_all := lw_g (lw_at lw_m4 208 rfl) rfl
theorem q993 : (Jvm.Cond.selects "RatioGraph" ({ cls := "RatioGraph", name := "ratioCycle", desc := "()I" } : Jvm.MethodName) ({ cls := "RatioGraph", name := "ratioCycle", desc := "()I" } : Jvm.MethodName)) ∈ lw_all := lw_g (lw_at lw_m4 209 rfl) rfl
theorem q994 : (Jvm.Cond.code ({ cls := "RatioGraph", name := "ratioCycle", desc := "()I" } : Jvm.MethodName) prog_1_method_23_code (3 : Nat) (Option.some Jvm.ClassFile.FieldType.int)) ∈ lw_all := lw_g (lw_at lw_m4 210 rfl) rfl
theorem q995 : (Jvm.Cond.classLink "RatioGraph" (221 : Nat) "RatioGraph$Ratios") ∈ lw_all := lw_g (lw_at lw_m4 211 rfl) rfl
theorem q997 : (Jvm.Cond.methodLink "RatioGraph" (223 : Nat) ({ cls := "RatioGraph$Ratios", name := "<init>", desc := "(LRatioGraph;)V" } : Jvm.MethodName)) ∈ lw_all := lw_g (lw_at lw_m4 213 rfl) rfl
theorem q1001 : (Jvm.Cond.privateMethod ({ cls := "RatioGraph", name := "allEdges", desc := "()I" } : Jvm.MethodName)) ∈ lw_tbl := lw_at lw_m4 217 rfl
theorem q1002 : (Jvm.Cond.instanceMethod ({ cls := "RatioGraph", name := "allEdges", desc := "()I" } : Jvm.MethodName)) ∈ lw_all := lw_g (lw_at lw_m4 218 rfl) rfl
theorem q1003 : (Jvm.Cond.code ({ cls := "RatioGraph", name := "allEdges", desc := "()I" } : Jvm.MethodName) prog_1_method_18_code (1 : Nat) (Option.some Jvm.ClassFile.FieldType.int)) ∈ lw_all := lw_g (lw_at lw_m4 219 rfl) rfl
theorem q1019 : (Jvm.Cond.methodLink "RatioGraph" (224 : Nat) ({ cls := "RatioGraph$Ratios", name := "least", desc := "()LRatioGraph$Fraction;" } : Jvm.MethodName)) ∈ lw_all := lw_g (lw_at lw_m4 235 rfl) rfl
theorem q1027 : (Jvm.Cond.instanceMethod ({ cls := "RatioGraph", name := "gainCycle", desc := "()I" } : Jvm.MethodName)) ∈ lw_all := lw_g (lw_at lw_m5 3 rfl) rfl
theorem q1028 : (Jvm.Cond.selects "RatioGraph" ({ cls := "RatioGraph", name := "gainCycle", desc := "()I" } : Jvm.MethodName) ({ cls := "RatioGraph", name := "gainCycle", desc := "()I" } : Jvm.MethodName)) ∈ lw_all := lw_g (lw_at lw_m5 4 rfl) rfl
theorem q1029 : (Jvm.Cond.code ({ cls := "RatioGraph", name := "gainCycle", desc := "()I" } : Jvm.MethodName) prog_1_method_24_code (1 : Nat) (Option.some Jvm.ClassFile.FieldType.int)) ∈ lw_all := lw_g (lw_at lw_m5 5 rfl) rfl
theorem q1030 : (Jvm.Cond.classLink "RatioGraph" (227 : Nat) "RatioGraph$Gains") ∈ lw_all := lw_g (lw_at lw_m5 6 rfl) rfl
theorem q1032 : (Jvm.Cond.methodLink "RatioGraph" (229 : Nat) ({ cls := "RatioGraph$Gains", name := "<init>", desc := "(LRatioGraph;)V" } : Jvm.MethodName)) ∈ lw_all := lw_g (lw_at lw_m5 8 rfl) rfl
theorem q1051 : (Jvm.Cond.methodLink "RatioGraph" (230 : Nat) ({ cls := "RatioGraph$Gains", name := "best", desc := "()LRatioGraph$Finding;" } : Jvm.MethodName)) ∈ lw_all := lw_g (lw_at lw_m5 27 rfl) rfl
theorem q1059 : (Jvm.Cond.instanceMethod ({ cls := "RatioGraph", name := "cycles", desc := "(I)I" } : Jvm.MethodName)) ∈ lw_all := lw_g (lw_at lw_m5 35 rfl) rfl
theorem q1060 : (Jvm.Cond.selects "RatioGraph" ({ cls := "RatioGraph", name := "cycles", desc := "(I)I" } : Jvm.MethodName) ({ cls := "RatioGraph", name := "cycles", desc := "(I)I" } : Jvm.MethodName)) ∈ lw_all := lw_g (lw_at lw_m5 36 rfl) rfl
theorem q1061 : (Jvm.Cond.code ({ cls := "RatioGraph", name := "cycles", desc := "(I)I" } : Jvm.MethodName) prog_1_method_25_code (2 : Nat) (Option.some Jvm.ClassFile.FieldType.int)) ∈ lw_all := lw_g (lw_at lw_m5 37 rfl) rfl
theorem q1062 : (Jvm.Cond.constantLong "RatioGraph" (231 : Nat) (2 : Int64)) ∈ lw_all := lw_g (lw_at lw_m5 38 rfl) rfl
theorem q1063 : (Jvm.Cond.classLink "RatioGraph" (233 : Nat) "RatioGraph$Census") ∈ lw_all := lw_g (lw_at lw_m5 39 rfl) rfl
theorem q1065 : (Jvm.Cond.methodLink "RatioGraph" (235 : Nat) ({ cls := "RatioGraph$Census", name := "<init>", desc := "(LRatioGraph;)V" } : Jvm.MethodName)) ∈ lw_all := lw_g (lw_at lw_m5 41 rfl) rfl
theorem q1084 : (Jvm.Cond.methodLink "RatioGraph" (236 : Nat) ({ cls := "RatioGraph$Census", name := "count", desc := "(I)I" } : Jvm.MethodName)) ∈ lw_all := lw_g (lw_at lw_m5 60 rfl) rfl
theorem q1092 : (Jvm.Cond.instanceMethod ({ cls := "RatioGraph", name := "finding", desc := "(I)I" } : Jvm.MethodName)) ∈ lw_all := lw_g (lw_at lw_m5 68 rfl) rfl
theorem q1093 : (Jvm.Cond.selects "RatioGraph" ({ cls := "RatioGraph", name := "finding", desc := "(I)I" } : Jvm.MethodName) ({ cls := "RatioGraph", name := "finding", desc := "(I)I" } : Jvm.MethodName)) ∈ lw_all := lw_g (lw_at lw_m5 69 rfl) rfl
theorem q1094 : (Jvm.Cond.code ({ cls := "RatioGraph", name := "finding", desc := "(I)I" } : Jvm.MethodName) prog_1_method_26_code (2 : Nat) (Option.some Jvm.ClassFile.FieldType.int)) ∈ lw_all := lw_g (lw_at lw_m5 70 rfl) rfl
theorem q1096 : (Jvm.Cond.instanceMethod ({ cls := "RatioGraph", name := "value", desc := "(I)J" } : Jvm.MethodName)) ∈ lw_all := lw_g (lw_at lw_m5 72 rfl) rfl
theorem q1097 : (Jvm.Cond.selects "RatioGraph" ({ cls := "RatioGraph", name := "value", desc := "(I)J" } : Jvm.MethodName) ({ cls := "RatioGraph", name := "value", desc := "(I)J" } : Jvm.MethodName)) ∈ lw_all := lw_g (lw_at lw_m5 73 rfl) rfl
theorem q1098 : (Jvm.Cond.code ({ cls := "RatioGraph", name := "value", desc := "(I)J" } : Jvm.MethodName) prog_1_method_27_code (2 : Nat) (Option.some Jvm.ClassFile.FieldType.long)) ∈ lw_all := lw_g (lw_at lw_m5 74 rfl) rfl
theorem q1099 : (Jvm.Cond.constantLong "RatioGraph" (239 : Nat) (-1000002 : Int64)) ∈ lw_all := lw_g (lw_at lw_m5 75 rfl) rfl
theorem q1100 : (Jvm.Cond.constantLong "RatioGraph" (241 : Nat) (-1000003 : Int64)) ∈ lw_all := lw_g (lw_at lw_m5 76 rfl) rfl
theorem q1102 : (Jvm.Cond.instanceMethod ({ cls := "RatioGraph", name := "potential", desc := "(I)J" } : Jvm.MethodName)) ∈ lw_all := lw_g (lw_at lw_m5 78 rfl) rfl
theorem q1103 : (Jvm.Cond.selects "RatioGraph" ({ cls := "RatioGraph", name := "potential", desc := "(I)J" } : Jvm.MethodName) ({ cls := "RatioGraph", name := "potential", desc := "(I)J" } : Jvm.MethodName)) ∈ lw_all := lw_g (lw_at lw_m5 79 rfl) rfl
theorem q1104 : (Jvm.Cond.code ({ cls := "RatioGraph", name := "potential", desc := "(I)J" } : Jvm.MethodName) prog_1_method_28_code (3 : Nat) (Option.some Jvm.ClassFile.FieldType.long)) ∈ lw_all := lw_g (lw_at lw_m5 80 rfl) rfl
theorem q1105 : (Jvm.Cond.constantLong "RatioGraph" (251 : Nat) (-1000001 : Int64)) ∈ lw_all := lw_g (lw_at lw_m5 81 rfl) rfl
theorem q1107 : (Jvm.Cond.instanceMethod ({ cls := "RatioGraph", name := "tight", desc := "()I" } : Jvm.MethodName)) ∈ lw_all := lw_g (lw_at lw_m5 83 rfl) rfl
theorem q1108 : (Jvm.Cond.selects "RatioGraph" ({ cls := "RatioGraph", name := "tight", desc := "()I" } : Jvm.MethodName) ({ cls := "RatioGraph", name := "tight", desc := "()I" } : Jvm.MethodName)) ∈ lw_all := lw_g (lw_at lw_m5 84 rfl) rfl
theorem q1109 : (Jvm.Cond.code ({ cls := "RatioGraph", name := "tight", desc := "()I" } : Jvm.MethodName) prog_1_method_29_code (2 : Nat) (Option.some Jvm.ClassFile.FieldType.int)) ∈ lw_all := lw_g (lw_at lw_m5 85 rfl) rfl
theorem q1111 : (Jvm.Cond.instanceMethod ({ cls := "RatioGraph", name := "mark", desc := "(II)I" } : Jvm.MethodName)) ∈ lw_all := lw_g (lw_at lw_m5 87 rfl) rfl
theorem q1112 : (Jvm.Cond.selects "RatioGraph" ({ cls := "RatioGraph", name := "mark", desc := "(II)I" } : Jvm.MethodName) ({ cls := "RatioGraph", name := "mark", desc := "(II)I" } : Jvm.MethodName)) ∈ lw_all := lw_g (lw_at lw_m5 88 rfl) rfl
theorem q1113 : (Jvm.Cond.code ({ cls := "RatioGraph", name := "mark", desc := "(II)I" } : Jvm.MethodName) prog_1_method_30_code (4 : Nat) (Option.some Jvm.ClassFile.FieldType.int)) ∈ lw_all := lw_g (lw_at lw_m5 89 rfl) rfl
theorem q1114 : (Jvm.Cond.constantLong "RatioGraph" (257 : Nat) (-100000 : Int64)) ∈ lw_all := lw_g (lw_at lw_m5 90 rfl) rfl
theorem q1115 : (Jvm.Cond.constantLong "RatioGraph" (259 : Nat) (100000 : Int64)) ∈ lw_all := lw_g (lw_at lw_m5 91 rfl) rfl
theorem q1117 : (Jvm.Cond.instanceMethod ({ cls := "RatioGraph", name := "disproof", desc := "(II)I" } : Jvm.MethodName)) ∈ lw_all := lw_g (lw_at lw_m5 93 rfl) rfl
theorem q1118 : (Jvm.Cond.selects "RatioGraph" ({ cls := "RatioGraph", name := "disproof", desc := "(II)I" } : Jvm.MethodName) ({ cls := "RatioGraph", name := "disproof", desc := "(II)I" } : Jvm.MethodName)) ∈ lw_all := lw_g (lw_at lw_m5 94 rfl) rfl
theorem q1119 : (Jvm.Cond.code ({ cls := "RatioGraph", name := "disproof", desc := "(II)I" } : Jvm.MethodName) prog_1_method_31_code (5 : Nat) (Option.some Jvm.ClassFile.FieldType.int)) ∈ lw_all := lw_g (lw_at lw_m5 95 rfl) rfl
theorem q1120 : (Jvm.Cond.constantLong "RatioGraph" (261 : Nat) (-9999 : Int64)) ∈ lw_all := lw_g (lw_at lw_m5 96 rfl) rfl
theorem q1121 : (Jvm.Cond.constantLong "RatioGraph" (263 : Nat) (9999 : Int64)) ∈ lw_all := lw_g (lw_at lw_m5 97 rfl) rfl
theorem q1122 : (Jvm.Cond.constantLong "RatioGraph" (265 : Nat) (99 : Int64)) ∈ lw_all := lw_g (lw_at lw_m5 98 rfl) rfl
theorem q1124 : (Jvm.Cond.instanceMethod ({ cls := "RatioGraph", name := "length", desc := "(IIII)J" } : Jvm.MethodName)) ∈ lw_all := lw_g (lw_at lw_m5 100 rfl) rfl
theorem q1125 : (Jvm.Cond.selects "RatioGraph" ({ cls := "RatioGraph", name := "length", desc := "(IIII)J" } : Jvm.MethodName) ({ cls := "RatioGraph", name := "length", desc := "(IIII)J" } : Jvm.MethodName)) ∈ lw_all := lw_g (lw_at lw_m5 101 rfl) rfl
theorem q1126 : (Jvm.Cond.code ({ cls := "RatioGraph", name := "length", desc := "(IIII)J" } : Jvm.MethodName) prog_1_method_32_code (7 : Nat) (Option.some Jvm.ClassFile.FieldType.long)) ∈ lw_all := lw_g (lw_at lw_m5 102 rfl) rfl
theorem q1127 : (Jvm.Cond.constantLong "RatioGraph" (267 : Nat) (-999 : Int64)) ∈ lw_all := lw_g (lw_at lw_m5 103 rfl) rfl
theorem q1128 : (Jvm.Cond.constantLong "RatioGraph" (269 : Nat) (999 : Int64)) ∈ lw_all := lw_g (lw_at lw_m5 104 rfl) rfl
theorem q1129 : (Jvm.Cond.classLink "RatioGraph" (271 : Nat) "RatioGraph$Paths") ∈ lw_all := lw_g (lw_at lw_m5 105 rfl) rfl
theorem q1131 : (Jvm.Cond.methodLink "RatioGraph" (273 : Nat) ({ cls := "RatioGraph$Paths", name := "<init>", desc := "(LRatioGraph;II)V" } : Jvm.MethodName)) ∈ lw_all := lw_g (lw_at lw_m5 107 rfl) rfl
theorem q1160 : (Jvm.Cond.methodLink "RatioGraph" (276 : Nat) ({ cls := "RatioGraph$Paths", name := "exist", desc := "()Z" } : Jvm.MethodName)) ∈ lw_all := lw_g (lw_at lw_m5 136 rfl) rfl
theorem q1164 : (Jvm.Cond.methodLink "RatioGraph" (279 : Nat) ({ cls := "RatioGraph$Paths", name := "isUnbounded", desc := "(LRatioGraph$Fraction;)Z" } : Jvm.MethodName)) ∈ lw_all := lw_g (lw_at lw_m5 140 rfl) rfl
theorem q1168 : (Jvm.Cond.constantLong "RatioGraph" (283 : Nat) (-1000005 : Int64)) ∈ lw_all := lw_g (lw_at lw_m5 144 rfl) rfl
theorem q1169 : (Jvm.Cond.methodLink "RatioGraph" (285 : Nat) ({ cls := "RatioGraph$Paths", name := "length", desc := "(LRatioGraph$Fraction;)J" } : Jvm.MethodName)) ∈ lw_all := lw_g (lw_at lw_m5 145 rfl) rfl
theorem q1176 : (Jvm.Cond.instanceMethod ({ cls := "RatioGraph", name := "pieces", desc := "(IIII)I" } : Jvm.MethodName)) ∈ lw_all := lw_g (lw_at lw_m5 152 rfl) rfl
theorem q1177 : (Jvm.Cond.selects "RatioGraph" ({ cls := "RatioGraph", name := "pieces", desc := "(IIII)I" } : Jvm.MethodName) ({ cls := "RatioGraph", name := "pieces", desc := "(IIII)I" } : Jvm.MethodName)) ∈ lw_all := lw_g (lw_at lw_m5 153 rfl) rfl
theorem q1178 : (Jvm.Cond.code ({ cls := "RatioGraph", name := "pieces", desc := "(IIII)I" } : Jvm.MethodName) prog_1_method_34_code (10 : Nat) (Option.some Jvm.ClassFile.FieldType.int)) ∈ lw_all := lw_g (lw_at lw_m5 154 rfl) rfl
theorem q1179 : (Jvm.Cond.constantLong "RatioGraph" (315 : Nat) (-50 : Int64)) ∈ lw_all := lw_g (lw_at lw_m5 155 rfl) rfl
theorem q1180 : (Jvm.Cond.constantLong "RatioGraph" (317 : Nat) (49 : Int64)) ∈ lw_all := lw_g (lw_at lw_m5 156 rfl) rfl
theorem q1181 : (Jvm.Cond.constantLong "RatioGraph" (319 : Nat) (50 : Int64)) ∈ lw_all := lw_g (lw_at lw_m5 157 rfl) rfl
theorem q1182 : (Jvm.Cond.methodLink "RatioGraph" (321 : Nat) ({ cls := "RatioGraph$Fraction", name := "<init>", desc := "(J)V" } : Jvm.MethodName)) ∈ lw_all := lw_g (lw_at lw_m5 158 rfl) rfl
theorem q1183 : (Jvm.Cond.constant "RatioGraph" (324 : Nat) (-1000005 : Int32)) ∈ lw_all := lw_g (lw_at lw_m5 159 rfl) rfl
theorem q1184 : (Jvm.Cond.methodLink "RatioGraph" (325 : Nat) ({ cls := "java/util/ArrayList", name := "<init>", desc := "()V" } : Jvm.MethodName)) ∈ lw_all := lw_g (lw_at lw_m5 160 rfl) rfl
theorem q1187 : (Jvm.Cond.methodLink "RatioGraph" (301 : Nat) ({ cls := "RatioGraph$Paths", name := "least", desc := "(LRatioGraph$Fraction;Z)LRatioGraph$Line;" } : Jvm.MethodName)) ∈ lw_all := lw_g (lw_at lw_m5 163 rfl) rfl
theorem q1199 : (Jvm.Cond.fieldLinkNest "RatioGraph" (295 : Nat) "RatioGraph$Line" "a" "J" "RatioGraph") ∈ lw_tbl := lw_at lw_m5 175 rfl
theorem q1203 : (Jvm.Cond.fieldLinkNest "RatioGraph" (298 : Nat) "RatioGraph$Line" "b" "J" "RatioGraph") ∈ lw_tbl := lw_at lw_m5 179 rfl
theorem q1221 : (Jvm.Cond.classLink "RatioGraph" (306 : Nat) "RatioGraph$Piece") ∈ lw_all := lw_g (lw_at lw_m5 197 rfl) rfl
theorem q1223 : (Jvm.Cond.methodLink "RatioGraph" (308 : Nat) ({ cls := "RatioGraph$Piece", name := "<init>", desc := "(LRatioGraph$Line;LRatioGraph$Fraction;)V" } : Jvm.MethodName)) ∈ lw_all := lw_g (lw_at lw_m5 199 rfl) rfl
theorem q1234 : (Jvm.Cond.methodLink "RatioGraph" (311 : Nat) ({ cls := "RatioGraph", name := "addPieces", desc := "(LRatioGraph$Paths;LRatioGraph$Line;LRatioGraph$Line;Ljava/util/ArrayList;)V" } : Jvm.MethodName)) ∈ lw_all := lw_g (lw_at lw_m5 210 rfl) rfl
theorem q1235 : (Jvm.Cond.privateMethod ({ cls := "RatioGraph", name := "addPieces", desc := "(LRatioGraph$Paths;LRatioGraph$Line;LRatioGraph$Line;Ljava/util/ArrayList;)V" } : Jvm.MethodName)) ∈ lw_tbl := lw_at lw_m5 211 rfl
theorem q1236 : (Jvm.Cond.instanceMethod ({ cls := "RatioGraph", name := "addPieces", desc := "(LRatioGraph$Paths;LRatioGraph$Line;LRatioGraph$Line;Ljava/util/ArrayList;)V" } : Jvm.MethodName)) ∈ lw_all := lw_g (lw_at lw_m5 212 rfl) rfl
theorem q1237 : (Jvm.Cond.code ({ cls := "RatioGraph", name := "addPieces", desc := "(LRatioGraph$Paths;LRatioGraph$Line;LRatioGraph$Line;Ljava/util/ArrayList;)V" } : Jvm.MethodName) prog_1_method_33_code (7 : Nat) (Option.none : Option Jvm.ClassFile.FieldType)) ∈ lw_all := lw_g (lw_at lw_m5 213 rfl) rfl
theorem q1238 : (Jvm.Cond.methodLink "RatioGraph" (289 : Nat) ({ cls := "RatioGraph$Line", name := "isSame", desc := "(LRatioGraph$Line;)Z" } : Jvm.MethodName)) ∈ lw_all := lw_g (lw_at lw_m5 214 rfl) rfl
theorem q1242 : (Jvm.Cond.methodLink "RatioGraph" (304 : Nat) ({ cls := "RatioGraph$Line", name := "at", desc := "(LRatioGraph$Fraction;)J" } : Jvm.MethodName)) ∈ lw_all := lw_g (lw_at lw_m5 218 rfl) rfl
theorem q1244 : (Jvm.Cond.instanceMethod ({ cls := "RatioGraph", name := "piece", desc := "(II)J" } : Jvm.MethodName)) ∈ lw_all := lw_g (lw_at lw_m5 220 rfl) rfl
theorem q1245 : (Jvm.Cond.selects "RatioGraph" ({ cls := "RatioGraph", name := "piece", desc := "(II)J" } : Jvm.MethodName) ({ cls := "RatioGraph", name := "piece", desc := "(II)J" } : Jvm.MethodName)) ∈ lw_all := lw_g (lw_at lw_m5 221 rfl) rfl
theorem q1246 : (Jvm.Cond.code ({ cls := "RatioGraph", name := "piece", desc := "(II)J" } : Jvm.MethodName) prog_1_method_35_code (3 : Nat) (Option.some Jvm.ClassFile.FieldType.long)) ∈ lw_all := lw_g (lw_at lw_m5 222 rfl) rfl
theorem q1247 : (Jvm.Cond.constantLong "RatioGraph" (329 : Nat) (3 : Int64)) ∈ lw_all := lw_g (lw_at lw_m5 223 rfl) rfl
theorem q1248 : (Jvm.Cond.methodLink "RatioGraph" (331 : Nat) ({ cls := "RatioGraph$Piece", name := "part", desc := "(I)J" } : Jvm.MethodName)) ∈ lw_all := lw_g (lw_at lw_m5 224 rfl) rfl
theorem q1253 : (Jvm.Cond.instanceMethod ({ cls := "RatioGraph", name := "feasible", desc := "(I)J" } : Jvm.MethodName)) ∈ lw_all := lw_g (lw_at lw_m5 229 rfl) rfl
theorem q1254 : (Jvm.Cond.selects "RatioGraph" ({ cls := "RatioGraph", name := "feasible", desc := "(I)J" } : Jvm.MethodName) ({ cls := "RatioGraph", name := "feasible", desc := "(I)J" } : Jvm.MethodName)) ∈ lw_all := lw_g (lw_at lw_m5 230 rfl) rfl
theorem q1255 : (Jvm.Cond.code ({ cls := "RatioGraph", name := "feasible", desc := "(I)J" } : Jvm.MethodName) prog_1_method_36_code (4 : Nat) (Option.some Jvm.ClassFile.FieldType.long)) ∈ lw_all := lw_g (lw_at lw_m5 231 rfl) rfl
theorem q1256 : (Jvm.Cond.classLink "RatioGraph" (334 : Nat) "RatioGraph$Bounds") ∈ lw_all := lw_g (lw_at lw_m5 232 rfl) rfl
theorem q1258 : (Jvm.Cond.methodLink "RatioGraph" (336 : Nat) ({ cls := "RatioGraph$Bounds", name := "<init>", desc := "(LRatioGraph;)V" } : Jvm.MethodName)) ∈ lw_all := lw_g (lw_at lw_m5 234 rfl) rfl
theorem q1264 : (Jvm.Cond.fieldLinkNest "RatioGraph" (338 : Nat) "RatioGraph$Bounds" "least" "LRatioGraph$Fraction;" "RatioGraph") ∈ lw_tbl := lw_at lw_m6 0 rfl
theorem q1266 : (Jvm.Cond.fieldLinkNest "RatioGraph" (340 : Nat) "RatioGraph$Bounds" "greatest" "LRatioGraph$Fraction;" "RatioGraph") ∈ lw_tbl := lw_at lw_m6 2 rfl
theorem q1285 : (Jvm.Cond.methodLink "RatioGraph" (337 : Nat) ({ cls := "RatioGraph$Bounds", name := "isEmpty", desc := "()Z" } : Jvm.MethodName)) ∈ lw_all := lw_g (lw_at lw_m6 21 rfl) rfl
theorem q1293 : (Jvm.Cond.instanceMethod ({ cls := "RatioGraph", name := "convert", desc := "(II)I" } : Jvm.MethodName)) ∈ lw_all := lw_g (lw_at lw_m6 29 rfl) rfl
theorem q1294 : (Jvm.Cond.selects "RatioGraph" ({ cls := "RatioGraph", name := "convert", desc := "(II)I" } : Jvm.MethodName) ({ cls := "RatioGraph", name := "convert", desc := "(II)I" } : Jvm.MethodName)) ∈ lw_all := lw_g (lw_at lw_m6 30 rfl) rfl
theorem q1295 : (Jvm.Cond.code ({ cls := "RatioGraph", name := "convert", desc := "(II)I" } : Jvm.MethodName) prog_1_method_37_code (3 : Nat) (Option.some Jvm.ClassFile.FieldType.int)) ∈ lw_all := lw_g (lw_at lw_m6 31 rfl) rfl
theorem q1296 : (Jvm.Cond.classLink "RatioGraph" (150 : Nat) "RatioGraph$Finding") ∈ lw_all := lw_g (lw_at lw_m6 32 rfl) rfl
theorem q1297 : (Jvm.Cond.methodLink "RatioGraph" (343 : Nat) ({ cls := "RatioGraph$Finding", name := "<init>", desc := "([IILRatioGraph$Fraction;)V" } : Jvm.MethodName)) ∈ lw_all := lw_g (lw_at lw_m6 33 rfl) rfl
theorem q1298 : (Jvm.Cond.classLink "RatioGraph" (346 : Nat) "RatioGraph$Conversions") ∈ lw_all := lw_g (lw_at lw_m6 34 rfl) rfl
theorem q1300 : (Jvm.Cond.methodLink "RatioGraph" (348 : Nat) ({ cls := "RatioGraph$Conversions", name := "<init>", desc := "(LRatioGraph;I)V" } : Jvm.MethodName)) ∈ lw_all := lw_g (lw_at lw_m6 36 rfl) rfl
theorem q1320 : (Jvm.Cond.methodLink "RatioGraph" (351 : Nat) ({ cls := "RatioGraph$Conversions", name := "best", desc := "(I)LRatioGraph$Finding;" } : Jvm.MethodName)) ∈ lw_all := lw_g (lw_at lw_m6 56 rfl) rfl
theorem q1328 : (Jvm.Cond.instanceMethod ({ cls := "RatioGraph", name := "count", desc := "(I)I" } : Jvm.MethodName)) ∈ lw_all := lw_g (lw_at lw_m6 64 rfl) rfl
theorem q1329 : (Jvm.Cond.selects "RatioGraph" ({ cls := "RatioGraph", name := "count", desc := "(I)I" } : Jvm.MethodName) ({ cls := "RatioGraph", name := "count", desc := "(I)I" } : Jvm.MethodName)) ∈ lw_all := lw_g (lw_at lw_m6 65 rfl) rfl
theorem q1330 : (Jvm.Cond.code ({ cls := "RatioGraph", name := "count", desc := "(I)I" } : Jvm.MethodName) prog_1_method_40_code (2 : Nat) (Option.some Jvm.ClassFile.FieldType.int)) ∈ lw_all := lw_g (lw_at lw_m6 66 rfl) rfl
theorem q1331 : (Jvm.Cond.methodLink "RatioGraph" (359 : Nat) ({ cls := "RatioGraph", name := "weightSum", desc := "()I" } : Jvm.MethodName)) ∈ lw_all := lw_g (lw_at lw_m6 67 rfl) rfl
theorem q1332 : (Jvm.Cond.privateMethod ({ cls := "RatioGraph", name := "weightSum", desc := "()I" } : Jvm.MethodName)) ∈ lw_tbl := lw_at lw_m6 68 rfl
theorem q1333 : (Jvm.Cond.instanceMethod ({ cls := "RatioGraph", name := "weightSum", desc := "()I" } : Jvm.MethodName)) ∈ lw_all := lw_g (lw_at lw_m6 69 rfl) rfl
theorem q1334 : (Jvm.Cond.code ({ cls := "RatioGraph", name := "weightSum", desc := "()I" } : Jvm.MethodName) prog_1_method_38_code (3 : Nat) (Option.some Jvm.ClassFile.FieldType.int)) ∈ lw_all := lw_g (lw_at lw_m6 70 rfl) rfl
theorem q1335 : (Jvm.Cond.methodLink "RatioGraph" (362 : Nat) ({ cls := "RatioGraph", name := "reachablePairs", desc := "()I" } : Jvm.MethodName)) ∈ lw_all := lw_g (lw_at lw_m6 71 rfl) rfl
theorem q1336 : (Jvm.Cond.privateMethod ({ cls := "RatioGraph", name := "reachablePairs", desc := "()I" } : Jvm.MethodName)) ∈ lw_tbl := lw_at lw_m6 72 rfl
theorem q1337 : (Jvm.Cond.instanceMethod ({ cls := "RatioGraph", name := "reachablePairs", desc := "()I" } : Jvm.MethodName)) ∈ lw_all := lw_g (lw_at lw_m6 73 rfl) rfl
theorem q1338 : (Jvm.Cond.code ({ cls := "RatioGraph", name := "reachablePairs", desc := "()I" } : Jvm.MethodName) prog_1_method_39_code (7 : Nat) (Option.some Jvm.ClassFile.FieldType.int)) ∈ lw_all := lw_g (lw_at lw_m6 74 rfl) rfl
theorem q1339 : (Jvm.Cond.methodLink "RatioGraph" (354 : Nat) ({ cls := "java/lang/Integer", name := "bitCount", desc := "(I)I" } : Jvm.MethodName)) ∈ lw_all := lw_g (lw_at lw_m6 75 rfl) rfl
theorem q1346 : (Jvm.Cond.instanceMethod ({ cls := "RatioGraph", name := "digest", desc := "()J" } : Jvm.MethodName)) ∈ lw_all := lw_g (lw_at lw_m6 82 rfl) rfl
theorem q1347 : (Jvm.Cond.selects "RatioGraph" ({ cls := "RatioGraph", name := "digest", desc := "()J" } : Jvm.MethodName) ({ cls := "RatioGraph", name := "digest", desc := "()J" } : Jvm.MethodName)) ∈ lw_all := lw_g (lw_at lw_m6 83 rfl) rfl
theorem q1348 : (Jvm.Cond.code ({ cls := "RatioGraph", name := "digest", desc := "()J" } : Jvm.MethodName) prog_1_method_43_code (5 : Nat) (Option.some Jvm.ClassFile.FieldType.long)) ∈ lw_all := lw_g (lw_at lw_m6 84 rfl) rfl
theorem q1349 : (Jvm.Cond.constantLong "RatioGraph" (379 : Nat) (83 : Int64)) ∈ lw_all := lw_g (lw_at lw_m6 85 rfl) rfl
theorem q1350 : (Jvm.Cond.methodLink "RatioGraph" (381 : Nat) ({ cls := "RatioGraph", name := "count", desc := "(I)I" } : Jvm.MethodName)) ∈ lw_all := lw_g (lw_at lw_m6 86 rfl) rfl
theorem q1351 : (Jvm.Cond.methodLink "RatioGraph" (370 : Nat) ({ cls := "RatioGraph", name := "mix", desc := "(J)V" } : Jvm.MethodName)) ∈ lw_all := lw_g (lw_at lw_m6 87 rfl) rfl
theorem q1352 : (Jvm.Cond.privateMethod ({ cls := "RatioGraph", name := "mix", desc := "(J)V" } : Jvm.MethodName)) ∈ lw_tbl := lw_at lw_m6 88 rfl
theorem q1353 : (Jvm.Cond.instanceMethod ({ cls := "RatioGraph", name := "mix", desc := "(J)V" } : Jvm.MethodName)) ∈ lw_all := lw_g (lw_at lw_m6 89 rfl) rfl
theorem q1354 : (Jvm.Cond.code ({ cls := "RatioGraph", name := "mix", desc := "(J)V" } : Jvm.MethodName) prog_1_method_41_code (3 : Nat) (Option.none : Option Jvm.ClassFile.FieldType)) ∈ lw_all := lw_g (lw_at lw_m6 90 rfl) rfl
theorem q1355 : (Jvm.Cond.constantLong "RatioGraph" (365 : Nat) (31 : Int64)) ∈ lw_all := lw_g (lw_at lw_m6 91 rfl) rfl
theorem q1356 : (Jvm.Cond.methodLink "RatioGraph" (382 : Nat) ({ cls := "RatioGraph", name := "edge", desc := "(II)I" } : Jvm.MethodName)) ∈ lw_all := lw_g (lw_at lw_m6 92 rfl) rfl
theorem q1357 : (Jvm.Cond.methodLink "RatioGraph" (386 : Nat) ({ cls := "RatioGraph", name := "mixCycles", desc := "()V" } : Jvm.MethodName)) ∈ lw_all := lw_g (lw_at lw_m6 93 rfl) rfl
theorem q1358 : (Jvm.Cond.privateMethod ({ cls := "RatioGraph", name := "mixCycles", desc := "()V" } : Jvm.MethodName)) ∈ lw_tbl := lw_at lw_m6 94 rfl
theorem q1359 : (Jvm.Cond.instanceMethod ({ cls := "RatioGraph", name := "mixCycles", desc := "()V" } : Jvm.MethodName)) ∈ lw_all := lw_g (lw_at lw_m6 95 rfl) rfl
theorem q1360 : (Jvm.Cond.code ({ cls := "RatioGraph", name := "mixCycles", desc := "()V" } : Jvm.MethodName) prog_1_method_42_code (3 : Nat) (Option.none : Option Jvm.ClassFile.FieldType)) ∈ lw_all := lw_g (lw_at lw_m6 96 rfl) rfl
theorem q1361 : (Jvm.Cond.methodLink "RatioGraph" (373 : Nat) ({ cls := "RatioGraph", name := "cycles", desc := "(I)I" } : Jvm.MethodName)) ∈ lw_all := lw_g (lw_at lw_m6 97 rfl) rfl
theorem q1362 : (Jvm.Cond.methodLink "RatioGraph" (376 : Nat) ({ cls := "RatioGraph", name := "feasible", desc := "(I)J" } : Jvm.MethodName)) ∈ lw_all := lw_g (lw_at lw_m6 98 rfl) rfl
theorem q1795 : (Jvm.Cond.castable "RatioGraph" "java/lang/Object") ∈ lw_tbl := lw_at lw_m8 51 rfl
theorem in_X0 : ∀ w ∈ wsX00, w ∈ lw_all := lw_in wsX00 [170, 172, 174, 176, 178, 180, 182, 184] (by decide +kernel) (by decide +kernel)
