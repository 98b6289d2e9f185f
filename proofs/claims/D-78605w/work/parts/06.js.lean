/-! java/util/AbstractCollection -/
set_option maxRecDepth 100000
def RJ0 : String := "java/util/AbstractCollection"
abbrev cJ0_init : ByteArray := prog_29_method_1_code
def yJ0_init : MethodName := ⟨RJ0, "<init>", "()V"⟩
theorem dJ0_init_0 : decode cJ0_init 0 = .ok (.aload_n 0, 1) := by decide +kernel
theorem dJ0_init_1 : decode cJ0_init 1 = .ok (.invokespecial 1, 3) := by decide +kernel
theorem dJ0_init_4 : decode cJ0_init 4 = .ok (.return_, 1) := by decide +kernel
abbrev cJ0_isEmpty : ByteArray := prog_29_method_4_code
def yJ0_isEmpty : MethodName := ⟨RJ0, "isEmpty", "()Z"⟩
def dkwJ0_isEmpty_0 : List UInt8 := [42, 182, 0, 7, 154, 0, 7, 4, 167, 0, 4, 3, 172]
abbrev dktJ0_isEmpty_0 : List UInt8 := dkwJ0_isEmpty_0 ++ []
theorem dksJ0_isEmpty_0 : cJ0_isEmpty.data.toList.drop 0 = dktJ0_isEmpty_0 := by decide +kernel
theorem dJ0_isEmpty_0 : decode cJ0_isEmpty 0 = .ok (.aload_n 0, 1) := dk_42 (dk_at dksJ0_isEmpty_0 0 rfl rfl)
theorem dJ0_isEmpty_1 : decode cJ0_isEmpty 1 = .ok (.invokevirtual 7, 3) := dk_182 0 7 (dk_at dksJ0_isEmpty_0 1 rfl rfl)
theorem dJ0_isEmpty_4 : decode cJ0_isEmpty 4 = .ok (.ifCond .ne 7, 3) := dk_154 0 7 (dk_at dksJ0_isEmpty_0 4 rfl rfl)
theorem dJ0_isEmpty_7 : decode cJ0_isEmpty 7 = .ok (.iconst 1, 1) := dk_4 (dk_at dksJ0_isEmpty_0 7 rfl rfl)
theorem dJ0_isEmpty_8 : decode cJ0_isEmpty 8 = .ok (.goto 4, 3) := dk_167 0 4 (dk_at dksJ0_isEmpty_0 8 rfl rfl)
theorem dJ0_isEmpty_11 : decode cJ0_isEmpty 11 = .ok (.iconst 0, 1) := dk_3 (dk_at dksJ0_isEmpty_0 11 rfl rfl)
theorem dJ0_isEmpty_12 : decode cJ0_isEmpty 12 = .ok (.ireturn, 1) := dk_172 (dk_at dksJ0_isEmpty_0 12 rfl rfl)
theorem q66 : (Jvm.Cond.initialized "java/util/AbstractCollection") ∈ lw_all := lw_g (lw_at lw_m1 2 rfl) rfl
theorem q116 : (Jvm.Cond.instanceMethod ({ cls := "java/util/AbstractCollection", name := "<init>", desc := "()V" } : Jvm.MethodName)) ∈ lw_all := lw_g (lw_at lw_m1 52 rfl) rfl
theorem q117 : (Jvm.Cond.code ({ cls := "java/util/AbstractCollection", name := "<init>", desc := "()V" } : Jvm.MethodName) prog_29_method_1_code (1 : Nat) (Option.none : Option Jvm.ClassFile.FieldType)) ∈ lw_all := lw_g (lw_at lw_m1 53 rfl) rfl
theorem q118 : (Jvm.Cond.methodLink "java/util/AbstractCollection" (1 : Nat) ({ cls := "java/lang/Object", name := "<init>", desc := "()V" } : Jvm.MethodName)) ∈ lw_all := lw_g (lw_at lw_m1 54 rfl) rfl
theorem q480 : (Jvm.Cond.declares ({ cls := "java/util/AbstractCollection", name := "isEmpty", desc := "()Z" } : Jvm.MethodName)) ∈ lw_tbl := lw_at lw_m2 176 rfl
theorem q482 : (Jvm.Cond.instanceMethod ({ cls := "java/util/AbstractCollection", name := "isEmpty", desc := "()Z" } : Jvm.MethodName)) ∈ lw_all := lw_g (lw_at lw_m2 178 rfl) rfl
theorem q483 : (Jvm.Cond.code ({ cls := "java/util/AbstractCollection", name := "isEmpty", desc := "()Z" } : Jvm.MethodName) prog_29_method_4_code (1 : Nat) (Option.some Jvm.ClassFile.FieldType.boolean)) ∈ lw_all := lw_g (lw_at lw_m2 179 rfl) rfl
theorem q484 : (Jvm.Cond.methodLink "java/util/AbstractCollection" (7 : Nat) ({ cls := "java/util/AbstractCollection", name := "size", desc := "()I" } : Jvm.MethodName)) ∈ lw_all := lw_g (lw_at lw_m2 180 rfl) rfl
theorem q485 : (Jvm.Cond.declares ({ cls := "java/util/AbstractCollection", name := "size", desc := "()I" } : Jvm.MethodName)) ∈ lw_tbl := lw_at lw_m2 181 rfl
theorem q486 : (Jvm.Cond.sameMethod "java/util/AbstractCollection" "java/util/AbstractCollection" "size" "()I") ∈ lw_all := lw_g (lw_at lw_m2 182 rfl) rfl

/-! java/util/AbstractList -/
set_option maxRecDepth 100000
def RJ1 : String := "java/util/AbstractList"
abbrev cJ1_init : ByteArray := prog_30_method_1_code
def yJ1_init : MethodName := ⟨RJ1, "<init>", "()V"⟩
def dkwJ1_init_0 : List UInt8 := [42, 183, 0, 1, 42, 3, 181, 0, 7, 177]
abbrev dktJ1_init_0 : List UInt8 := dkwJ1_init_0 ++ []
theorem dksJ1_init_0 : cJ1_init.data.toList.drop 0 = dktJ1_init_0 := by decide +kernel
theorem dJ1_init_0 : decode cJ1_init 0 = .ok (.aload_n 0, 1) := dk_42 (dk_at dksJ1_init_0 0 rfl rfl)
theorem dJ1_init_1 : decode cJ1_init 1 = .ok (.invokespecial 1, 3) := dk_183 0 1 (dk_at dksJ1_init_0 1 rfl rfl)
theorem dJ1_init_4 : decode cJ1_init 4 = .ok (.aload_n 0, 1) := dk_42 (dk_at dksJ1_init_0 4 rfl rfl)
theorem dJ1_init_5 : decode cJ1_init 5 = .ok (.iconst 0, 1) := dk_3 (dk_at dksJ1_init_0 5 rfl rfl)
theorem dJ1_init_6 : decode cJ1_init 6 = .ok (.putfield 7, 3) := dk_181 0 7 (dk_at dksJ1_init_0 6 rfl rfl)
theorem dJ1_init_9 : decode cJ1_init 9 = .ok (.return_, 1) := dk_177 (dk_at dksJ1_init_0 9 rfl rfl)
theorem q67 : (Jvm.Cond.initialized "java/util/AbstractList") ∈ lw_all := lw_g (lw_at lw_m1 3 rfl) rfl
theorem q113 : (Jvm.Cond.instanceMethod ({ cls := "java/util/AbstractList", name := "<init>", desc := "()V" } : Jvm.MethodName)) ∈ lw_all := lw_g (lw_at lw_m1 49 rfl) rfl
theorem q114 : (Jvm.Cond.code ({ cls := "java/util/AbstractList", name := "<init>", desc := "()V" } : Jvm.MethodName) prog_30_method_1_code (1 : Nat) (Option.none : Option Jvm.ClassFile.FieldType)) ∈ lw_all := lw_g (lw_at lw_m1 50 rfl) rfl
theorem q115 : (Jvm.Cond.methodLink "java/util/AbstractList" (1 : Nat) ({ cls := "java/util/AbstractCollection", name := "<init>", desc := "()V" } : Jvm.MethodName)) ∈ lw_all := lw_g (lw_at lw_m1 51 rfl) rfl
theorem q125 : (Jvm.Cond.fieldLink "java/util/AbstractList" (7 : Nat) "java/util/AbstractList" "modCount" "I") ∈ lw_all := lw_g (lw_at lw_m1 61 rfl) rfl
theorem q135 : (Jvm.Cond.soleField "java/util/AbstractList" "modCount") ∈ lw_all := lw_g (lw_at lw_m1 71 rfl) rfl

/-! java/util/ArrayList -/
set_option maxRecDepth 100000
def RJ2 : String := "java/util/ArrayList"
def TJ2 : u_T := fun k => match k with
  | 0 => ("java/util/AbstractList", "modCount", "I", false)
  | 1 => ("java/util/ArrayList", "elementData", "[Ljava/lang/Object;", false)
  | _ => ("java/util/ArrayList", "size", "I", false)
def tyJ2 : Nat → FieldType := fun k => match k with
  | 0 => .int
  | 1 => .array (.object "java/lang/Object")
  | _ => .int
abbrev wsJ20 : List Cond := u_ws RJ2 TJ2 3
theorem nmJ2 : ∀ a, a < 3 → ∀ b, b < 3 → a ≠ b → (TJ2 a).2.1 ≠ (TJ2 b).2.1 := by decide +kernel
theorem tyJ2_ok : ∀ k, k < 3 → parseFieldDescriptor (TJ2 k).2.2.1 = some (tyJ2 k) := by decide +kernel
abbrev cJ2_init : ByteArray := prog_32_method_1_code
def yJ2_init : MethodName := ⟨RJ2, "<init>", "(I)V"⟩
def dkwJ2_init_2 : List UInt8 := [182, 0, 25, 27, 182, 0, 29, 182, 0, 32, 183, 0, 36, 191, 177]
abbrev dktJ2_init_2 : List UInt8 := dkwJ2_init_2 ++ []
def dkwJ2_init_1 : List UInt8 := [178, 0, 15, 181, 0, 9, 167, 0, 30, 187, 0, 18, 89, 187, 0, 20, 89, 183, 0, 22, 18, 23]
abbrev dktJ2_init_1 : List UInt8 := dkwJ2_init_1 ++ dktJ2_init_2
def dkwJ2_init_0 : List UInt8 := [42, 183, 0, 1, 27, 158, 0, 14, 42, 27, 189, 0, 7, 181, 0, 9, 167, 0, 44, 27, 154, 0, 13, 42]
abbrev dktJ2_init_0 : List UInt8 := dkwJ2_init_0 ++ dktJ2_init_1
theorem dksJ2_init_0 : cJ2_init.data.toList.drop 0 = dktJ2_init_0 := by decide +kernel
theorem dksJ2_init_1 : cJ2_init.data.toList.drop 24 = dktJ2_init_1 := dk_seg dksJ2_init_0 24 rfl rfl
theorem dksJ2_init_2 : cJ2_init.data.toList.drop 46 = dktJ2_init_2 := dk_seg dksJ2_init_1 22 rfl rfl
theorem dJ2_init_0 : decode cJ2_init 0 = .ok (.aload_n 0, 1) := dk_42 (dk_at dksJ2_init_0 0 rfl rfl)
theorem dJ2_init_1 : decode cJ2_init 1 = .ok (.invokespecial 1, 3) := dk_183 0 1 (dk_at dksJ2_init_0 1 rfl rfl)
theorem dJ2_init_4 : decode cJ2_init 4 = .ok (.iload_n 1, 1) := dk_27 (dk_at dksJ2_init_0 4 rfl rfl)
theorem dJ2_init_5 : decode cJ2_init 5 = .ok (.ifCond .le 14, 3) := dk_158 0 14 (dk_at dksJ2_init_0 5 rfl rfl)
theorem dJ2_init_8 : decode cJ2_init 8 = .ok (.aload_n 0, 1) := dk_42 (dk_at dksJ2_init_0 8 rfl rfl)
theorem dJ2_init_9 : decode cJ2_init 9 = .ok (.iload_n 1, 1) := dk_27 (dk_at dksJ2_init_0 9 rfl rfl)
theorem dJ2_init_10 : decode cJ2_init 10 = .ok (.anewarray 7, 3) := dk_189 0 7 (dk_at dksJ2_init_0 10 rfl rfl)
theorem dJ2_init_13 : decode cJ2_init 13 = .ok (.putfield 9, 3) := dk_181 0 9 (dk_at dksJ2_init_0 13 rfl rfl)
theorem dJ2_init_16 : decode cJ2_init 16 = .ok (.goto 44, 3) := dk_167 0 44 (dk_at dksJ2_init_0 16 rfl rfl)
theorem dJ2_init_19 : decode cJ2_init 19 = .ok (.iload_n 1, 1) := dk_27 (dk_at dksJ2_init_0 19 rfl rfl)
theorem dJ2_init_20 : decode cJ2_init 20 = .ok (.ifCond .ne 13, 3) := dk_154 0 13 (dk_at dksJ2_init_0 20 rfl rfl)
theorem dJ2_init_23 : decode cJ2_init 23 = .ok (.aload_n 0, 1) := dk_42 (dk_at dksJ2_init_0 23 rfl rfl)
theorem dJ2_init_24 : decode cJ2_init 24 = .ok (.getstatic 15, 3) := dk_178 0 15 (dk_at dksJ2_init_1 0 rfl rfl)
theorem dJ2_init_27 : decode cJ2_init 27 = .ok (.putfield 9, 3) := dk_181 0 9 (dk_at dksJ2_init_1 3 rfl rfl)
theorem dJ2_init_30 : decode cJ2_init 30 = .ok (.goto 30, 3) := dk_167 0 30 (dk_at dksJ2_init_1 6 rfl rfl)
theorem dJ2_init_33 : decode cJ2_init 33 = .ok (.new 18, 3) := dk_187 0 18 (dk_at dksJ2_init_1 9 rfl rfl)
theorem dJ2_init_36 : decode cJ2_init 36 = .ok (.dup, 1) := dk_89 (dk_at dksJ2_init_1 12 rfl rfl)
theorem dJ2_init_37 : decode cJ2_init 37 = .ok (.new 20, 3) := dk_187 0 20 (dk_at dksJ2_init_1 13 rfl rfl)
theorem dJ2_init_40 : decode cJ2_init 40 = .ok (.dup, 1) := dk_89 (dk_at dksJ2_init_1 16 rfl rfl)
theorem dJ2_init_41 : decode cJ2_init 41 = .ok (.invokespecial 22, 3) := dk_183 0 22 (dk_at dksJ2_init_1 17 rfl rfl)
theorem dJ2_init_44 : decode cJ2_init 44 = .ok (.ldc 23, 2) := dk_18 23 (dk_at dksJ2_init_1 20 rfl rfl)
theorem dJ2_init_46 : decode cJ2_init 46 = .ok (.invokevirtual 25, 3) := dk_182 0 25 (dk_at dksJ2_init_2 0 rfl rfl)
theorem dJ2_init_49 : decode cJ2_init 49 = .ok (.iload_n 1, 1) := dk_27 (dk_at dksJ2_init_2 3 rfl rfl)
theorem dJ2_init_50 : decode cJ2_init 50 = .ok (.invokevirtual 29, 3) := dk_182 0 29 (dk_at dksJ2_init_2 4 rfl rfl)
theorem dJ2_init_53 : decode cJ2_init 53 = .ok (.invokevirtual 32, 3) := dk_182 0 32 (dk_at dksJ2_init_2 7 rfl rfl)
theorem dJ2_init_56 : decode cJ2_init 56 = .ok (.invokespecial 36, 3) := dk_183 0 36 (dk_at dksJ2_init_2 10 rfl rfl)
theorem dJ2_init_59 : decode cJ2_init 59 = .ok (.athrow, 1) := dk_191 (dk_at dksJ2_init_2 13 rfl rfl)
theorem dJ2_init_60 : decode cJ2_init 60 = .ok (.return_, 1) := dk_177 (dk_at dksJ2_init_2 14 rfl rfl)
abbrev cJ2_size : ByteArray := prog_32_method_8_code
def yJ2_size : MethodName := ⟨RJ2, "size", "()I"⟩
theorem dJ2_size_0 : decode cJ2_size 0 = .ok (.aload_n 0, 1) := by decide +kernel
theorem dJ2_size_1 : decode cJ2_size 1 = .ok (.getfield 48, 3) := by decide +kernel
theorem dJ2_size_4 : decode cJ2_size 4 = .ok (.ireturn, 1) := by decide +kernel
abbrev cJ2_init_2 : ByteArray := prog_32_method_3_code
def yJ2_init_2 : MethodName := ⟨RJ2, "<init>", "(Ljava/util/Collection;)V"⟩
def dkwJ2_init_2_2 : List UInt8 := [18, 56, 184, 0, 57, 181, 0, 9, 167, 0, 10, 42, 178, 0, 15, 181, 0, 9, 177]
abbrev dktJ2_init_2_2 : List UInt8 := dkwJ2_init_2_2 ++ []
def dkwJ2_init_2_1 : List UInt8 := [185, 0, 52, 1, 0, 18, 10, 166, 0, 11, 42, 44, 181, 0, 9, 167, 0, 27, 42, 44, 42, 180, 0, 48]
abbrev dktJ2_init_2_1 : List UInt8 := dkwJ2_init_2_1 ++ dktJ2_init_2_2
def dkwJ2_init_2_0 : List UInt8 := [42, 183, 0, 1, 43, 185, 0, 42, 1, 0, 77, 42, 44, 190, 90, 181, 0, 48, 153, 0, 39, 43]
abbrev dktJ2_init_2_0 : List UInt8 := dkwJ2_init_2_0 ++ dktJ2_init_2_1
theorem dksJ2_init_2_0 : cJ2_init_2.data.toList.drop 0 = dktJ2_init_2_0 := by decide +kernel
theorem dksJ2_init_2_1 : cJ2_init_2.data.toList.drop 22 = dktJ2_init_2_1 := dk_seg dksJ2_init_2_0 22 rfl rfl
theorem dksJ2_init_2_2 : cJ2_init_2.data.toList.drop 46 = dktJ2_init_2_2 := dk_seg dksJ2_init_2_1 24 rfl rfl
theorem dJ2_init_2_0 : decode cJ2_init_2 0 = .ok (.aload_n 0, 1) := dk_42 (dk_at dksJ2_init_2_0 0 rfl rfl)
theorem dJ2_init_2_1 : decode cJ2_init_2 1 = .ok (.invokespecial 1, 3) := dk_183 0 1 (dk_at dksJ2_init_2_0 1 rfl rfl)
theorem dJ2_init_2_4 : decode cJ2_init_2 4 = .ok (.aload_n 1, 1) := dk_43 (dk_at dksJ2_init_2_0 4 rfl rfl)
theorem dJ2_init_2_5 : decode cJ2_init_2 5 = .ok (.invokeinterface 42 1, 5) := by decide +kernel
theorem dJ2_init_2_10 : decode cJ2_init_2 10 = .ok (.astore_n 2, 1) := dk_77 (dk_at dksJ2_init_2_0 10 rfl rfl)
theorem dJ2_init_2_11 : decode cJ2_init_2 11 = .ok (.aload_n 0, 1) := dk_42 (dk_at dksJ2_init_2_0 11 rfl rfl)
theorem dJ2_init_2_12 : decode cJ2_init_2 12 = .ok (.aload_n 2, 1) := dk_44 (dk_at dksJ2_init_2_0 12 rfl rfl)
theorem dJ2_init_2_13 : decode cJ2_init_2 13 = .ok (.arraylength, 1) := dk_190 (dk_at dksJ2_init_2_0 13 rfl rfl)
theorem dJ2_init_2_14 : decode cJ2_init_2 14 = .ok (.dup_x1, 1) := dk_90 (dk_at dksJ2_init_2_0 14 rfl rfl)
theorem dJ2_init_2_15 : decode cJ2_init_2 15 = .ok (.putfield 48, 3) := dk_181 0 48 (dk_at dksJ2_init_2_0 15 rfl rfl)
theorem dJ2_init_2_18 : decode cJ2_init_2 18 = .ok (.ifCond .eq 39, 3) := dk_153 0 39 (dk_at dksJ2_init_2_0 18 rfl rfl)
theorem dJ2_init_2_21 : decode cJ2_init_2 21 = .ok (.aload_n 1, 1) := dk_43 (dk_at dksJ2_init_2_0 21 rfl rfl)
theorem dJ2_init_2_22 : decode cJ2_init_2 22 = .ok (.invokeinterface 52 1, 5) := by decide +kernel
theorem dJ2_init_2_27 : decode cJ2_init_2 27 = .ok (.ldc 10, 2) := dk_18 10 (dk_at dksJ2_init_2_1 5 rfl rfl)
theorem dJ2_init_2_29 : decode cJ2_init_2 29 = .ok (.if_acmp .ne 11, 3) := dk_166 0 11 (dk_at dksJ2_init_2_1 7 rfl rfl)
theorem dJ2_init_2_32 : decode cJ2_init_2 32 = .ok (.aload_n 0, 1) := dk_42 (dk_at dksJ2_init_2_1 10 rfl rfl)
theorem dJ2_init_2_33 : decode cJ2_init_2 33 = .ok (.aload_n 2, 1) := dk_44 (dk_at dksJ2_init_2_1 11 rfl rfl)
theorem dJ2_init_2_34 : decode cJ2_init_2 34 = .ok (.putfield 9, 3) := dk_181 0 9 (dk_at dksJ2_init_2_1 12 rfl rfl)
theorem dJ2_init_2_37 : decode cJ2_init_2 37 = .ok (.goto 27, 3) := dk_167 0 27 (dk_at dksJ2_init_2_1 15 rfl rfl)
theorem dJ2_init_2_40 : decode cJ2_init_2 40 = .ok (.aload_n 0, 1) := dk_42 (dk_at dksJ2_init_2_1 18 rfl rfl)
theorem dJ2_init_2_41 : decode cJ2_init_2 41 = .ok (.aload_n 2, 1) := dk_44 (dk_at dksJ2_init_2_1 19 rfl rfl)
theorem dJ2_init_2_42 : decode cJ2_init_2 42 = .ok (.aload_n 0, 1) := dk_42 (dk_at dksJ2_init_2_1 20 rfl rfl)
theorem dJ2_init_2_43 : decode cJ2_init_2 43 = .ok (.getfield 48, 3) := dk_180 0 48 (dk_at dksJ2_init_2_1 21 rfl rfl)
theorem dJ2_init_2_46 : decode cJ2_init_2 46 = .ok (.ldc 56, 2) := dk_18 56 (dk_at dksJ2_init_2_2 0 rfl rfl)
theorem dJ2_init_2_48 : decode cJ2_init_2 48 = .ok (.invokestatic 57, 3) := dk_184 0 57 (dk_at dksJ2_init_2_2 2 rfl rfl)
theorem dJ2_init_2_51 : decode cJ2_init_2 51 = .ok (.putfield 9, 3) := dk_181 0 9 (dk_at dksJ2_init_2_2 5 rfl rfl)
theorem dJ2_init_2_54 : decode cJ2_init_2 54 = .ok (.goto 10, 3) := dk_167 0 10 (dk_at dksJ2_init_2_2 8 rfl rfl)
theorem dJ2_init_2_57 : decode cJ2_init_2 57 = .ok (.aload_n 0, 1) := dk_42 (dk_at dksJ2_init_2_2 11 rfl rfl)
theorem dJ2_init_2_58 : decode cJ2_init_2 58 = .ok (.getstatic 15, 3) := dk_178 0 15 (dk_at dksJ2_init_2_2 12 rfl rfl)
theorem dJ2_init_2_61 : decode cJ2_init_2 61 = .ok (.putfield 9, 3) := dk_181 0 9 (dk_at dksJ2_init_2_2 15 rfl rfl)
theorem dJ2_init_2_64 : decode cJ2_init_2 64 = .ok (.return_, 1) := dk_177 (dk_at dksJ2_init_2_2 18 rfl rfl)
abbrev cJ2_toArray : ByteArray := prog_32_method_16_code
def yJ2_toArray : MethodName := ⟨RJ2, "toArray", "()[Ljava/lang/Object;"⟩
def dkwJ2_toArray_0 : List UInt8 := [42, 180, 0, 9, 42, 180, 0, 48, 184, 0, 66, 176]
abbrev dktJ2_toArray_0 : List UInt8 := dkwJ2_toArray_0 ++ []
theorem dksJ2_toArray_0 : cJ2_toArray.data.toList.drop 0 = dktJ2_toArray_0 := by decide +kernel
theorem dJ2_toArray_0 : decode cJ2_toArray 0 = .ok (.aload_n 0, 1) := dk_42 (dk_at dksJ2_toArray_0 0 rfl rfl)
theorem dJ2_toArray_1 : decode cJ2_toArray 1 = .ok (.getfield 9, 3) := dk_180 0 9 (dk_at dksJ2_toArray_0 1 rfl rfl)
theorem dJ2_toArray_4 : decode cJ2_toArray 4 = .ok (.aload_n 0, 1) := dk_42 (dk_at dksJ2_toArray_0 4 rfl rfl)
theorem dJ2_toArray_5 : decode cJ2_toArray 5 = .ok (.getfield 48, 3) := dk_180 0 48 (dk_at dksJ2_toArray_0 5 rfl rfl)
theorem dJ2_toArray_8 : decode cJ2_toArray 8 = .ok (.invokestatic 66, 3) := dk_184 0 66 (dk_at dksJ2_toArray_0 8 rfl rfl)
theorem dJ2_toArray_11 : decode cJ2_toArray 11 = .ok (.areturn, 1) := dk_176 (dk_at dksJ2_toArray_0 11 rfl rfl)
abbrev cJ2_add : ByteArray := prog_32_method_25_code
def yJ2_add : MethodName := ⟨RJ2, "add", "(Ljava/lang/Object;)Z"⟩
def dkwJ2_add_1 : List UInt8 := [172]
abbrev dktJ2_add_1 : List UInt8 := dkwJ2_add_1 ++ []
def dkwJ2_add_0 : List UInt8 := [42, 89, 180, 0, 63, 4, 96, 181, 0, 63, 42, 43, 42, 180, 0, 9, 42, 180, 0, 48, 182, 0, 131, 4]
abbrev dktJ2_add_0 : List UInt8 := dkwJ2_add_0 ++ dktJ2_add_1
theorem dksJ2_add_0 : cJ2_add.data.toList.drop 0 = dktJ2_add_0 := by decide +kernel
theorem dksJ2_add_1 : cJ2_add.data.toList.drop 24 = dktJ2_add_1 := dk_seg dksJ2_add_0 24 rfl rfl
theorem dJ2_add_0 : decode cJ2_add 0 = .ok (.aload_n 0, 1) := dk_42 (dk_at dksJ2_add_0 0 rfl rfl)
theorem dJ2_add_1 : decode cJ2_add 1 = .ok (.dup, 1) := dk_89 (dk_at dksJ2_add_0 1 rfl rfl)
theorem dJ2_add_2 : decode cJ2_add 2 = .ok (.getfield 63, 3) := dk_180 0 63 (dk_at dksJ2_add_0 2 rfl rfl)
theorem dJ2_add_5 : decode cJ2_add 5 = .ok (.iconst 1, 1) := dk_4 (dk_at dksJ2_add_0 5 rfl rfl)
theorem dJ2_add_6 : decode cJ2_add 6 = .ok (.iadd, 1) := dk_96 (dk_at dksJ2_add_0 6 rfl rfl)
theorem dJ2_add_7 : decode cJ2_add 7 = .ok (.putfield 63, 3) := dk_181 0 63 (dk_at dksJ2_add_0 7 rfl rfl)
theorem dJ2_add_10 : decode cJ2_add 10 = .ok (.aload_n 0, 1) := dk_42 (dk_at dksJ2_add_0 10 rfl rfl)
theorem dJ2_add_11 : decode cJ2_add 11 = .ok (.aload_n 1, 1) := dk_43 (dk_at dksJ2_add_0 11 rfl rfl)
theorem dJ2_add_12 : decode cJ2_add 12 = .ok (.aload_n 0, 1) := dk_42 (dk_at dksJ2_add_0 12 rfl rfl)
theorem dJ2_add_13 : decode cJ2_add 13 = .ok (.getfield 9, 3) := dk_180 0 9 (dk_at dksJ2_add_0 13 rfl rfl)
theorem dJ2_add_16 : decode cJ2_add 16 = .ok (.aload_n 0, 1) := dk_42 (dk_at dksJ2_add_0 16 rfl rfl)
theorem dJ2_add_17 : decode cJ2_add 17 = .ok (.getfield 48, 3) := dk_180 0 48 (dk_at dksJ2_add_0 17 rfl rfl)
theorem dJ2_add_20 : decode cJ2_add 20 = .ok (.invokevirtual 131, 3) := dk_182 0 131 (dk_at dksJ2_add_0 20 rfl rfl)
theorem dJ2_add_23 : decode cJ2_add 23 = .ok (.iconst 1, 1) := dk_4 (dk_at dksJ2_add_0 23 rfl rfl)
theorem dJ2_add_24 : decode cJ2_add 24 = .ok (.ireturn, 1) := dk_172 (dk_at dksJ2_add_1 0 rfl rfl)
abbrev cJ2_add_2 : ByteArray := prog_32_method_24_code
def yJ2_add_2 : MethodName := ⟨RJ2, "add", "(Ljava/lang/Object;[Ljava/lang/Object;I)V"⟩
def dkwJ2_add_2_0 : List UInt8 := [29, 44, 190, 160, 0, 8, 42, 182, 0, 129, 77, 44, 29, 43, 83, 42, 29, 4, 96, 181, 0, 48, 177]
abbrev dktJ2_add_2_0 : List UInt8 := dkwJ2_add_2_0 ++ []
theorem dksJ2_add_2_0 : cJ2_add_2.data.toList.drop 0 = dktJ2_add_2_0 := by decide +kernel
theorem dJ2_add_2_0 : decode cJ2_add_2 0 = .ok (.iload_n 3, 1) := dk_29 (dk_at dksJ2_add_2_0 0 rfl rfl)
theorem dJ2_add_2_1 : decode cJ2_add_2 1 = .ok (.aload_n 2, 1) := dk_44 (dk_at dksJ2_add_2_0 1 rfl rfl)
theorem dJ2_add_2_2 : decode cJ2_add_2 2 = .ok (.arraylength, 1) := dk_190 (dk_at dksJ2_add_2_0 2 rfl rfl)
theorem dJ2_add_2_3 : decode cJ2_add_2 3 = .ok (.if_icmp .ne 8, 3) := dk_160 0 8 (dk_at dksJ2_add_2_0 3 rfl rfl)
theorem dJ2_add_2_6 : decode cJ2_add_2 6 = .ok (.aload_n 0, 1) := dk_42 (dk_at dksJ2_add_2_0 6 rfl rfl)
theorem dJ2_add_2_7 : decode cJ2_add_2 7 = .ok (.invokevirtual 129, 3) := dk_182 0 129 (dk_at dksJ2_add_2_0 7 rfl rfl)
theorem dJ2_add_2_10 : decode cJ2_add_2 10 = .ok (.astore_n 2, 1) := dk_77 (dk_at dksJ2_add_2_0 10 rfl rfl)
theorem dJ2_add_2_11 : decode cJ2_add_2 11 = .ok (.aload_n 2, 1) := dk_44 (dk_at dksJ2_add_2_0 11 rfl rfl)
theorem dJ2_add_2_12 : decode cJ2_add_2 12 = .ok (.iload_n 3, 1) := dk_29 (dk_at dksJ2_add_2_0 12 rfl rfl)
theorem dJ2_add_2_13 : decode cJ2_add_2 13 = .ok (.aload_n 1, 1) := dk_43 (dk_at dksJ2_add_2_0 13 rfl rfl)
theorem dJ2_add_2_14 : decode cJ2_add_2 14 = .ok (.aastore, 1) := dk_83 (dk_at dksJ2_add_2_0 14 rfl rfl)
theorem dJ2_add_2_15 : decode cJ2_add_2 15 = .ok (.aload_n 0, 1) := dk_42 (dk_at dksJ2_add_2_0 15 rfl rfl)
theorem dJ2_add_2_16 : decode cJ2_add_2 16 = .ok (.iload_n 3, 1) := dk_29 (dk_at dksJ2_add_2_0 16 rfl rfl)
theorem dJ2_add_2_17 : decode cJ2_add_2 17 = .ok (.iconst 1, 1) := dk_4 (dk_at dksJ2_add_2_0 17 rfl rfl)
theorem dJ2_add_2_18 : decode cJ2_add_2 18 = .ok (.iadd, 1) := dk_96 (dk_at dksJ2_add_2_0 18 rfl rfl)
theorem dJ2_add_2_19 : decode cJ2_add_2 19 = .ok (.putfield 48, 3) := dk_181 0 48 (dk_at dksJ2_add_2_0 19 rfl rfl)
theorem dJ2_add_2_22 : decode cJ2_add_2 22 = .ok (.return_, 1) := dk_177 (dk_at dksJ2_add_2_0 22 rfl rfl)
abbrev cJ2_grow : ByteArray := prog_32_method_7_code
def yJ2_grow : MethodName := ⟨RJ2, "grow", "()[Ljava/lang/Object;"⟩
def dkwJ2_grow_0 : List UInt8 := [42, 42, 180, 0, 48, 4, 96, 182, 0, 69, 176]
abbrev dktJ2_grow_0 : List UInt8 := dkwJ2_grow_0 ++ []
theorem dksJ2_grow_0 : cJ2_grow.data.toList.drop 0 = dktJ2_grow_0 := by decide +kernel
theorem dJ2_grow_0 : decode cJ2_grow 0 = .ok (.aload_n 0, 1) := dk_42 (dk_at dksJ2_grow_0 0 rfl rfl)
theorem dJ2_grow_1 : decode cJ2_grow 1 = .ok (.aload_n 0, 1) := dk_42 (dk_at dksJ2_grow_0 1 rfl rfl)
theorem dJ2_grow_2 : decode cJ2_grow 2 = .ok (.getfield 48, 3) := dk_180 0 48 (dk_at dksJ2_grow_0 2 rfl rfl)
theorem dJ2_grow_5 : decode cJ2_grow 5 = .ok (.iconst 1, 1) := dk_4 (dk_at dksJ2_grow_0 5 rfl rfl)
theorem dJ2_grow_6 : decode cJ2_grow 6 = .ok (.iadd, 1) := dk_96 (dk_at dksJ2_grow_0 6 rfl rfl)
theorem dJ2_grow_7 : decode cJ2_grow 7 = .ok (.invokevirtual 69, 3) := dk_182 0 69 (dk_at dksJ2_grow_0 7 rfl rfl)
theorem dJ2_grow_10 : decode cJ2_grow 10 = .ok (.areturn, 1) := dk_176 (dk_at dksJ2_grow_0 10 rfl rfl)
abbrev cJ2_grow_2 : ByteArray := prog_32_method_6_code
def yJ2_grow_2 : MethodName := ⟨RJ2, "grow", "(I)[Ljava/lang/Object;"⟩
def dkwJ2_grow_2_2 : List UInt8 := [27, 184, 0, 79, 189, 0, 7, 90, 181, 0, 9, 176]
abbrev dktJ2_grow_2_2 : List UInt8 := dkwJ2_grow_2_2 ++ []
def dkwJ2_grow_2_1 : List UInt8 := [28, 4, 122, 184, 0, 73, 62, 42, 42, 180, 0, 9, 29, 184, 0, 66, 90, 181, 0, 9, 176, 42, 16, 10]
abbrev dktJ2_grow_2_1 : List UInt8 := dkwJ2_grow_2_1 ++ dktJ2_grow_2_2
def dkwJ2_grow_2_0 : List UInt8 := [42, 180, 0, 9, 190, 61, 28, 157, 0, 13, 42, 180, 0, 9, 178, 0, 39, 165, 0, 28, 28, 27, 28, 100]
abbrev dktJ2_grow_2_0 : List UInt8 := dkwJ2_grow_2_0 ++ dktJ2_grow_2_1
theorem dksJ2_grow_2_0 : cJ2_grow_2.data.toList.drop 0 = dktJ2_grow_2_0 := by decide +kernel
theorem dksJ2_grow_2_1 : cJ2_grow_2.data.toList.drop 24 = dktJ2_grow_2_1 := dk_seg dksJ2_grow_2_0 24 rfl rfl
theorem dksJ2_grow_2_2 : cJ2_grow_2.data.toList.drop 48 = dktJ2_grow_2_2 := dk_seg dksJ2_grow_2_1 24 rfl rfl
theorem dJ2_grow_2_0 : decode cJ2_grow_2 0 = .ok (.aload_n 0, 1) := dk_42 (dk_at dksJ2_grow_2_0 0 rfl rfl)
theorem dJ2_grow_2_1 : decode cJ2_grow_2 1 = .ok (.getfield 9, 3) := dk_180 0 9 (dk_at dksJ2_grow_2_0 1 rfl rfl)
theorem dJ2_grow_2_4 : decode cJ2_grow_2 4 = .ok (.arraylength, 1) := dk_190 (dk_at dksJ2_grow_2_0 4 rfl rfl)
theorem dJ2_grow_2_5 : decode cJ2_grow_2 5 = .ok (.istore_n 2, 1) := dk_61 (dk_at dksJ2_grow_2_0 5 rfl rfl)
theorem dJ2_grow_2_6 : decode cJ2_grow_2 6 = .ok (.iload_n 2, 1) := dk_28 (dk_at dksJ2_grow_2_0 6 rfl rfl)
theorem dJ2_grow_2_7 : decode cJ2_grow_2 7 = .ok (.ifCond .gt 13, 3) := dk_157 0 13 (dk_at dksJ2_grow_2_0 7 rfl rfl)
theorem dJ2_grow_2_10 : decode cJ2_grow_2 10 = .ok (.aload_n 0, 1) := dk_42 (dk_at dksJ2_grow_2_0 10 rfl rfl)
theorem dJ2_grow_2_11 : decode cJ2_grow_2 11 = .ok (.getfield 9, 3) := dk_180 0 9 (dk_at dksJ2_grow_2_0 11 rfl rfl)
theorem dJ2_grow_2_14 : decode cJ2_grow_2 14 = .ok (.getstatic 39, 3) := dk_178 0 39 (dk_at dksJ2_grow_2_0 14 rfl rfl)
theorem dJ2_grow_2_17 : decode cJ2_grow_2 17 = .ok (.if_acmp .eq 28, 3) := dk_165 0 28 (dk_at dksJ2_grow_2_0 17 rfl rfl)
theorem dJ2_grow_2_20 : decode cJ2_grow_2 20 = .ok (.iload_n 2, 1) := dk_28 (dk_at dksJ2_grow_2_0 20 rfl rfl)
theorem dJ2_grow_2_21 : decode cJ2_grow_2 21 = .ok (.iload_n 1, 1) := dk_27 (dk_at dksJ2_grow_2_0 21 rfl rfl)
theorem dJ2_grow_2_22 : decode cJ2_grow_2 22 = .ok (.iload_n 2, 1) := dk_28 (dk_at dksJ2_grow_2_0 22 rfl rfl)
theorem dJ2_grow_2_23 : decode cJ2_grow_2 23 = .ok (.isub, 1) := dk_100 (dk_at dksJ2_grow_2_0 23 rfl rfl)
theorem dJ2_grow_2_24 : decode cJ2_grow_2 24 = .ok (.iload_n 2, 1) := dk_28 (dk_at dksJ2_grow_2_1 0 rfl rfl)
theorem dJ2_grow_2_25 : decode cJ2_grow_2 25 = .ok (.iconst 1, 1) := dk_4 (dk_at dksJ2_grow_2_1 1 rfl rfl)
theorem dJ2_grow_2_26 : decode cJ2_grow_2 26 = .ok (.ishr, 1) := dk_122 (dk_at dksJ2_grow_2_1 2 rfl rfl)
theorem dJ2_grow_2_27 : decode cJ2_grow_2 27 = .ok (.invokestatic 73, 3) := dk_184 0 73 (dk_at dksJ2_grow_2_1 3 rfl rfl)
theorem dJ2_grow_2_30 : decode cJ2_grow_2 30 = .ok (.istore_n 3, 1) := dk_62 (dk_at dksJ2_grow_2_1 6 rfl rfl)
theorem dJ2_grow_2_31 : decode cJ2_grow_2 31 = .ok (.aload_n 0, 1) := dk_42 (dk_at dksJ2_grow_2_1 7 rfl rfl)
theorem dJ2_grow_2_32 : decode cJ2_grow_2 32 = .ok (.aload_n 0, 1) := dk_42 (dk_at dksJ2_grow_2_1 8 rfl rfl)
theorem dJ2_grow_2_33 : decode cJ2_grow_2 33 = .ok (.getfield 9, 3) := dk_180 0 9 (dk_at dksJ2_grow_2_1 9 rfl rfl)
theorem dJ2_grow_2_36 : decode cJ2_grow_2 36 = .ok (.iload_n 3, 1) := dk_29 (dk_at dksJ2_grow_2_1 12 rfl rfl)
theorem dJ2_grow_2_37 : decode cJ2_grow_2 37 = .ok (.invokestatic 66, 3) := dk_184 0 66 (dk_at dksJ2_grow_2_1 13 rfl rfl)
theorem dJ2_grow_2_40 : decode cJ2_grow_2 40 = .ok (.dup_x1, 1) := dk_90 (dk_at dksJ2_grow_2_1 16 rfl rfl)
theorem dJ2_grow_2_41 : decode cJ2_grow_2 41 = .ok (.putfield 9, 3) := dk_181 0 9 (dk_at dksJ2_grow_2_1 17 rfl rfl)
theorem dJ2_grow_2_44 : decode cJ2_grow_2 44 = .ok (.areturn, 1) := dk_176 (dk_at dksJ2_grow_2_1 20 rfl rfl)
theorem dJ2_grow_2_45 : decode cJ2_grow_2 45 = .ok (.aload_n 0, 1) := dk_42 (dk_at dksJ2_grow_2_1 21 rfl rfl)
theorem dJ2_grow_2_46 : decode cJ2_grow_2 46 = .ok (.bipush 10, 2) := dk_16 10 (dk_at dksJ2_grow_2_1 22 rfl rfl)
theorem dJ2_grow_2_48 : decode cJ2_grow_2 48 = .ok (.iload_n 1, 1) := dk_27 (dk_at dksJ2_grow_2_2 0 rfl rfl)
theorem dJ2_grow_2_49 : decode cJ2_grow_2 49 = .ok (.invokestatic 79, 3) := dk_184 0 79 (dk_at dksJ2_grow_2_2 1 rfl rfl)
theorem dJ2_grow_2_52 : decode cJ2_grow_2 52 = .ok (.anewarray 7, 3) := dk_189 0 7 (dk_at dksJ2_grow_2_2 4 rfl rfl)
theorem dJ2_grow_2_55 : decode cJ2_grow_2 55 = .ok (.dup_x1, 1) := dk_90 (dk_at dksJ2_grow_2_2 7 rfl rfl)
theorem dJ2_grow_2_56 : decode cJ2_grow_2 56 = .ok (.putfield 9, 3) := dk_181 0 9 (dk_at dksJ2_grow_2_2 8 rfl rfl)
theorem dJ2_grow_2_59 : decode cJ2_grow_2 59 = .ok (.areturn, 1) := dk_176 (dk_at dksJ2_grow_2_2 11 rfl rfl)
abbrev cJ2_remove : ByteArray := prog_32_method_29_code
def yJ2_remove : MethodName := ⟨RJ2, "remove", "(I)Ljava/lang/Object;"⟩
def dkwJ2_remove_1 : List UInt8 := [45, 176]
abbrev dktJ2_remove_1 : List UInt8 := dkwJ2_remove_1 ++ []
def dkwJ2_remove_0 : List UInt8 := [27, 42, 180, 0, 48, 184, 0, 118, 87, 42, 180, 0, 9, 77, 44, 27, 50, 78, 42, 44, 27, 182, 0, 144]
abbrev dktJ2_remove_0 : List UInt8 := dkwJ2_remove_0 ++ dktJ2_remove_1
theorem dksJ2_remove_0 : cJ2_remove.data.toList.drop 0 = dktJ2_remove_0 := by decide +kernel
theorem dksJ2_remove_1 : cJ2_remove.data.toList.drop 24 = dktJ2_remove_1 := dk_seg dksJ2_remove_0 24 rfl rfl
theorem dJ2_remove_0 : decode cJ2_remove 0 = .ok (.iload_n 1, 1) := dk_27 (dk_at dksJ2_remove_0 0 rfl rfl)
theorem dJ2_remove_1 : decode cJ2_remove 1 = .ok (.aload_n 0, 1) := dk_42 (dk_at dksJ2_remove_0 1 rfl rfl)
theorem dJ2_remove_2 : decode cJ2_remove 2 = .ok (.getfield 48, 3) := dk_180 0 48 (dk_at dksJ2_remove_0 2 rfl rfl)
theorem dJ2_remove_5 : decode cJ2_remove 5 = .ok (.invokestatic 118, 3) := dk_184 0 118 (dk_at dksJ2_remove_0 5 rfl rfl)
theorem dJ2_remove_8 : decode cJ2_remove 8 = .ok (.pop, 1) := dk_87 (dk_at dksJ2_remove_0 8 rfl rfl)
theorem dJ2_remove_9 : decode cJ2_remove 9 = .ok (.aload_n 0, 1) := dk_42 (dk_at dksJ2_remove_0 9 rfl rfl)
theorem dJ2_remove_10 : decode cJ2_remove 10 = .ok (.getfield 9, 3) := dk_180 0 9 (dk_at dksJ2_remove_0 10 rfl rfl)
theorem dJ2_remove_13 : decode cJ2_remove 13 = .ok (.astore_n 2, 1) := dk_77 (dk_at dksJ2_remove_0 13 rfl rfl)
theorem dJ2_remove_14 : decode cJ2_remove 14 = .ok (.aload_n 2, 1) := dk_44 (dk_at dksJ2_remove_0 14 rfl rfl)
theorem dJ2_remove_15 : decode cJ2_remove 15 = .ok (.iload_n 1, 1) := dk_27 (dk_at dksJ2_remove_0 15 rfl rfl)
theorem dJ2_remove_16 : decode cJ2_remove 16 = .ok (.aaload, 1) := dk_50 (dk_at dksJ2_remove_0 16 rfl rfl)
theorem dJ2_remove_17 : decode cJ2_remove 17 = .ok (.astore_n 3, 1) := dk_78 (dk_at dksJ2_remove_0 17 rfl rfl)
theorem dJ2_remove_18 : decode cJ2_remove 18 = .ok (.aload_n 0, 1) := dk_42 (dk_at dksJ2_remove_0 18 rfl rfl)
theorem dJ2_remove_19 : decode cJ2_remove 19 = .ok (.aload_n 2, 1) := dk_44 (dk_at dksJ2_remove_0 19 rfl rfl)
theorem dJ2_remove_20 : decode cJ2_remove 20 = .ok (.iload_n 1, 1) := dk_27 (dk_at dksJ2_remove_0 20 rfl rfl)
theorem dJ2_remove_21 : decode cJ2_remove 21 = .ok (.invokevirtual 144, 3) := dk_182 0 144 (dk_at dksJ2_remove_0 21 rfl rfl)
theorem dJ2_remove_24 : decode cJ2_remove 24 = .ok (.aload_n 3, 1) := dk_45 (dk_at dksJ2_remove_1 0 rfl rfl)
theorem dJ2_remove_25 : decode cJ2_remove 25 = .ok (.areturn, 1) := dk_176 (dk_at dksJ2_remove_1 1 rfl rfl)
abbrev cJ2_fastRemove : ByteArray := prog_32_method_39_code
def yJ2_fastRemove : MethodName := ⟨RJ2, "fastRemove", "([Ljava/lang/Object;I)V"⟩
def dkwJ2_fastRemove_1 : List UInt8 := [4, 96, 43, 28, 29, 28, 100, 184, 0, 112, 43, 42, 29, 90, 181, 0, 48, 1, 83, 177]
abbrev dktJ2_fastRemove_1 : List UInt8 := dkwJ2_fastRemove_1 ++ []
def dkwJ2_fastRemove_0 : List UInt8 := [42, 89, 180, 0, 63, 4, 96, 181, 0, 63, 42, 180, 0, 48, 4, 100, 89, 62, 28, 164, 0, 15, 43, 28]
abbrev dktJ2_fastRemove_0 : List UInt8 := dkwJ2_fastRemove_0 ++ dktJ2_fastRemove_1
theorem dksJ2_fastRemove_0 : cJ2_fastRemove.data.toList.drop 0 = dktJ2_fastRemove_0 := by decide +kernel
theorem dksJ2_fastRemove_1 : cJ2_fastRemove.data.toList.drop 24 = dktJ2_fastRemove_1 := dk_seg dksJ2_fastRemove_0 24 rfl rfl
theorem dJ2_fastRemove_0 : decode cJ2_fastRemove 0 = .ok (.aload_n 0, 1) := dk_42 (dk_at dksJ2_fastRemove_0 0 rfl rfl)
theorem dJ2_fastRemove_1 : decode cJ2_fastRemove 1 = .ok (.dup, 1) := dk_89 (dk_at dksJ2_fastRemove_0 1 rfl rfl)
theorem dJ2_fastRemove_2 : decode cJ2_fastRemove 2 = .ok (.getfield 63, 3) := dk_180 0 63 (dk_at dksJ2_fastRemove_0 2 rfl rfl)
theorem dJ2_fastRemove_5 : decode cJ2_fastRemove 5 = .ok (.iconst 1, 1) := dk_4 (dk_at dksJ2_fastRemove_0 5 rfl rfl)
theorem dJ2_fastRemove_6 : decode cJ2_fastRemove 6 = .ok (.iadd, 1) := dk_96 (dk_at dksJ2_fastRemove_0 6 rfl rfl)
theorem dJ2_fastRemove_7 : decode cJ2_fastRemove 7 = .ok (.putfield 63, 3) := dk_181 0 63 (dk_at dksJ2_fastRemove_0 7 rfl rfl)
theorem dJ2_fastRemove_10 : decode cJ2_fastRemove 10 = .ok (.aload_n 0, 1) := dk_42 (dk_at dksJ2_fastRemove_0 10 rfl rfl)
theorem dJ2_fastRemove_11 : decode cJ2_fastRemove 11 = .ok (.getfield 48, 3) := dk_180 0 48 (dk_at dksJ2_fastRemove_0 11 rfl rfl)
theorem dJ2_fastRemove_14 : decode cJ2_fastRemove 14 = .ok (.iconst 1, 1) := dk_4 (dk_at dksJ2_fastRemove_0 14 rfl rfl)
theorem dJ2_fastRemove_15 : decode cJ2_fastRemove 15 = .ok (.isub, 1) := dk_100 (dk_at dksJ2_fastRemove_0 15 rfl rfl)
theorem dJ2_fastRemove_16 : decode cJ2_fastRemove 16 = .ok (.dup, 1) := dk_89 (dk_at dksJ2_fastRemove_0 16 rfl rfl)
theorem dJ2_fastRemove_17 : decode cJ2_fastRemove 17 = .ok (.istore_n 3, 1) := dk_62 (dk_at dksJ2_fastRemove_0 17 rfl rfl)
theorem dJ2_fastRemove_18 : decode cJ2_fastRemove 18 = .ok (.iload_n 2, 1) := dk_28 (dk_at dksJ2_fastRemove_0 18 rfl rfl)
theorem dJ2_fastRemove_19 : decode cJ2_fastRemove 19 = .ok (.if_icmp .le 15, 3) := dk_164 0 15 (dk_at dksJ2_fastRemove_0 19 rfl rfl)
theorem dJ2_fastRemove_22 : decode cJ2_fastRemove 22 = .ok (.aload_n 1, 1) := dk_43 (dk_at dksJ2_fastRemove_0 22 rfl rfl)
theorem dJ2_fastRemove_23 : decode cJ2_fastRemove 23 = .ok (.iload_n 2, 1) := dk_28 (dk_at dksJ2_fastRemove_0 23 rfl rfl)
theorem dJ2_fastRemove_24 : decode cJ2_fastRemove 24 = .ok (.iconst 1, 1) := dk_4 (dk_at dksJ2_fastRemove_1 0 rfl rfl)
theorem dJ2_fastRemove_25 : decode cJ2_fastRemove 25 = .ok (.iadd, 1) := dk_96 (dk_at dksJ2_fastRemove_1 1 rfl rfl)
theorem dJ2_fastRemove_26 : decode cJ2_fastRemove 26 = .ok (.aload_n 1, 1) := dk_43 (dk_at dksJ2_fastRemove_1 2 rfl rfl)
theorem dJ2_fastRemove_27 : decode cJ2_fastRemove 27 = .ok (.iload_n 2, 1) := dk_28 (dk_at dksJ2_fastRemove_1 3 rfl rfl)
theorem dJ2_fastRemove_28 : decode cJ2_fastRemove 28 = .ok (.iload_n 3, 1) := dk_29 (dk_at dksJ2_fastRemove_1 4 rfl rfl)
theorem dJ2_fastRemove_29 : decode cJ2_fastRemove 29 = .ok (.iload_n 2, 1) := dk_28 (dk_at dksJ2_fastRemove_1 5 rfl rfl)
theorem dJ2_fastRemove_30 : decode cJ2_fastRemove 30 = .ok (.isub, 1) := dk_100 (dk_at dksJ2_fastRemove_1 6 rfl rfl)
theorem dJ2_fastRemove_31 : decode cJ2_fastRemove 31 = .ok (.invokestatic 112, 3) := dk_184 0 112 (dk_at dksJ2_fastRemove_1 7 rfl rfl)
theorem dJ2_fastRemove_34 : decode cJ2_fastRemove 34 = .ok (.aload_n 1, 1) := dk_43 (dk_at dksJ2_fastRemove_1 10 rfl rfl)
theorem dJ2_fastRemove_35 : decode cJ2_fastRemove 35 = .ok (.aload_n 0, 1) := dk_42 (dk_at dksJ2_fastRemove_1 11 rfl rfl)
theorem dJ2_fastRemove_36 : decode cJ2_fastRemove 36 = .ok (.iload_n 3, 1) := dk_29 (dk_at dksJ2_fastRemove_1 12 rfl rfl)
theorem dJ2_fastRemove_37 : decode cJ2_fastRemove 37 = .ok (.dup_x1, 1) := dk_90 (dk_at dksJ2_fastRemove_1 13 rfl rfl)
theorem dJ2_fastRemove_38 : decode cJ2_fastRemove 38 = .ok (.putfield 48, 3) := dk_181 0 48 (dk_at dksJ2_fastRemove_1 14 rfl rfl)
theorem dJ2_fastRemove_41 : decode cJ2_fastRemove 41 = .ok (.aconst_null, 1) := dk_1 (dk_at dksJ2_fastRemove_1 17 rfl rfl)
theorem dJ2_fastRemove_42 : decode cJ2_fastRemove 42 = .ok (.aastore, 1) := dk_83 (dk_at dksJ2_fastRemove_1 18 rfl rfl)
theorem dJ2_fastRemove_43 : decode cJ2_fastRemove 43 = .ok (.return_, 1) := dk_177 (dk_at dksJ2_fastRemove_1 19 rfl rfl)
abbrev cJ2_get : ByteArray := prog_32_method_20_code
def yJ2_get : MethodName := ⟨RJ2, "get", "(I)Ljava/lang/Object;"⟩
def dkwJ2_get_0 : List UInt8 := [27, 42, 180, 0, 48, 184, 0, 118, 87, 42, 27, 182, 0, 123, 176]
abbrev dktJ2_get_0 : List UInt8 := dkwJ2_get_0 ++ []
theorem dksJ2_get_0 : cJ2_get.data.toList.drop 0 = dktJ2_get_0 := by decide +kernel
theorem dJ2_get_0 : decode cJ2_get 0 = .ok (.iload_n 1, 1) := dk_27 (dk_at dksJ2_get_0 0 rfl rfl)
theorem dJ2_get_1 : decode cJ2_get 1 = .ok (.aload_n 0, 1) := dk_42 (dk_at dksJ2_get_0 1 rfl rfl)
theorem dJ2_get_2 : decode cJ2_get 2 = .ok (.getfield 48, 3) := dk_180 0 48 (dk_at dksJ2_get_0 2 rfl rfl)
theorem dJ2_get_5 : decode cJ2_get 5 = .ok (.invokestatic 118, 3) := dk_184 0 118 (dk_at dksJ2_get_0 5 rfl rfl)
theorem dJ2_get_8 : decode cJ2_get 8 = .ok (.pop, 1) := dk_87 (dk_at dksJ2_get_0 8 rfl rfl)
theorem dJ2_get_9 : decode cJ2_get 9 = .ok (.aload_n 0, 1) := dk_42 (dk_at dksJ2_get_0 9 rfl rfl)
theorem dJ2_get_10 : decode cJ2_get 10 = .ok (.iload_n 1, 1) := dk_27 (dk_at dksJ2_get_0 10 rfl rfl)
theorem dJ2_get_11 : decode cJ2_get 11 = .ok (.invokevirtual 123, 3) := dk_182 0 123 (dk_at dksJ2_get_0 11 rfl rfl)
theorem dJ2_get_14 : decode cJ2_get 14 = .ok (.areturn, 1) := dk_176 (dk_at dksJ2_get_0 14 rfl rfl)
abbrev cJ2_elementData : ByteArray := prog_32_method_18_code
def yJ2_elementData : MethodName := ⟨RJ2, "elementData", "(I)Ljava/lang/Object;"⟩
def dkwJ2_elementData_0 : List UInt8 := [42, 180, 0, 9, 27, 50, 176]
abbrev dktJ2_elementData_0 : List UInt8 := dkwJ2_elementData_0 ++ []
theorem dksJ2_elementData_0 : cJ2_elementData.data.toList.drop 0 = dktJ2_elementData_0 := by decide +kernel
theorem dJ2_elementData_0 : decode cJ2_elementData 0 = .ok (.aload_n 0, 1) := dk_42 (dk_at dksJ2_elementData_0 0 rfl rfl)
theorem dJ2_elementData_1 : decode cJ2_elementData 1 = .ok (.getfield 9, 3) := dk_180 0 9 (dk_at dksJ2_elementData_0 1 rfl rfl)
theorem dJ2_elementData_4 : decode cJ2_elementData 4 = .ok (.iload_n 1, 1) := dk_27 (dk_at dksJ2_elementData_0 4 rfl rfl)
theorem dJ2_elementData_5 : decode cJ2_elementData 5 = .ok (.aaload, 1) := dk_50 (dk_at dksJ2_elementData_0 5 rfl rfl)
theorem dJ2_elementData_6 : decode cJ2_elementData 6 = .ok (.areturn, 1) := dk_176 (dk_at dksJ2_elementData_0 6 rfl rfl)
abbrev cJ2_set : ByteArray := prog_32_method_23_code
def yJ2_set : MethodName := ⟨RJ2, "set", "(ILjava/lang/Object;)Ljava/lang/Object;"⟩
def dkwJ2_set_0 : List UInt8 := [27, 42, 180, 0, 48, 184, 0, 118, 87, 42, 27, 182, 0, 123, 78, 42, 180, 0, 9, 27, 44, 83, 45, 176]
abbrev dktJ2_set_0 : List UInt8 := dkwJ2_set_0 ++ []
theorem dksJ2_set_0 : cJ2_set.data.toList.drop 0 = dktJ2_set_0 := by decide +kernel
theorem dJ2_set_0 : decode cJ2_set 0 = .ok (.iload_n 1, 1) := dk_27 (dk_at dksJ2_set_0 0 rfl rfl)
theorem dJ2_set_1 : decode cJ2_set 1 = .ok (.aload_n 0, 1) := dk_42 (dk_at dksJ2_set_0 1 rfl rfl)
theorem dJ2_set_2 : decode cJ2_set 2 = .ok (.getfield 48, 3) := dk_180 0 48 (dk_at dksJ2_set_0 2 rfl rfl)
theorem dJ2_set_5 : decode cJ2_set 5 = .ok (.invokestatic 118, 3) := dk_184 0 118 (dk_at dksJ2_set_0 5 rfl rfl)
theorem dJ2_set_8 : decode cJ2_set 8 = .ok (.pop, 1) := dk_87 (dk_at dksJ2_set_0 8 rfl rfl)
theorem dJ2_set_9 : decode cJ2_set 9 = .ok (.aload_n 0, 1) := dk_42 (dk_at dksJ2_set_0 9 rfl rfl)
theorem dJ2_set_10 : decode cJ2_set 10 = .ok (.iload_n 1, 1) := dk_27 (dk_at dksJ2_set_0 10 rfl rfl)
theorem dJ2_set_11 : decode cJ2_set 11 = .ok (.invokevirtual 123, 3) := dk_182 0 123 (dk_at dksJ2_set_0 11 rfl rfl)
theorem dJ2_set_14 : decode cJ2_set 14 = .ok (.astore_n 3, 1) := dk_78 (dk_at dksJ2_set_0 14 rfl rfl)
theorem dJ2_set_15 : decode cJ2_set 15 = .ok (.aload_n 0, 1) := dk_42 (dk_at dksJ2_set_0 15 rfl rfl)
theorem dJ2_set_16 : decode cJ2_set 16 = .ok (.getfield 9, 3) := dk_180 0 9 (dk_at dksJ2_set_0 16 rfl rfl)
theorem dJ2_set_19 : decode cJ2_set 19 = .ok (.iload_n 1, 1) := dk_27 (dk_at dksJ2_set_0 19 rfl rfl)
theorem dJ2_set_20 : decode cJ2_set 20 = .ok (.aload_n 2, 1) := dk_44 (dk_at dksJ2_set_0 20 rfl rfl)
theorem dJ2_set_21 : decode cJ2_set 21 = .ok (.aastore, 1) := dk_83 (dk_at dksJ2_set_0 21 rfl rfl)
theorem dJ2_set_22 : decode cJ2_set 22 = .ok (.aload_n 3, 1) := dk_45 (dk_at dksJ2_set_0 22 rfl rfl)
theorem dJ2_set_23 : decode cJ2_set 23 = .ok (.areturn, 1) := dk_176 (dk_at dksJ2_set_0 23 rfl rfl)
abbrev cJ2_clear : ByteArray := prog_32_method_40_code
def yJ2_clear : MethodName := ⟨RJ2, "clear", "()V"⟩
def dkwJ2_clear_1 : List UInt8 := [181, 0, 48, 62, 29, 28, 162, 0, 13, 43, 29, 1, 83, 132, 3, 1, 167, 255, 244, 177]
abbrev dktJ2_clear_1 : List UInt8 := dkwJ2_clear_1 ++ []
def dkwJ2_clear_0 : List UInt8 := [42, 89, 180, 0, 63, 4, 96, 181, 0, 63, 42, 180, 0, 9, 76, 42, 180, 0, 48, 61, 42, 3, 90]
abbrev dktJ2_clear_0 : List UInt8 := dkwJ2_clear_0 ++ dktJ2_clear_1
theorem dksJ2_clear_0 : cJ2_clear.data.toList.drop 0 = dktJ2_clear_0 := by decide +kernel
theorem dksJ2_clear_1 : cJ2_clear.data.toList.drop 23 = dktJ2_clear_1 := dk_seg dksJ2_clear_0 23 rfl rfl
theorem dJ2_clear_0 : decode cJ2_clear 0 = .ok (.aload_n 0, 1) := dk_42 (dk_at dksJ2_clear_0 0 rfl rfl)
theorem dJ2_clear_1 : decode cJ2_clear 1 = .ok (.dup, 1) := dk_89 (dk_at dksJ2_clear_0 1 rfl rfl)
theorem dJ2_clear_2 : decode cJ2_clear 2 = .ok (.getfield 63, 3) := dk_180 0 63 (dk_at dksJ2_clear_0 2 rfl rfl)
theorem dJ2_clear_5 : decode cJ2_clear 5 = .ok (.iconst 1, 1) := dk_4 (dk_at dksJ2_clear_0 5 rfl rfl)
theorem dJ2_clear_6 : decode cJ2_clear 6 = .ok (.iadd, 1) := dk_96 (dk_at dksJ2_clear_0 6 rfl rfl)
theorem dJ2_clear_7 : decode cJ2_clear 7 = .ok (.putfield 63, 3) := dk_181 0 63 (dk_at dksJ2_clear_0 7 rfl rfl)
theorem dJ2_clear_10 : decode cJ2_clear 10 = .ok (.aload_n 0, 1) := dk_42 (dk_at dksJ2_clear_0 10 rfl rfl)
theorem dJ2_clear_11 : decode cJ2_clear 11 = .ok (.getfield 9, 3) := dk_180 0 9 (dk_at dksJ2_clear_0 11 rfl rfl)
theorem dJ2_clear_14 : decode cJ2_clear 14 = .ok (.astore_n 1, 1) := dk_76 (dk_at dksJ2_clear_0 14 rfl rfl)
theorem dJ2_clear_15 : decode cJ2_clear 15 = .ok (.aload_n 0, 1) := dk_42 (dk_at dksJ2_clear_0 15 rfl rfl)
theorem dJ2_clear_16 : decode cJ2_clear 16 = .ok (.getfield 48, 3) := dk_180 0 48 (dk_at dksJ2_clear_0 16 rfl rfl)
theorem dJ2_clear_19 : decode cJ2_clear 19 = .ok (.istore_n 2, 1) := dk_61 (dk_at dksJ2_clear_0 19 rfl rfl)
theorem dJ2_clear_20 : decode cJ2_clear 20 = .ok (.aload_n 0, 1) := dk_42 (dk_at dksJ2_clear_0 20 rfl rfl)
theorem dJ2_clear_21 : decode cJ2_clear 21 = .ok (.iconst 0, 1) := dk_3 (dk_at dksJ2_clear_0 21 rfl rfl)
theorem dJ2_clear_22 : decode cJ2_clear 22 = .ok (.dup_x1, 1) := dk_90 (dk_at dksJ2_clear_0 22 rfl rfl)
theorem dJ2_clear_23 : decode cJ2_clear 23 = .ok (.putfield 48, 3) := dk_181 0 48 (dk_at dksJ2_clear_1 0 rfl rfl)
theorem dJ2_clear_26 : decode cJ2_clear 26 = .ok (.istore_n 3, 1) := dk_62 (dk_at dksJ2_clear_1 3 rfl rfl)
theorem dJ2_clear_27 : decode cJ2_clear 27 = .ok (.iload_n 3, 1) := dk_29 (dk_at dksJ2_clear_1 4 rfl rfl)
theorem dJ2_clear_28 : decode cJ2_clear 28 = .ok (.iload_n 2, 1) := dk_28 (dk_at dksJ2_clear_1 5 rfl rfl)
theorem dJ2_clear_29 : decode cJ2_clear 29 = .ok (.if_icmp .ge 13, 3) := dk_162 0 13 (dk_at dksJ2_clear_1 6 rfl rfl)
theorem dJ2_clear_32 : decode cJ2_clear 32 = .ok (.aload_n 1, 1) := dk_43 (dk_at dksJ2_clear_1 9 rfl rfl)
theorem dJ2_clear_33 : decode cJ2_clear 33 = .ok (.iload_n 3, 1) := dk_29 (dk_at dksJ2_clear_1 10 rfl rfl)
theorem dJ2_clear_34 : decode cJ2_clear 34 = .ok (.aconst_null, 1) := dk_1 (dk_at dksJ2_clear_1 11 rfl rfl)
theorem dJ2_clear_35 : decode cJ2_clear 35 = .ok (.aastore, 1) := dk_83 (dk_at dksJ2_clear_1 12 rfl rfl)
theorem dJ2_clear_36 : decode cJ2_clear 36 = .ok (.iinc 3 1, 3) := dk_132 3 1 (dk_at dksJ2_clear_1 13 rfl rfl)
theorem dJ2_clear_39 : decode cJ2_clear 39 = .ok (.goto (-12), 3) := dk_167 255 244 (dk_at dksJ2_clear_1 16 rfl rfl)
theorem dJ2_clear_42 : decode cJ2_clear 42 = .ok (.return_, 1) := dk_177 (dk_at dksJ2_clear_1 19 rfl rfl)
abbrev cJ2_init_3 : ByteArray := prog_32_method_2_code
def yJ2_init_3 : MethodName := ⟨RJ2, "<init>", "()V"⟩
def dkwJ2_init_3_0 : List UInt8 := [42, 183, 0, 1, 42, 178, 0, 39, 181, 0, 9, 177]
abbrev dktJ2_init_3_0 : List UInt8 := dkwJ2_init_3_0 ++ []
theorem dksJ2_init_3_0 : cJ2_init_3.data.toList.drop 0 = dktJ2_init_3_0 := by decide +kernel
theorem dJ2_init_3_0 : decode cJ2_init_3 0 = .ok (.aload_n 0, 1) := dk_42 (dk_at dksJ2_init_3_0 0 rfl rfl)
theorem dJ2_init_3_1 : decode cJ2_init_3 1 = .ok (.invokespecial 1, 3) := dk_183 0 1 (dk_at dksJ2_init_3_0 1 rfl rfl)
theorem dJ2_init_3_4 : decode cJ2_init_3 4 = .ok (.aload_n 0, 1) := dk_42 (dk_at dksJ2_init_3_0 4 rfl rfl)
theorem dJ2_init_3_5 : decode cJ2_init_3 5 = .ok (.getstatic 39, 3) := dk_178 0 39 (dk_at dksJ2_init_3_0 5 rfl rfl)
theorem dJ2_init_3_8 : decode cJ2_init_3 8 = .ok (.putfield 9, 3) := dk_181 0 9 (dk_at dksJ2_init_3_0 8 rfl rfl)
theorem dJ2_init_3_11 : decode cJ2_init_3 11 = .ok (.return_, 1) := dk_177 (dk_at dksJ2_init_3_0 11 rfl rfl)
theorem q68 : (Jvm.Cond.initialized "java/util/ArrayList") ∈ lw_all := lw_g (lw_at lw_m1 4 rfl) rfl
theorem q108 : (Jvm.Cond.instantiable "java/util/ArrayList" (3 : Nat)) ∈ lw_all := lw_g (lw_at lw_m1 44 rfl) rfl
theorem q110 : (Jvm.Cond.instanceMethod ({ cls := "java/util/ArrayList", name := "<init>", desc := "(I)V" } : Jvm.MethodName)) ∈ lw_all := lw_g (lw_at lw_m1 46 rfl) rfl
theorem q111 : (Jvm.Cond.code ({ cls := "java/util/ArrayList", name := "<init>", desc := "(I)V" } : Jvm.MethodName) prog_32_method_1_code (2 : Nat) (Option.none : Option Jvm.ClassFile.FieldType)) ∈ lw_all := lw_g (lw_at lw_m1 47 rfl) rfl
theorem q112 : (Jvm.Cond.methodLink "java/util/ArrayList" (1 : Nat) ({ cls := "java/util/AbstractList", name := "<init>", desc := "()V" } : Jvm.MethodName)) ∈ lw_all := lw_g (lw_at lw_m1 48 rfl) rfl
theorem q119 : (Jvm.Cond.classLink "java/util/ArrayList" (7 : Nat) "java/lang/Object") ∈ lw_all := lw_g (lw_at lw_m1 55 rfl) rfl
theorem q121 : (Jvm.Cond.fieldLink "java/util/ArrayList" (15 : Nat) "java/util/ArrayList" "EMPTY_ELEMENTDATA" "[Ljava/lang/Object;") ∈ lw_all := lw_g (lw_at lw_m1 57 rfl) rfl
theorem q122 : (Jvm.Cond.laysStatic "java/util/ArrayList" "EMPTY_ELEMENTDATA" "[Ljava/lang/Object;") ∈ lw_tbl := lw_at lw_m1 58 rfl
theorem q123 : (Jvm.Cond.fieldLink "java/util/ArrayList" (9 : Nat) "java/util/ArrayList" "elementData" "[Ljava/lang/Object;") ∈ lw_all := lw_g (lw_at lw_m1 59 rfl) rfl
theorem q124 : (Jvm.Cond.fieldLink "java/util/ArrayList" (48 : Nat) "java/util/ArrayList" "size" "I") ∈ lw_all := lw_g (lw_at lw_m1 60 rfl) rfl
theorem q128 : (Jvm.Cond.fieldLink "java/util/ArrayList" (63 : Nat) "java/util/ArrayList" "modCount" "I") ∈ lw_all := lw_g (lw_at lw_m1 64 rfl) rfl
theorem q129 : (Jvm.Cond.sameField "java/util/ArrayList" "java/util/AbstractList" "modCount" "I") ∈ lw_all := lw_g (lw_at lw_m1 65 rfl) rfl
theorem q130 : (Jvm.Cond.lays "java/util/ArrayList" "java/util/ArrayList" "elementData" "[Ljava/lang/Object;") ∈ lw_all := lw_g (lw_at lw_m1 66 rfl) rfl
theorem q131 : (Jvm.Cond.soleField "java/util/ArrayList" "elementData") ∈ lw_all := lw_g (lw_at lw_m1 67 rfl) rfl
theorem q132 : (Jvm.Cond.lays "java/util/ArrayList" "java/util/ArrayList" "size" "I") ∈ lw_all := lw_g (lw_at lw_m1 68 rfl) rfl
theorem q133 : (Jvm.Cond.soleField "java/util/ArrayList" "size") ∈ lw_all := lw_g (lw_at lw_m1 69 rfl) rfl
theorem q134 : (Jvm.Cond.lays "java/util/ArrayList" "java/util/AbstractList" "modCount" "I") ∈ lw_all := lw_g (lw_at lw_m1 70 rfl) rfl
theorem q136 : (Jvm.Cond.superclass "java/util/ArrayList" "java/util/AbstractList") ∈ lw_all := lw_g (lw_at lw_m1 72 rfl) rfl
theorem q210 : (Jvm.Cond.instanceMethod ({ cls := "java/util/ArrayList", name := "size", desc := "()I" } : Jvm.MethodName)) ∈ lw_all := lw_g (lw_at lw_m1 146 rfl) rfl
theorem q211 : (Jvm.Cond.selects "java/util/ArrayList" ({ cls := "java/util/ArrayList", name := "size", desc := "()I" } : Jvm.MethodName) ({ cls := "java/util/ArrayList", name := "size", desc := "()I" } : Jvm.MethodName)) ∈ lw_all := lw_g (lw_at lw_m1 147 rfl) rfl
theorem q212 : (Jvm.Cond.code ({ cls := "java/util/ArrayList", name := "size", desc := "()I" } : Jvm.MethodName) prog_32_method_8_code (1 : Nat) (Option.some Jvm.ClassFile.FieldType.int)) ∈ lw_all := lw_g (lw_at lw_m1 148 rfl) rfl
theorem q246 : (Jvm.Cond.instanceMethod ({ cls := "java/util/ArrayList", name := "<init>", desc := "(Ljava/util/Collection;)V" } : Jvm.MethodName)) ∈ lw_all := lw_g (lw_at lw_m1 182 rfl) rfl
theorem q247 : (Jvm.Cond.code ({ cls := "java/util/ArrayList", name := "<init>", desc := "(Ljava/util/Collection;)V" } : Jvm.MethodName) prog_32_method_3_code (3 : Nat) (Option.none : Option Jvm.ClassFile.FieldType)) ∈ lw_all := lw_g (lw_at lw_m1 183 rfl) rfl
theorem q248 : (Jvm.Cond.interfaceEntry "java/util/ArrayList" (42 : Nat)) ∈ lw_tbl := lw_at lw_m1 184 rfl
theorem q249 : (Jvm.Cond.methodLink "java/util/ArrayList" (42 : Nat) ({ cls := "java/util/Collection", name := "toArray", desc := "()[Ljava/lang/Object;" } : Jvm.MethodName)) ∈ lw_all := lw_g (lw_at lw_m1 185 rfl) rfl
theorem q252 : (Jvm.Cond.castable "java/util/ArrayList" "java/util/Collection") ∈ lw_tbl := lw_at lw_m1 188 rfl
theorem q253 : (Jvm.Cond.selects "java/util/ArrayList" ({ cls := "java/util/Collection", name := "toArray", desc := "()[Ljava/lang/Object;" } : Jvm.MethodName) ({ cls := "java/util/ArrayList", name := "toArray", desc := "()[Ljava/lang/Object;" } : Jvm.MethodName)) ∈ lw_all := lw_g (lw_at lw_m1 189 rfl) rfl
theorem q254 : (Jvm.Cond.unhidden "java/util/ArrayList" "toArray" "()[Ljava/lang/Object;") ∈ lw_tbl := lw_at lw_m1 190 rfl
theorem q255 : (Jvm.Cond.instanceMethod ({ cls := "java/util/ArrayList", name := "toArray", desc := "()[Ljava/lang/Object;" } : Jvm.MethodName)) ∈ lw_all := lw_g (lw_at lw_m1 191 rfl) rfl
theorem q256 : (Jvm.Cond.publicMethod ({ cls := "java/util/ArrayList", name := "toArray", desc := "()[Ljava/lang/Object;" } : Jvm.MethodName)) ∈ lw_tbl := lw_at lw_m1 192 rfl
theorem q257 : (Jvm.Cond.code ({ cls := "java/util/ArrayList", name := "toArray", desc := "()[Ljava/lang/Object;" } : Jvm.MethodName) prog_32_method_16_code (1 : Nat) (Option.some (Jvm.ClassFile.FieldType.array (Jvm.ClassFile.FieldType.object "java/lang/Object")))) ∈ lw_all := lw_g (lw_at lw_m1 193 rfl) rfl
theorem q258 : (Jvm.Cond.methodLink "java/util/ArrayList" (66 : Nat) ({ cls := "java/util/Arrays", name := "copyOf", desc := "([Ljava/lang/Object;I)[Ljava/lang/Object;" } : Jvm.MethodName)) ∈ lw_all := lw_g (lw_at lw_m1 194 rfl) rfl
theorem q281 : (Jvm.Cond.selects "java/util/ArrayList" ({ cls := "java/lang/Object", name := "getClass", desc := "()Ljava/lang/Class;" } : Jvm.MethodName) ({ cls := "java/lang/Object", name := "getClass", desc := "()Ljava/lang/Class;" } : Jvm.MethodName)) ∈ lw_all := lw_g (lw_at lw_m1 217 rfl) rfl
theorem q303 : (Jvm.Cond.interfaceEntry "java/util/ArrayList" (52 : Nat)) ∈ lw_tbl := lw_at lw_m1 239 rfl
theorem q304 : (Jvm.Cond.methodLink "java/util/ArrayList" (52 : Nat) ({ cls := "java/util/Collection", name := "getClass", desc := "()Ljava/lang/Class;" } : Jvm.MethodName)) ∈ lw_all := lw_g (lw_at lw_m2 0 rfl) rfl
theorem q307 : (Jvm.Cond.unhidden "java/util/ArrayList" "getClass" "()Ljava/lang/Class;") ∈ lw_tbl := lw_at lw_m2 3 rfl
theorem q310 : (Jvm.Cond.classLink "java/util/ArrayList" (10 : Nat) "java/util/ArrayList") ∈ lw_all := lw_g (lw_at lw_m2 6 rfl) rfl
theorem q311 : (Jvm.Cond.classLink "java/util/ArrayList" (56 : Nat) "[Ljava/lang/Object;") ∈ lw_all := lw_g (lw_at lw_m2 7 rfl) rfl
theorem q312 : (Jvm.Cond.methodLink "java/util/ArrayList" (57 : Nat) ({ cls := "java/util/Arrays", name := "copyOf", desc := "([Ljava/lang/Object;ILjava/lang/Class;)[Ljava/lang/Object;" } : Jvm.MethodName)) ∈ lw_all := lw_g (lw_at lw_m2 8 rfl) rfl
theorem q376 : (Jvm.Cond.instanceMethod ({ cls := "java/util/ArrayList", name := "add", desc := "(Ljava/lang/Object;)Z" } : Jvm.MethodName)) ∈ lw_all := lw_g (lw_at lw_m2 72 rfl) rfl
theorem q377 : (Jvm.Cond.selects "java/util/ArrayList" ({ cls := "java/util/ArrayList", name := "add", desc := "(Ljava/lang/Object;)Z" } : Jvm.MethodName) ({ cls := "java/util/ArrayList", name := "add", desc := "(Ljava/lang/Object;)Z" } : Jvm.MethodName)) ∈ lw_all := lw_g (lw_at lw_m2 73 rfl) rfl
theorem q378 : (Jvm.Cond.code ({ cls := "java/util/ArrayList", name := "add", desc := "(Ljava/lang/Object;)Z" } : Jvm.MethodName) prog_32_method_25_code (2 : Nat) (Option.some Jvm.ClassFile.FieldType.boolean)) ∈ lw_all := lw_g (lw_at lw_m2 74 rfl) rfl
theorem q379 : (Jvm.Cond.methodLink "java/util/ArrayList" (131 : Nat) ({ cls := "java/util/ArrayList", name := "add", desc := "(Ljava/lang/Object;[Ljava/lang/Object;I)V" } : Jvm.MethodName)) ∈ lw_all := lw_g (lw_at lw_m2 75 rfl) rfl
theorem q380 : (Jvm.Cond.privateMethod ({ cls := "java/util/ArrayList", name := "add", desc := "(Ljava/lang/Object;[Ljava/lang/Object;I)V" } : Jvm.MethodName)) ∈ lw_tbl := lw_at lw_m2 76 rfl
theorem q381 : (Jvm.Cond.instanceMethod ({ cls := "java/util/ArrayList", name := "add", desc := "(Ljava/lang/Object;[Ljava/lang/Object;I)V" } : Jvm.MethodName)) ∈ lw_all := lw_g (lw_at lw_m2 77 rfl) rfl
theorem q382 : (Jvm.Cond.code ({ cls := "java/util/ArrayList", name := "add", desc := "(Ljava/lang/Object;[Ljava/lang/Object;I)V" } : Jvm.MethodName) prog_32_method_24_code (4 : Nat) (Option.none : Option Jvm.ClassFile.FieldType)) ∈ lw_all := lw_g (lw_at lw_m2 78 rfl) rfl
theorem q383 : (Jvm.Cond.methodLink "java/util/ArrayList" (129 : Nat) ({ cls := "java/util/ArrayList", name := "grow", desc := "()[Ljava/lang/Object;" } : Jvm.MethodName)) ∈ lw_all := lw_g (lw_at lw_m2 79 rfl) rfl
theorem q384 : (Jvm.Cond.privateMethod ({ cls := "java/util/ArrayList", name := "grow", desc := "()[Ljava/lang/Object;" } : Jvm.MethodName)) ∈ lw_tbl := lw_at lw_m2 80 rfl
theorem q385 : (Jvm.Cond.instanceMethod ({ cls := "java/util/ArrayList", name := "grow", desc := "()[Ljava/lang/Object;" } : Jvm.MethodName)) ∈ lw_all := lw_g (lw_at lw_m2 81 rfl) rfl
theorem q386 : (Jvm.Cond.code ({ cls := "java/util/ArrayList", name := "grow", desc := "()[Ljava/lang/Object;" } : Jvm.MethodName) prog_32_method_7_code (1 : Nat) (Option.some (Jvm.ClassFile.FieldType.array (Jvm.ClassFile.FieldType.object "java/lang/Object")))) ∈ lw_all := lw_g (lw_at lw_m2 82 rfl) rfl
theorem q387 : (Jvm.Cond.methodLink "java/util/ArrayList" (69 : Nat) ({ cls := "java/util/ArrayList", name := "grow", desc := "(I)[Ljava/lang/Object;" } : Jvm.MethodName)) ∈ lw_all := lw_g (lw_at lw_m2 83 rfl) rfl
theorem q388 : (Jvm.Cond.privateMethod ({ cls := "java/util/ArrayList", name := "grow", desc := "(I)[Ljava/lang/Object;" } : Jvm.MethodName)) ∈ lw_tbl := lw_at lw_m2 84 rfl
theorem q389 : (Jvm.Cond.instanceMethod ({ cls := "java/util/ArrayList", name := "grow", desc := "(I)[Ljava/lang/Object;" } : Jvm.MethodName)) ∈ lw_all := lw_g (lw_at lw_m2 85 rfl) rfl
theorem q390 : (Jvm.Cond.code ({ cls := "java/util/ArrayList", name := "grow", desc := "(I)[Ljava/lang/Object;" } : Jvm.MethodName) prog_32_method_6_code (4 : Nat) (Option.some (Jvm.ClassFile.FieldType.array (Jvm.ClassFile.FieldType.object "java/lang/Object")))) ∈ lw_all := lw_g (lw_at lw_m2 86 rfl) rfl
theorem q391 : (Jvm.Cond.fieldLink "java/util/ArrayList" (39 : Nat) "java/util/ArrayList" "DEFAULTCAPACITY_EMPTY_ELEMENTDATA" "[Ljava/lang/Object;") ∈ lw_all := lw_g (lw_at lw_m2 87 rfl) rfl
theorem q392 : (Jvm.Cond.laysStatic "java/util/ArrayList" "DEFAULTCAPACITY_EMPTY_ELEMENTDATA" "[Ljava/lang/Object;") ∈ lw_tbl := lw_at lw_m2 88 rfl
theorem q393 : (Jvm.Cond.methodLink "java/util/ArrayList" (73 : Nat) ({ cls := "jdk/internal/util/ArraysSupport", name := "newLength", desc := "(III)I" } : Jvm.MethodName)) ∈ lw_all := lw_g (lw_at lw_m2 89 rfl) rfl
theorem q403 : (Jvm.Cond.methodLink "java/util/ArrayList" (79 : Nat) ({ cls := "java/lang/Math", name := "max", desc := "(II)I" } : Jvm.MethodName)) ∈ lw_all := lw_g (lw_at lw_m2 99 rfl) rfl
theorem q413 : (Jvm.Cond.instanceMethod ({ cls := "java/util/ArrayList", name := "remove", desc := "(I)Ljava/lang/Object;" } : Jvm.MethodName)) ∈ lw_all := lw_g (lw_at lw_m2 109 rfl) rfl
theorem q414 : (Jvm.Cond.selects "java/util/ArrayList" ({ cls := "java/util/ArrayList", name := "remove", desc := "(I)Ljava/lang/Object;" } : Jvm.MethodName) ({ cls := "java/util/ArrayList", name := "remove", desc := "(I)Ljava/lang/Object;" } : Jvm.MethodName)) ∈ lw_all := lw_g (lw_at lw_m2 110 rfl) rfl
theorem q415 : (Jvm.Cond.code ({ cls := "java/util/ArrayList", name := "remove", desc := "(I)Ljava/lang/Object;" } : Jvm.MethodName) prog_32_method_29_code (4 : Nat) (Option.some (Jvm.ClassFile.FieldType.object "java/lang/Object"))) ∈ lw_all := lw_g (lw_at lw_m2 111 rfl) rfl
theorem q416 : (Jvm.Cond.methodLink "java/util/ArrayList" (118 : Nat) ({ cls := "java/util/Objects", name := "checkIndex", desc := "(II)I" } : Jvm.MethodName)) ∈ lw_all := lw_g (lw_at lw_m2 112 rfl) rfl
theorem q422 : (Jvm.Cond.methodLink "java/util/ArrayList" (144 : Nat) ({ cls := "java/util/ArrayList", name := "fastRemove", desc := "([Ljava/lang/Object;I)V" } : Jvm.MethodName)) ∈ lw_all := lw_g (lw_at lw_m2 118 rfl) rfl
theorem q423 : (Jvm.Cond.privateMethod ({ cls := "java/util/ArrayList", name := "fastRemove", desc := "([Ljava/lang/Object;I)V" } : Jvm.MethodName)) ∈ lw_tbl := lw_at lw_m2 119 rfl
theorem q424 : (Jvm.Cond.instanceMethod ({ cls := "java/util/ArrayList", name := "fastRemove", desc := "([Ljava/lang/Object;I)V" } : Jvm.MethodName)) ∈ lw_all := lw_g (lw_at lw_m2 120 rfl) rfl
theorem q425 : (Jvm.Cond.code ({ cls := "java/util/ArrayList", name := "fastRemove", desc := "([Ljava/lang/Object;I)V" } : Jvm.MethodName) prog_32_method_39_code (4 : Nat) (Option.none : Option Jvm.ClassFile.FieldType)) ∈ lw_all := lw_g (lw_at lw_m2 121 rfl) rfl
theorem q426 : (Jvm.Cond.methodLink "java/util/ArrayList" (112 : Nat) ({ cls := "java/lang/System", name := "arraycopy", desc := "(Ljava/lang/Object;ILjava/lang/Object;II)V" } : Jvm.MethodName)) ∈ lw_all := lw_g (lw_at lw_m2 122 rfl) rfl
theorem q432 : (Jvm.Cond.instanceMethod ({ cls := "java/util/ArrayList", name := "get", desc := "(I)Ljava/lang/Object;" } : Jvm.MethodName)) ∈ lw_all := lw_g (lw_at lw_m2 128 rfl) rfl
theorem q433 : (Jvm.Cond.selects "java/util/ArrayList" ({ cls := "java/util/ArrayList", name := "get", desc := "(I)Ljava/lang/Object;" } : Jvm.MethodName) ({ cls := "java/util/ArrayList", name := "get", desc := "(I)Ljava/lang/Object;" } : Jvm.MethodName)) ∈ lw_all := lw_g (lw_at lw_m2 129 rfl) rfl
theorem q434 : (Jvm.Cond.code ({ cls := "java/util/ArrayList", name := "get", desc := "(I)Ljava/lang/Object;" } : Jvm.MethodName) prog_32_method_20_code (2 : Nat) (Option.some (Jvm.ClassFile.FieldType.object "java/lang/Object"))) ∈ lw_all := lw_g (lw_at lw_m2 130 rfl) rfl
theorem q435 : (Jvm.Cond.methodLink "java/util/ArrayList" (123 : Nat) ({ cls := "java/util/ArrayList", name := "elementData", desc := "(I)Ljava/lang/Object;" } : Jvm.MethodName)) ∈ lw_all := lw_g (lw_at lw_m2 131 rfl) rfl
theorem q436 : (Jvm.Cond.instanceMethod ({ cls := "java/util/ArrayList", name := "elementData", desc := "(I)Ljava/lang/Object;" } : Jvm.MethodName)) ∈ lw_all := lw_g (lw_at lw_m2 132 rfl) rfl
theorem q437 : (Jvm.Cond.selects "java/util/ArrayList" ({ cls := "java/util/ArrayList", name := "elementData", desc := "(I)Ljava/lang/Object;" } : Jvm.MethodName) ({ cls := "java/util/ArrayList", name := "elementData", desc := "(I)Ljava/lang/Object;" } : Jvm.MethodName)) ∈ lw_all := lw_g (lw_at lw_m2 133 rfl) rfl
theorem q438 : (Jvm.Cond.code ({ cls := "java/util/ArrayList", name := "elementData", desc := "(I)Ljava/lang/Object;" } : Jvm.MethodName) prog_32_method_18_code (2 : Nat) (Option.some (Jvm.ClassFile.FieldType.object "java/lang/Object"))) ∈ lw_all := lw_g (lw_at lw_m2 134 rfl) rfl
theorem q445 : (Jvm.Cond.instanceMethod ({ cls := "java/util/ArrayList", name := "set", desc := "(ILjava/lang/Object;)Ljava/lang/Object;" } : Jvm.MethodName)) ∈ lw_all := lw_g (lw_at lw_m2 141 rfl) rfl
theorem q446 : (Jvm.Cond.selects "java/util/ArrayList" ({ cls := "java/util/ArrayList", name := "set", desc := "(ILjava/lang/Object;)Ljava/lang/Object;" } : Jvm.MethodName) ({ cls := "java/util/ArrayList", name := "set", desc := "(ILjava/lang/Object;)Ljava/lang/Object;" } : Jvm.MethodName)) ∈ lw_all := lw_g (lw_at lw_m2 142 rfl) rfl
theorem q447 : (Jvm.Cond.code ({ cls := "java/util/ArrayList", name := "set", desc := "(ILjava/lang/Object;)Ljava/lang/Object;" } : Jvm.MethodName) prog_32_method_23_code (4 : Nat) (Option.some (Jvm.ClassFile.FieldType.object "java/lang/Object"))) ∈ lw_all := lw_g (lw_at lw_m2 143 rfl) rfl
theorem q471 : (Jvm.Cond.instanceMethod ({ cls := "java/util/ArrayList", name := "clear", desc := "()V" } : Jvm.MethodName)) ∈ lw_all := lw_g (lw_at lw_m2 167 rfl) rfl
theorem q472 : (Jvm.Cond.selects "java/util/ArrayList" ({ cls := "java/util/ArrayList", name := "clear", desc := "()V" } : Jvm.MethodName) ({ cls := "java/util/ArrayList", name := "clear", desc := "()V" } : Jvm.MethodName)) ∈ lw_all := lw_g (lw_at lw_m2 168 rfl) rfl
theorem q473 : (Jvm.Cond.code ({ cls := "java/util/ArrayList", name := "clear", desc := "()V" } : Jvm.MethodName) prog_32_method_40_code (4 : Nat) (Option.none : Option Jvm.ClassFile.FieldType)) ∈ lw_all := lw_g (lw_at lw_m2 169 rfl) rfl
theorem q487 : (Jvm.Cond.selects "java/util/ArrayList" ({ cls := "java/util/AbstractCollection", name := "size", desc := "()I" } : Jvm.MethodName) ({ cls := "java/util/ArrayList", name := "size", desc := "()I" } : Jvm.MethodName)) ∈ lw_all := lw_g (lw_at lw_m2 183 rfl) rfl
theorem q1185 : (Jvm.Cond.instanceMethod ({ cls := "java/util/ArrayList", name := "<init>", desc := "()V" } : Jvm.MethodName)) ∈ lw_all := lw_g (lw_at lw_m5 161 rfl) rfl
theorem q1186 : (Jvm.Cond.code ({ cls := "java/util/ArrayList", name := "<init>", desc := "()V" } : Jvm.MethodName) prog_32_method_2_code (1 : Nat) (Option.none : Option Jvm.ClassFile.FieldType)) ∈ lw_all := lw_g (lw_at lw_m5 162 rfl) rfl
theorem q1796 : (Jvm.Cond.castable "java/util/ArrayList" "java/lang/Object") ∈ lw_tbl := lw_at lw_m8 52 rfl
theorem in_J2 : ∀ w ∈ wsJ20, w ∈ lw_all := lw_in wsJ20 [134, 130, 132] (by decide +kernel) (by decide +kernel)

/-! java/util/AbstractSequentialList -/
set_option maxRecDepth 100000
def RJ3 : String := "java/util/AbstractSequentialList"
abbrev cJ3_init : ByteArray := prog_31_method_1_code
def yJ3_init : MethodName := ⟨RJ3, "<init>", "()V"⟩
theorem dJ3_init_0 : decode cJ3_init 0 = .ok (.aload_n 0, 1) := by decide +kernel
theorem dJ3_init_1 : decode cJ3_init 1 = .ok (.invokespecial 1, 3) := by decide +kernel
theorem dJ3_init_4 : decode cJ3_init 4 = .ok (.return_, 1) := by decide +kernel
theorem q69 : (Jvm.Cond.initialized "java/util/AbstractSequentialList") ∈ lw_all := lw_g (lw_at lw_m1 5 rfl) rfl
theorem q143 : (Jvm.Cond.instanceMethod ({ cls := "java/util/AbstractSequentialList", name := "<init>", desc := "()V" } : Jvm.MethodName)) ∈ lw_all := lw_g (lw_at lw_m1 79 rfl) rfl
theorem q144 : (Jvm.Cond.code ({ cls := "java/util/AbstractSequentialList", name := "<init>", desc := "()V" } : Jvm.MethodName) prog_31_method_1_code (1 : Nat) (Option.none : Option Jvm.ClassFile.FieldType)) ∈ lw_all := lw_g (lw_at lw_m1 80 rfl) rfl
theorem q145 : (Jvm.Cond.methodLink "java/util/AbstractSequentialList" (1 : Nat) ({ cls := "java/util/AbstractList", name := "<init>", desc := "()V" } : Jvm.MethodName)) ∈ lw_all := lw_g (lw_at lw_m1 81 rfl) rfl

/-! java/util/LinkedList -/
set_option maxRecDepth 100000
def RJ4 : String := "java/util/LinkedList"
def TJ4 : u_T := fun k => match k with
  | 0 => ("java/util/AbstractList", "modCount", "I", false)
  | 1 => ("java/util/LinkedList", "size", "I", false)
  | 2 => ("java/util/LinkedList", "first", "Ljava/util/LinkedList$Node;", false)
  | _ => ("java/util/LinkedList", "last", "Ljava/util/LinkedList$Node;", false)
def tyJ4 : Nat → FieldType := fun k => match k with
  | 0 => .int
  | 1 => .int
  | 2 => .object "java/util/LinkedList$Node"
  | _ => .object "java/util/LinkedList$Node"
abbrev wsJ40 : List Cond := u_ws RJ4 TJ4 4
theorem nmJ4 : ∀ a, a < 4 → ∀ b, b < 4 → a ≠ b → (TJ4 a).2.1 ≠ (TJ4 b).2.1 := by decide +kernel
theorem tyJ4_ok : ∀ k, k < 4 → parseFieldDescriptor (TJ4 k).2.2.1 = some (tyJ4 k) := by decide +kernel
abbrev cJ4_init : ByteArray := prog_36_method_1_code
def yJ4_init : MethodName := ⟨RJ4, "<init>", "()V"⟩
def dkwJ4_init_0 : List UInt8 := [42, 183, 0, 1, 42, 3, 181, 0, 7, 177]
abbrev dktJ4_init_0 : List UInt8 := dkwJ4_init_0 ++ []
theorem dksJ4_init_0 : cJ4_init.data.toList.drop 0 = dktJ4_init_0 := by decide +kernel
theorem dJ4_init_0 : decode cJ4_init 0 = .ok (.aload_n 0, 1) := dk_42 (dk_at dksJ4_init_0 0 rfl rfl)
theorem dJ4_init_1 : decode cJ4_init 1 = .ok (.invokespecial 1, 3) := dk_183 0 1 (dk_at dksJ4_init_0 1 rfl rfl)
theorem dJ4_init_4 : decode cJ4_init 4 = .ok (.aload_n 0, 1) := dk_42 (dk_at dksJ4_init_0 4 rfl rfl)
theorem dJ4_init_5 : decode cJ4_init 5 = .ok (.iconst 0, 1) := dk_3 (dk_at dksJ4_init_0 5 rfl rfl)
theorem dJ4_init_6 : decode cJ4_init 6 = .ok (.putfield 7, 3) := dk_181 0 7 (dk_at dksJ4_init_0 6 rfl rfl)
theorem dJ4_init_9 : decode cJ4_init 9 = .ok (.return_, 1) := dk_177 (dk_at dksJ4_init_0 9 rfl rfl)
abbrev cJ4_addLast : ByteArray := prog_36_method_14_code
def yJ4_addLast : MethodName := ⟨RJ4, "addLast", "(Ljava/lang/Object;)V"⟩
def dkwJ4_addLast_0 : List UInt8 := [42, 43, 182, 0, 57, 177]
abbrev dktJ4_addLast_0 : List UInt8 := dkwJ4_addLast_0 ++ []
theorem dksJ4_addLast_0 : cJ4_addLast.data.toList.drop 0 = dktJ4_addLast_0 := by decide +kernel
theorem dJ4_addLast_0 : decode cJ4_addLast 0 = .ok (.aload_n 0, 1) := dk_42 (dk_at dksJ4_addLast_0 0 rfl rfl)
theorem dJ4_addLast_1 : decode cJ4_addLast 1 = .ok (.aload_n 1, 1) := dk_43 (dk_at dksJ4_addLast_0 1 rfl rfl)
theorem dJ4_addLast_2 : decode cJ4_addLast 2 = .ok (.invokevirtual 57, 3) := dk_182 0 57 (dk_at dksJ4_addLast_0 2 rfl rfl)
theorem dJ4_addLast_5 : decode cJ4_addLast 5 = .ok (.return_, 1) := dk_177 (dk_at dksJ4_addLast_0 5 rfl rfl)
abbrev cJ4_linkLast : ByteArray := prog_36_method_4_code
def yJ4_linkLast : MethodName := ⟨RJ4, "linkLast", "(Ljava/lang/Object;)V"⟩
def dkwJ4_linkLast_2 : List UInt8 := [181, 0, 7, 42, 89, 180, 0, 33, 4, 96, 181, 0, 33, 177]
abbrev dktJ4_linkLast_2 : List UInt8 := dkwJ4_linkLast_2 ++ []
def dkwJ4_linkLast_1 : List UInt8 := [199, 0, 11, 42, 45, 181, 0, 18, 167, 0, 8, 44, 45, 181, 0, 36, 42, 89, 180, 0, 7, 4, 96]
abbrev dktJ4_linkLast_1 : List UInt8 := dkwJ4_linkLast_1 ++ dktJ4_linkLast_2
def dkwJ4_linkLast_0 : List UInt8 := [42, 180, 0, 27, 77, 187, 0, 22, 89, 44, 43, 1, 183, 0, 24, 78, 42, 45, 181, 0, 27, 44]
abbrev dktJ4_linkLast_0 : List UInt8 := dkwJ4_linkLast_0 ++ dktJ4_linkLast_1
theorem dksJ4_linkLast_0 : cJ4_linkLast.data.toList.drop 0 = dktJ4_linkLast_0 := by decide +kernel
theorem dksJ4_linkLast_1 : cJ4_linkLast.data.toList.drop 22 = dktJ4_linkLast_1 := dk_seg dksJ4_linkLast_0 22 rfl rfl
theorem dksJ4_linkLast_2 : cJ4_linkLast.data.toList.drop 45 = dktJ4_linkLast_2 := dk_seg dksJ4_linkLast_1 23 rfl rfl
theorem dJ4_linkLast_0 : decode cJ4_linkLast 0 = .ok (.aload_n 0, 1) := dk_42 (dk_at dksJ4_linkLast_0 0 rfl rfl)
theorem dJ4_linkLast_1 : decode cJ4_linkLast 1 = .ok (.getfield 27, 3) := dk_180 0 27 (dk_at dksJ4_linkLast_0 1 rfl rfl)
theorem dJ4_linkLast_4 : decode cJ4_linkLast 4 = .ok (.astore_n 2, 1) := dk_77 (dk_at dksJ4_linkLast_0 4 rfl rfl)
theorem dJ4_linkLast_5 : decode cJ4_linkLast 5 = .ok (.new 22, 3) := dk_187 0 22 (dk_at dksJ4_linkLast_0 5 rfl rfl)
theorem dJ4_linkLast_8 : decode cJ4_linkLast 8 = .ok (.dup, 1) := dk_89 (dk_at dksJ4_linkLast_0 8 rfl rfl)
theorem dJ4_linkLast_9 : decode cJ4_linkLast 9 = .ok (.aload_n 2, 1) := dk_44 (dk_at dksJ4_linkLast_0 9 rfl rfl)
theorem dJ4_linkLast_10 : decode cJ4_linkLast 10 = .ok (.aload_n 1, 1) := dk_43 (dk_at dksJ4_linkLast_0 10 rfl rfl)
theorem dJ4_linkLast_11 : decode cJ4_linkLast 11 = .ok (.aconst_null, 1) := dk_1 (dk_at dksJ4_linkLast_0 11 rfl rfl)
theorem dJ4_linkLast_12 : decode cJ4_linkLast 12 = .ok (.invokespecial 24, 3) := dk_183 0 24 (dk_at dksJ4_linkLast_0 12 rfl rfl)
theorem dJ4_linkLast_15 : decode cJ4_linkLast 15 = .ok (.astore_n 3, 1) := dk_78 (dk_at dksJ4_linkLast_0 15 rfl rfl)
theorem dJ4_linkLast_16 : decode cJ4_linkLast 16 = .ok (.aload_n 0, 1) := dk_42 (dk_at dksJ4_linkLast_0 16 rfl rfl)
theorem dJ4_linkLast_17 : decode cJ4_linkLast 17 = .ok (.aload_n 3, 1) := dk_45 (dk_at dksJ4_linkLast_0 17 rfl rfl)
theorem dJ4_linkLast_18 : decode cJ4_linkLast 18 = .ok (.putfield 27, 3) := dk_181 0 27 (dk_at dksJ4_linkLast_0 18 rfl rfl)
theorem dJ4_linkLast_21 : decode cJ4_linkLast 21 = .ok (.aload_n 2, 1) := dk_44 (dk_at dksJ4_linkLast_0 21 rfl rfl)
theorem dJ4_linkLast_22 : decode cJ4_linkLast 22 = .ok (.ifnonnull 11, 3) := dk_199 0 11 (dk_at dksJ4_linkLast_1 0 rfl rfl)
theorem dJ4_linkLast_25 : decode cJ4_linkLast 25 = .ok (.aload_n 0, 1) := dk_42 (dk_at dksJ4_linkLast_1 3 rfl rfl)
theorem dJ4_linkLast_26 : decode cJ4_linkLast 26 = .ok (.aload_n 3, 1) := dk_45 (dk_at dksJ4_linkLast_1 4 rfl rfl)
theorem dJ4_linkLast_27 : decode cJ4_linkLast 27 = .ok (.putfield 18, 3) := dk_181 0 18 (dk_at dksJ4_linkLast_1 5 rfl rfl)
theorem dJ4_linkLast_30 : decode cJ4_linkLast 30 = .ok (.goto 8, 3) := dk_167 0 8 (dk_at dksJ4_linkLast_1 8 rfl rfl)
theorem dJ4_linkLast_33 : decode cJ4_linkLast 33 = .ok (.aload_n 2, 1) := dk_44 (dk_at dksJ4_linkLast_1 11 rfl rfl)
theorem dJ4_linkLast_34 : decode cJ4_linkLast 34 = .ok (.aload_n 3, 1) := dk_45 (dk_at dksJ4_linkLast_1 12 rfl rfl)
theorem dJ4_linkLast_35 : decode cJ4_linkLast 35 = .ok (.putfield 36, 3) := dk_181 0 36 (dk_at dksJ4_linkLast_1 13 rfl rfl)
theorem dJ4_linkLast_38 : decode cJ4_linkLast 38 = .ok (.aload_n 0, 1) := dk_42 (dk_at dksJ4_linkLast_1 16 rfl rfl)
theorem dJ4_linkLast_39 : decode cJ4_linkLast 39 = .ok (.dup, 1) := dk_89 (dk_at dksJ4_linkLast_1 17 rfl rfl)
theorem dJ4_linkLast_40 : decode cJ4_linkLast 40 = .ok (.getfield 7, 3) := dk_180 0 7 (dk_at dksJ4_linkLast_1 18 rfl rfl)
theorem dJ4_linkLast_43 : decode cJ4_linkLast 43 = .ok (.iconst 1, 1) := dk_4 (dk_at dksJ4_linkLast_1 21 rfl rfl)
theorem dJ4_linkLast_44 : decode cJ4_linkLast 44 = .ok (.iadd, 1) := dk_96 (dk_at dksJ4_linkLast_1 22 rfl rfl)
theorem dJ4_linkLast_45 : decode cJ4_linkLast 45 = .ok (.putfield 7, 3) := dk_181 0 7 (dk_at dksJ4_linkLast_2 0 rfl rfl)
theorem dJ4_linkLast_48 : decode cJ4_linkLast 48 = .ok (.aload_n 0, 1) := dk_42 (dk_at dksJ4_linkLast_2 3 rfl rfl)
theorem dJ4_linkLast_49 : decode cJ4_linkLast 49 = .ok (.dup, 1) := dk_89 (dk_at dksJ4_linkLast_2 4 rfl rfl)
theorem dJ4_linkLast_50 : decode cJ4_linkLast 50 = .ok (.getfield 33, 3) := dk_180 0 33 (dk_at dksJ4_linkLast_2 5 rfl rfl)
theorem dJ4_linkLast_53 : decode cJ4_linkLast 53 = .ok (.iconst 1, 1) := dk_4 (dk_at dksJ4_linkLast_2 8 rfl rfl)
theorem dJ4_linkLast_54 : decode cJ4_linkLast 54 = .ok (.iadd, 1) := dk_96 (dk_at dksJ4_linkLast_2 9 rfl rfl)
theorem dJ4_linkLast_55 : decode cJ4_linkLast 55 = .ok (.putfield 33, 3) := dk_181 0 33 (dk_at dksJ4_linkLast_2 10 rfl rfl)
theorem dJ4_linkLast_58 : decode cJ4_linkLast 58 = .ok (.return_, 1) := dk_177 (dk_at dksJ4_linkLast_2 13 rfl rfl)
abbrev cJ4_toArray : ByteArray := prog_36_method_53_code
def yJ4_toArray : MethodName := ⟨RJ4, "toArray", "()[Ljava/lang/Object;"⟩
def dkwJ4_toArray_1 : List UInt8 := [45, 180, 0, 39, 83, 45, 180, 0, 36, 78, 167, 255, 237, 43, 176]
abbrev dktJ4_toArray_1 : List UInt8 := dkwJ4_toArray_1 ++ []
def dkwJ4_toArray_0 : List UInt8 := [42, 180, 0, 7, 189, 0, 68, 76, 3, 61, 42, 180, 0, 18, 78, 45, 198, 0, 21, 43, 28, 132, 2, 1]
abbrev dktJ4_toArray_0 : List UInt8 := dkwJ4_toArray_0 ++ dktJ4_toArray_1
theorem dksJ4_toArray_0 : cJ4_toArray.data.toList.drop 0 = dktJ4_toArray_0 := by decide +kernel
theorem dksJ4_toArray_1 : cJ4_toArray.data.toList.drop 24 = dktJ4_toArray_1 := dk_seg dksJ4_toArray_0 24 rfl rfl
theorem dJ4_toArray_0 : decode cJ4_toArray 0 = .ok (.aload_n 0, 1) := dk_42 (dk_at dksJ4_toArray_0 0 rfl rfl)
theorem dJ4_toArray_1 : decode cJ4_toArray 1 = .ok (.getfield 7, 3) := dk_180 0 7 (dk_at dksJ4_toArray_0 1 rfl rfl)
theorem dJ4_toArray_4 : decode cJ4_toArray 4 = .ok (.anewarray 68, 3) := dk_189 0 68 (dk_at dksJ4_toArray_0 4 rfl rfl)
theorem dJ4_toArray_7 : decode cJ4_toArray 7 = .ok (.astore_n 1, 1) := dk_76 (dk_at dksJ4_toArray_0 7 rfl rfl)
theorem dJ4_toArray_8 : decode cJ4_toArray 8 = .ok (.iconst 0, 1) := dk_3 (dk_at dksJ4_toArray_0 8 rfl rfl)
theorem dJ4_toArray_9 : decode cJ4_toArray 9 = .ok (.istore_n 2, 1) := dk_61 (dk_at dksJ4_toArray_0 9 rfl rfl)
theorem dJ4_toArray_10 : decode cJ4_toArray 10 = .ok (.aload_n 0, 1) := dk_42 (dk_at dksJ4_toArray_0 10 rfl rfl)
theorem dJ4_toArray_11 : decode cJ4_toArray 11 = .ok (.getfield 18, 3) := dk_180 0 18 (dk_at dksJ4_toArray_0 11 rfl rfl)
theorem dJ4_toArray_14 : decode cJ4_toArray 14 = .ok (.astore_n 3, 1) := dk_78 (dk_at dksJ4_toArray_0 14 rfl rfl)
theorem dJ4_toArray_15 : decode cJ4_toArray 15 = .ok (.aload_n 3, 1) := dk_45 (dk_at dksJ4_toArray_0 15 rfl rfl)
theorem dJ4_toArray_16 : decode cJ4_toArray 16 = .ok (.ifnull 21, 3) := dk_198 0 21 (dk_at dksJ4_toArray_0 16 rfl rfl)
theorem dJ4_toArray_19 : decode cJ4_toArray 19 = .ok (.aload_n 1, 1) := dk_43 (dk_at dksJ4_toArray_0 19 rfl rfl)
theorem dJ4_toArray_20 : decode cJ4_toArray 20 = .ok (.iload_n 2, 1) := dk_28 (dk_at dksJ4_toArray_0 20 rfl rfl)
theorem dJ4_toArray_21 : decode cJ4_toArray 21 = .ok (.iinc 2 1, 3) := dk_132 2 1 (dk_at dksJ4_toArray_0 21 rfl rfl)
theorem dJ4_toArray_24 : decode cJ4_toArray 24 = .ok (.aload_n 3, 1) := dk_45 (dk_at dksJ4_toArray_1 0 rfl rfl)
theorem dJ4_toArray_25 : decode cJ4_toArray 25 = .ok (.getfield 39, 3) := dk_180 0 39 (dk_at dksJ4_toArray_1 1 rfl rfl)
theorem dJ4_toArray_28 : decode cJ4_toArray 28 = .ok (.aastore, 1) := dk_83 (dk_at dksJ4_toArray_1 4 rfl rfl)
theorem dJ4_toArray_29 : decode cJ4_toArray 29 = .ok (.aload_n 3, 1) := dk_45 (dk_at dksJ4_toArray_1 5 rfl rfl)
theorem dJ4_toArray_30 : decode cJ4_toArray 30 = .ok (.getfield 36, 3) := dk_180 0 36 (dk_at dksJ4_toArray_1 6 rfl rfl)
theorem dJ4_toArray_33 : decode cJ4_toArray 33 = .ok (.astore_n 3, 1) := dk_78 (dk_at dksJ4_toArray_1 9 rfl rfl)
theorem dJ4_toArray_34 : decode cJ4_toArray 34 = .ok (.goto (-19), 3) := dk_167 255 237 (dk_at dksJ4_toArray_1 10 rfl rfl)
theorem dJ4_toArray_37 : decode cJ4_toArray 37 = .ok (.aload_n 1, 1) := dk_43 (dk_at dksJ4_toArray_1 13 rfl rfl)
theorem dJ4_toArray_38 : decode cJ4_toArray 38 = .ok (.areturn, 1) := dk_176 (dk_at dksJ4_toArray_1 14 rfl rfl)
abbrev cJ4_size : ByteArray := prog_36_method_16_code
def yJ4_size : MethodName := ⟨RJ4, "size", "()I"⟩
theorem dJ4_size_0 : decode cJ4_size 0 = .ok (.aload_n 0, 1) := by decide +kernel
theorem dJ4_size_1 : decode cJ4_size 1 = .ok (.getfield 7, 3) := by decide +kernel
theorem dJ4_size_4 : decode cJ4_size 4 = .ok (.ireturn, 1) := by decide +kernel
abbrev cJ4_removeFirst : ByteArray := prog_36_method_11_code
def yJ4_removeFirst : MethodName := ⟨RJ4, "removeFirst", "()Ljava/lang/Object;"⟩
def dkwJ4_removeFirst_0 : List UInt8 := [42, 180, 0, 18, 76, 43, 199, 0, 11, 187, 0, 43, 89, 183, 0, 45, 191, 42, 43, 182, 0, 46, 176]
abbrev dktJ4_removeFirst_0 : List UInt8 := dkwJ4_removeFirst_0 ++ []
theorem dksJ4_removeFirst_0 : cJ4_removeFirst.data.toList.drop 0 = dktJ4_removeFirst_0 := by decide +kernel
theorem dJ4_removeFirst_0 : decode cJ4_removeFirst 0 = .ok (.aload_n 0, 1) := dk_42 (dk_at dksJ4_removeFirst_0 0 rfl rfl)
theorem dJ4_removeFirst_1 : decode cJ4_removeFirst 1 = .ok (.getfield 18, 3) := dk_180 0 18 (dk_at dksJ4_removeFirst_0 1 rfl rfl)
theorem dJ4_removeFirst_4 : decode cJ4_removeFirst 4 = .ok (.astore_n 1, 1) := dk_76 (dk_at dksJ4_removeFirst_0 4 rfl rfl)
theorem dJ4_removeFirst_5 : decode cJ4_removeFirst 5 = .ok (.aload_n 1, 1) := dk_43 (dk_at dksJ4_removeFirst_0 5 rfl rfl)
theorem dJ4_removeFirst_6 : decode cJ4_removeFirst 6 = .ok (.ifnonnull 11, 3) := dk_199 0 11 (dk_at dksJ4_removeFirst_0 6 rfl rfl)
theorem dJ4_removeFirst_9 : decode cJ4_removeFirst 9 = .ok (.new 43, 3) := dk_187 0 43 (dk_at dksJ4_removeFirst_0 9 rfl rfl)
theorem dJ4_removeFirst_12 : decode cJ4_removeFirst 12 = .ok (.dup, 1) := dk_89 (dk_at dksJ4_removeFirst_0 12 rfl rfl)
theorem dJ4_removeFirst_13 : decode cJ4_removeFirst 13 = .ok (.invokespecial 45, 3) := dk_183 0 45 (dk_at dksJ4_removeFirst_0 13 rfl rfl)
theorem dJ4_removeFirst_16 : decode cJ4_removeFirst 16 = .ok (.athrow, 1) := dk_191 (dk_at dksJ4_removeFirst_0 16 rfl rfl)
theorem dJ4_removeFirst_17 : decode cJ4_removeFirst 17 = .ok (.aload_n 0, 1) := dk_42 (dk_at dksJ4_removeFirst_0 17 rfl rfl)
theorem dJ4_removeFirst_18 : decode cJ4_removeFirst 18 = .ok (.aload_n 1, 1) := dk_43 (dk_at dksJ4_removeFirst_0 18 rfl rfl)
theorem dJ4_removeFirst_19 : decode cJ4_removeFirst 19 = .ok (.invokevirtual 46, 3) := dk_182 0 46 (dk_at dksJ4_removeFirst_0 19 rfl rfl)
theorem dJ4_removeFirst_22 : decode cJ4_removeFirst 22 = .ok (.areturn, 1) := dk_176 (dk_at dksJ4_removeFirst_0 22 rfl rfl)
abbrev cJ4_unlinkFirst : ByteArray := prog_36_method_6_code
def yJ4_unlinkFirst : MethodName := ⟨RJ4, "unlinkFirst", "(Ljava/util/LinkedList$Node;)Ljava/lang/Object;"⟩
def dkwJ4_unlinkFirst_2 : List UInt8 := [180, 0, 7, 4, 100, 181, 0, 7, 42, 89, 180, 0, 33, 4, 96, 181, 0, 33, 44, 176]
abbrev dktJ4_unlinkFirst_2 : List UInt8 := dkwJ4_unlinkFirst_2 ++ []
def dkwJ4_unlinkFirst_1 : List UInt8 := [181, 0, 18, 45, 199, 0, 11, 42, 1, 181, 0, 27, 167, 0, 8, 45, 1, 181, 0, 30, 42, 89]
abbrev dktJ4_unlinkFirst_1 : List UInt8 := dkwJ4_unlinkFirst_1 ++ dktJ4_unlinkFirst_2
def dkwJ4_unlinkFirst_0 : List UInt8 := [43, 180, 0, 39, 77, 43, 180, 0, 36, 78, 43, 1, 181, 0, 39, 43, 1, 181, 0, 36, 42, 45]
abbrev dktJ4_unlinkFirst_0 : List UInt8 := dkwJ4_unlinkFirst_0 ++ dktJ4_unlinkFirst_1
theorem dksJ4_unlinkFirst_0 : cJ4_unlinkFirst.data.toList.drop 0 = dktJ4_unlinkFirst_0 := by decide +kernel
theorem dksJ4_unlinkFirst_1 : cJ4_unlinkFirst.data.toList.drop 22 = dktJ4_unlinkFirst_1 := dk_seg dksJ4_unlinkFirst_0 22 rfl rfl
theorem dksJ4_unlinkFirst_2 : cJ4_unlinkFirst.data.toList.drop 44 = dktJ4_unlinkFirst_2 := dk_seg dksJ4_unlinkFirst_1 22 rfl rfl
theorem dJ4_unlinkFirst_0 : decode cJ4_unlinkFirst 0 = .ok (.aload_n 1, 1) := dk_43 (dk_at dksJ4_unlinkFirst_0 0 rfl rfl)
theorem dJ4_unlinkFirst_1 : decode cJ4_unlinkFirst 1 = .ok (.getfield 39, 3) := dk_180 0 39 (dk_at dksJ4_unlinkFirst_0 1 rfl rfl)
theorem dJ4_unlinkFirst_4 : decode cJ4_unlinkFirst 4 = .ok (.astore_n 2, 1) := dk_77 (dk_at dksJ4_unlinkFirst_0 4 rfl rfl)
theorem dJ4_unlinkFirst_5 : decode cJ4_unlinkFirst 5 = .ok (.aload_n 1, 1) := dk_43 (dk_at dksJ4_unlinkFirst_0 5 rfl rfl)
theorem dJ4_unlinkFirst_6 : decode cJ4_unlinkFirst 6 = .ok (.getfield 36, 3) := dk_180 0 36 (dk_at dksJ4_unlinkFirst_0 6 rfl rfl)
theorem dJ4_unlinkFirst_9 : decode cJ4_unlinkFirst 9 = .ok (.astore_n 3, 1) := dk_78 (dk_at dksJ4_unlinkFirst_0 9 rfl rfl)
theorem dJ4_unlinkFirst_10 : decode cJ4_unlinkFirst 10 = .ok (.aload_n 1, 1) := dk_43 (dk_at dksJ4_unlinkFirst_0 10 rfl rfl)
theorem dJ4_unlinkFirst_11 : decode cJ4_unlinkFirst 11 = .ok (.aconst_null, 1) := dk_1 (dk_at dksJ4_unlinkFirst_0 11 rfl rfl)
theorem dJ4_unlinkFirst_12 : decode cJ4_unlinkFirst 12 = .ok (.putfield 39, 3) := dk_181 0 39 (dk_at dksJ4_unlinkFirst_0 12 rfl rfl)
theorem dJ4_unlinkFirst_15 : decode cJ4_unlinkFirst 15 = .ok (.aload_n 1, 1) := dk_43 (dk_at dksJ4_unlinkFirst_0 15 rfl rfl)
theorem dJ4_unlinkFirst_16 : decode cJ4_unlinkFirst 16 = .ok (.aconst_null, 1) := dk_1 (dk_at dksJ4_unlinkFirst_0 16 rfl rfl)
theorem dJ4_unlinkFirst_17 : decode cJ4_unlinkFirst 17 = .ok (.putfield 36, 3) := dk_181 0 36 (dk_at dksJ4_unlinkFirst_0 17 rfl rfl)
theorem dJ4_unlinkFirst_20 : decode cJ4_unlinkFirst 20 = .ok (.aload_n 0, 1) := dk_42 (dk_at dksJ4_unlinkFirst_0 20 rfl rfl)
theorem dJ4_unlinkFirst_21 : decode cJ4_unlinkFirst 21 = .ok (.aload_n 3, 1) := dk_45 (dk_at dksJ4_unlinkFirst_0 21 rfl rfl)
theorem dJ4_unlinkFirst_22 : decode cJ4_unlinkFirst 22 = .ok (.putfield 18, 3) := dk_181 0 18 (dk_at dksJ4_unlinkFirst_1 0 rfl rfl)
theorem dJ4_unlinkFirst_25 : decode cJ4_unlinkFirst 25 = .ok (.aload_n 3, 1) := dk_45 (dk_at dksJ4_unlinkFirst_1 3 rfl rfl)
theorem dJ4_unlinkFirst_26 : decode cJ4_unlinkFirst 26 = .ok (.ifnonnull 11, 3) := dk_199 0 11 (dk_at dksJ4_unlinkFirst_1 4 rfl rfl)
theorem dJ4_unlinkFirst_29 : decode cJ4_unlinkFirst 29 = .ok (.aload_n 0, 1) := dk_42 (dk_at dksJ4_unlinkFirst_1 7 rfl rfl)
theorem dJ4_unlinkFirst_30 : decode cJ4_unlinkFirst 30 = .ok (.aconst_null, 1) := dk_1 (dk_at dksJ4_unlinkFirst_1 8 rfl rfl)
theorem dJ4_unlinkFirst_31 : decode cJ4_unlinkFirst 31 = .ok (.putfield 27, 3) := dk_181 0 27 (dk_at dksJ4_unlinkFirst_1 9 rfl rfl)
theorem dJ4_unlinkFirst_34 : decode cJ4_unlinkFirst 34 = .ok (.goto 8, 3) := dk_167 0 8 (dk_at dksJ4_unlinkFirst_1 12 rfl rfl)
theorem dJ4_unlinkFirst_37 : decode cJ4_unlinkFirst 37 = .ok (.aload_n 3, 1) := dk_45 (dk_at dksJ4_unlinkFirst_1 15 rfl rfl)
theorem dJ4_unlinkFirst_38 : decode cJ4_unlinkFirst 38 = .ok (.aconst_null, 1) := dk_1 (dk_at dksJ4_unlinkFirst_1 16 rfl rfl)
theorem dJ4_unlinkFirst_39 : decode cJ4_unlinkFirst 39 = .ok (.putfield 30, 3) := dk_181 0 30 (dk_at dksJ4_unlinkFirst_1 17 rfl rfl)
theorem dJ4_unlinkFirst_42 : decode cJ4_unlinkFirst 42 = .ok (.aload_n 0, 1) := dk_42 (dk_at dksJ4_unlinkFirst_1 20 rfl rfl)
theorem dJ4_unlinkFirst_43 : decode cJ4_unlinkFirst 43 = .ok (.dup, 1) := dk_89 (dk_at dksJ4_unlinkFirst_1 21 rfl rfl)
theorem dJ4_unlinkFirst_44 : decode cJ4_unlinkFirst 44 = .ok (.getfield 7, 3) := dk_180 0 7 (dk_at dksJ4_unlinkFirst_2 0 rfl rfl)
theorem dJ4_unlinkFirst_47 : decode cJ4_unlinkFirst 47 = .ok (.iconst 1, 1) := dk_4 (dk_at dksJ4_unlinkFirst_2 3 rfl rfl)
theorem dJ4_unlinkFirst_48 : decode cJ4_unlinkFirst 48 = .ok (.isub, 1) := dk_100 (dk_at dksJ4_unlinkFirst_2 4 rfl rfl)
theorem dJ4_unlinkFirst_49 : decode cJ4_unlinkFirst 49 = .ok (.putfield 7, 3) := dk_181 0 7 (dk_at dksJ4_unlinkFirst_2 5 rfl rfl)
theorem dJ4_unlinkFirst_52 : decode cJ4_unlinkFirst 52 = .ok (.aload_n 0, 1) := dk_42 (dk_at dksJ4_unlinkFirst_2 8 rfl rfl)
theorem dJ4_unlinkFirst_53 : decode cJ4_unlinkFirst 53 = .ok (.dup, 1) := dk_89 (dk_at dksJ4_unlinkFirst_2 9 rfl rfl)
theorem dJ4_unlinkFirst_54 : decode cJ4_unlinkFirst 54 = .ok (.getfield 33, 3) := dk_180 0 33 (dk_at dksJ4_unlinkFirst_2 10 rfl rfl)
theorem dJ4_unlinkFirst_57 : decode cJ4_unlinkFirst 57 = .ok (.iconst 1, 1) := dk_4 (dk_at dksJ4_unlinkFirst_2 13 rfl rfl)
theorem dJ4_unlinkFirst_58 : decode cJ4_unlinkFirst 58 = .ok (.iadd, 1) := dk_96 (dk_at dksJ4_unlinkFirst_2 14 rfl rfl)
theorem dJ4_unlinkFirst_59 : decode cJ4_unlinkFirst 59 = .ok (.putfield 33, 3) := dk_181 0 33 (dk_at dksJ4_unlinkFirst_2 15 rfl rfl)
theorem dJ4_unlinkFirst_62 : decode cJ4_unlinkFirst 62 = .ok (.aload_n 2, 1) := dk_44 (dk_at dksJ4_unlinkFirst_2 18 rfl rfl)
theorem dJ4_unlinkFirst_63 : decode cJ4_unlinkFirst 63 = .ok (.areturn, 1) := dk_176 (dk_at dksJ4_unlinkFirst_2 19 rfl rfl)
abbrev cJ4_removeLast : ByteArray := prog_36_method_12_code
def yJ4_removeLast : MethodName := ⟨RJ4, "removeLast", "()Ljava/lang/Object;"⟩
def dkwJ4_removeLast_0 : List UInt8 := [42, 180, 0, 27, 76, 43, 199, 0, 11, 187, 0, 43, 89, 183, 0, 45, 191, 42, 43, 182, 0, 50, 176]
abbrev dktJ4_removeLast_0 : List UInt8 := dkwJ4_removeLast_0 ++ []
theorem dksJ4_removeLast_0 : cJ4_removeLast.data.toList.drop 0 = dktJ4_removeLast_0 := by decide +kernel
theorem dJ4_removeLast_0 : decode cJ4_removeLast 0 = .ok (.aload_n 0, 1) := dk_42 (dk_at dksJ4_removeLast_0 0 rfl rfl)
theorem dJ4_removeLast_1 : decode cJ4_removeLast 1 = .ok (.getfield 27, 3) := dk_180 0 27 (dk_at dksJ4_removeLast_0 1 rfl rfl)
theorem dJ4_removeLast_4 : decode cJ4_removeLast 4 = .ok (.astore_n 1, 1) := dk_76 (dk_at dksJ4_removeLast_0 4 rfl rfl)
theorem dJ4_removeLast_5 : decode cJ4_removeLast 5 = .ok (.aload_n 1, 1) := dk_43 (dk_at dksJ4_removeLast_0 5 rfl rfl)
theorem dJ4_removeLast_6 : decode cJ4_removeLast 6 = .ok (.ifnonnull 11, 3) := dk_199 0 11 (dk_at dksJ4_removeLast_0 6 rfl rfl)
theorem dJ4_removeLast_9 : decode cJ4_removeLast 9 = .ok (.new 43, 3) := dk_187 0 43 (dk_at dksJ4_removeLast_0 9 rfl rfl)
theorem dJ4_removeLast_12 : decode cJ4_removeLast 12 = .ok (.dup, 1) := dk_89 (dk_at dksJ4_removeLast_0 12 rfl rfl)
theorem dJ4_removeLast_13 : decode cJ4_removeLast 13 = .ok (.invokespecial 45, 3) := dk_183 0 45 (dk_at dksJ4_removeLast_0 13 rfl rfl)
theorem dJ4_removeLast_16 : decode cJ4_removeLast 16 = .ok (.athrow, 1) := dk_191 (dk_at dksJ4_removeLast_0 16 rfl rfl)
theorem dJ4_removeLast_17 : decode cJ4_removeLast 17 = .ok (.aload_n 0, 1) := dk_42 (dk_at dksJ4_removeLast_0 17 rfl rfl)
theorem dJ4_removeLast_18 : decode cJ4_removeLast 18 = .ok (.aload_n 1, 1) := dk_43 (dk_at dksJ4_removeLast_0 18 rfl rfl)
theorem dJ4_removeLast_19 : decode cJ4_removeLast 19 = .ok (.invokevirtual 50, 3) := dk_182 0 50 (dk_at dksJ4_removeLast_0 19 rfl rfl)
theorem dJ4_removeLast_22 : decode cJ4_removeLast 22 = .ok (.areturn, 1) := dk_176 (dk_at dksJ4_removeLast_0 22 rfl rfl)
abbrev cJ4_unlinkLast : ByteArray := prog_36_method_7_code
def yJ4_unlinkLast : MethodName := ⟨RJ4, "unlinkLast", "(Ljava/util/LinkedList$Node;)Ljava/lang/Object;"⟩
def dkwJ4_unlinkLast_2 : List UInt8 := [180, 0, 7, 4, 100, 181, 0, 7, 42, 89, 180, 0, 33, 4, 96, 181, 0, 33, 44, 176]
abbrev dktJ4_unlinkLast_2 : List UInt8 := dkwJ4_unlinkLast_2 ++ []
def dkwJ4_unlinkLast_1 : List UInt8 := [181, 0, 27, 45, 199, 0, 11, 42, 1, 181, 0, 18, 167, 0, 8, 45, 1, 181, 0, 36, 42, 89]
abbrev dktJ4_unlinkLast_1 : List UInt8 := dkwJ4_unlinkLast_1 ++ dktJ4_unlinkLast_2
def dkwJ4_unlinkLast_0 : List UInt8 := [43, 180, 0, 39, 77, 43, 180, 0, 30, 78, 43, 1, 181, 0, 39, 43, 1, 181, 0, 30, 42, 45]
abbrev dktJ4_unlinkLast_0 : List UInt8 := dkwJ4_unlinkLast_0 ++ dktJ4_unlinkLast_1
theorem dksJ4_unlinkLast_0 : cJ4_unlinkLast.data.toList.drop 0 = dktJ4_unlinkLast_0 := by decide +kernel
theorem dksJ4_unlinkLast_1 : cJ4_unlinkLast.data.toList.drop 22 = dktJ4_unlinkLast_1 := dk_seg dksJ4_unlinkLast_0 22 rfl rfl
theorem dksJ4_unlinkLast_2 : cJ4_unlinkLast.data.toList.drop 44 = dktJ4_unlinkLast_2 := dk_seg dksJ4_unlinkLast_1 22 rfl rfl
theorem dJ4_unlinkLast_0 : decode cJ4_unlinkLast 0 = .ok (.aload_n 1, 1) := dk_43 (dk_at dksJ4_unlinkLast_0 0 rfl rfl)
theorem dJ4_unlinkLast_1 : decode cJ4_unlinkLast 1 = .ok (.getfield 39, 3) := dk_180 0 39 (dk_at dksJ4_unlinkLast_0 1 rfl rfl)
theorem dJ4_unlinkLast_4 : decode cJ4_unlinkLast 4 = .ok (.astore_n 2, 1) := dk_77 (dk_at dksJ4_unlinkLast_0 4 rfl rfl)
theorem dJ4_unlinkLast_5 : decode cJ4_unlinkLast 5 = .ok (.aload_n 1, 1) := dk_43 (dk_at dksJ4_unlinkLast_0 5 rfl rfl)
theorem dJ4_unlinkLast_6 : decode cJ4_unlinkLast 6 = .ok (.getfield 30, 3) := dk_180 0 30 (dk_at dksJ4_unlinkLast_0 6 rfl rfl)
theorem dJ4_unlinkLast_9 : decode cJ4_unlinkLast 9 = .ok (.astore_n 3, 1) := dk_78 (dk_at dksJ4_unlinkLast_0 9 rfl rfl)
theorem dJ4_unlinkLast_10 : decode cJ4_unlinkLast 10 = .ok (.aload_n 1, 1) := dk_43 (dk_at dksJ4_unlinkLast_0 10 rfl rfl)
theorem dJ4_unlinkLast_11 : decode cJ4_unlinkLast 11 = .ok (.aconst_null, 1) := dk_1 (dk_at dksJ4_unlinkLast_0 11 rfl rfl)
theorem dJ4_unlinkLast_12 : decode cJ4_unlinkLast 12 = .ok (.putfield 39, 3) := dk_181 0 39 (dk_at dksJ4_unlinkLast_0 12 rfl rfl)
theorem dJ4_unlinkLast_15 : decode cJ4_unlinkLast 15 = .ok (.aload_n 1, 1) := dk_43 (dk_at dksJ4_unlinkLast_0 15 rfl rfl)
theorem dJ4_unlinkLast_16 : decode cJ4_unlinkLast 16 = .ok (.aconst_null, 1) := dk_1 (dk_at dksJ4_unlinkLast_0 16 rfl rfl)
theorem dJ4_unlinkLast_17 : decode cJ4_unlinkLast 17 = .ok (.putfield 30, 3) := dk_181 0 30 (dk_at dksJ4_unlinkLast_0 17 rfl rfl)
theorem dJ4_unlinkLast_20 : decode cJ4_unlinkLast 20 = .ok (.aload_n 0, 1) := dk_42 (dk_at dksJ4_unlinkLast_0 20 rfl rfl)
theorem dJ4_unlinkLast_21 : decode cJ4_unlinkLast 21 = .ok (.aload_n 3, 1) := dk_45 (dk_at dksJ4_unlinkLast_0 21 rfl rfl)
theorem dJ4_unlinkLast_22 : decode cJ4_unlinkLast 22 = .ok (.putfield 27, 3) := dk_181 0 27 (dk_at dksJ4_unlinkLast_1 0 rfl rfl)
theorem dJ4_unlinkLast_25 : decode cJ4_unlinkLast 25 = .ok (.aload_n 3, 1) := dk_45 (dk_at dksJ4_unlinkLast_1 3 rfl rfl)
theorem dJ4_unlinkLast_26 : decode cJ4_unlinkLast 26 = .ok (.ifnonnull 11, 3) := dk_199 0 11 (dk_at dksJ4_unlinkLast_1 4 rfl rfl)
theorem dJ4_unlinkLast_29 : decode cJ4_unlinkLast 29 = .ok (.aload_n 0, 1) := dk_42 (dk_at dksJ4_unlinkLast_1 7 rfl rfl)
theorem dJ4_unlinkLast_30 : decode cJ4_unlinkLast 30 = .ok (.aconst_null, 1) := dk_1 (dk_at dksJ4_unlinkLast_1 8 rfl rfl)
theorem dJ4_unlinkLast_31 : decode cJ4_unlinkLast 31 = .ok (.putfield 18, 3) := dk_181 0 18 (dk_at dksJ4_unlinkLast_1 9 rfl rfl)
theorem dJ4_unlinkLast_34 : decode cJ4_unlinkLast 34 = .ok (.goto 8, 3) := dk_167 0 8 (dk_at dksJ4_unlinkLast_1 12 rfl rfl)
theorem dJ4_unlinkLast_37 : decode cJ4_unlinkLast 37 = .ok (.aload_n 3, 1) := dk_45 (dk_at dksJ4_unlinkLast_1 15 rfl rfl)
theorem dJ4_unlinkLast_38 : decode cJ4_unlinkLast 38 = .ok (.aconst_null, 1) := dk_1 (dk_at dksJ4_unlinkLast_1 16 rfl rfl)
theorem dJ4_unlinkLast_39 : decode cJ4_unlinkLast 39 = .ok (.putfield 36, 3) := dk_181 0 36 (dk_at dksJ4_unlinkLast_1 17 rfl rfl)
theorem dJ4_unlinkLast_42 : decode cJ4_unlinkLast 42 = .ok (.aload_n 0, 1) := dk_42 (dk_at dksJ4_unlinkLast_1 20 rfl rfl)
theorem dJ4_unlinkLast_43 : decode cJ4_unlinkLast 43 = .ok (.dup, 1) := dk_89 (dk_at dksJ4_unlinkLast_1 21 rfl rfl)
theorem dJ4_unlinkLast_44 : decode cJ4_unlinkLast 44 = .ok (.getfield 7, 3) := dk_180 0 7 (dk_at dksJ4_unlinkLast_2 0 rfl rfl)
theorem dJ4_unlinkLast_47 : decode cJ4_unlinkLast 47 = .ok (.iconst 1, 1) := dk_4 (dk_at dksJ4_unlinkLast_2 3 rfl rfl)
theorem dJ4_unlinkLast_48 : decode cJ4_unlinkLast 48 = .ok (.isub, 1) := dk_100 (dk_at dksJ4_unlinkLast_2 4 rfl rfl)
theorem dJ4_unlinkLast_49 : decode cJ4_unlinkLast 49 = .ok (.putfield 7, 3) := dk_181 0 7 (dk_at dksJ4_unlinkLast_2 5 rfl rfl)
theorem dJ4_unlinkLast_52 : decode cJ4_unlinkLast 52 = .ok (.aload_n 0, 1) := dk_42 (dk_at dksJ4_unlinkLast_2 8 rfl rfl)
theorem dJ4_unlinkLast_53 : decode cJ4_unlinkLast 53 = .ok (.dup, 1) := dk_89 (dk_at dksJ4_unlinkLast_2 9 rfl rfl)
theorem dJ4_unlinkLast_54 : decode cJ4_unlinkLast 54 = .ok (.getfield 33, 3) := dk_180 0 33 (dk_at dksJ4_unlinkLast_2 10 rfl rfl)
theorem dJ4_unlinkLast_57 : decode cJ4_unlinkLast 57 = .ok (.iconst 1, 1) := dk_4 (dk_at dksJ4_unlinkLast_2 13 rfl rfl)
theorem dJ4_unlinkLast_58 : decode cJ4_unlinkLast 58 = .ok (.iadd, 1) := dk_96 (dk_at dksJ4_unlinkLast_2 14 rfl rfl)
theorem dJ4_unlinkLast_59 : decode cJ4_unlinkLast 59 = .ok (.putfield 33, 3) := dk_181 0 33 (dk_at dksJ4_unlinkLast_2 15 rfl rfl)
theorem dJ4_unlinkLast_62 : decode cJ4_unlinkLast 62 = .ok (.aload_n 2, 1) := dk_44 (dk_at dksJ4_unlinkLast_2 18 rfl rfl)
theorem dJ4_unlinkLast_63 : decode cJ4_unlinkLast 63 = .ok (.areturn, 1) := dk_176 (dk_at dksJ4_unlinkLast_2 19 rfl rfl)
theorem q70 : (Jvm.Cond.initialized "java/util/LinkedList") ∈ lw_all := lw_g (lw_at lw_m1 6 rfl) rfl
theorem q126 : (Jvm.Cond.fieldLink "java/util/LinkedList" (33 : Nat) "java/util/LinkedList" "modCount" "I") ∈ lw_all := lw_g (lw_at lw_m1 62 rfl) rfl
theorem q127 : (Jvm.Cond.sameField "java/util/LinkedList" "java/util/AbstractList" "modCount" "I") ∈ lw_all := lw_g (lw_at lw_m1 63 rfl) rfl
theorem q138 : (Jvm.Cond.instantiable "java/util/LinkedList" (4 : Nat)) ∈ lw_all := lw_g (lw_at lw_m1 74 rfl) rfl
theorem q140 : (Jvm.Cond.instanceMethod ({ cls := "java/util/LinkedList", name := "<init>", desc := "()V" } : Jvm.MethodName)) ∈ lw_all := lw_g (lw_at lw_m1 76 rfl) rfl
theorem q141 : (Jvm.Cond.code ({ cls := "java/util/LinkedList", name := "<init>", desc := "()V" } : Jvm.MethodName) prog_36_method_1_code (1 : Nat) (Option.none : Option Jvm.ClassFile.FieldType)) ∈ lw_all := lw_g (lw_at lw_m1 77 rfl) rfl
theorem q142 : (Jvm.Cond.methodLink "java/util/LinkedList" (1 : Nat) ({ cls := "java/util/AbstractSequentialList", name := "<init>", desc := "()V" } : Jvm.MethodName)) ∈ lw_all := lw_g (lw_at lw_m1 78 rfl) rfl
theorem q146 : (Jvm.Cond.fieldLink "java/util/LinkedList" (7 : Nat) "java/util/LinkedList" "size" "I") ∈ lw_all := lw_g (lw_at lw_m1 82 rfl) rfl
theorem q147 : (Jvm.Cond.fieldLink "java/util/LinkedList" (18 : Nat) "java/util/LinkedList" "first" "Ljava/util/LinkedList$Node;") ∈ lw_all := lw_g (lw_at lw_m1 83 rfl) rfl
theorem q148 : (Jvm.Cond.fieldLink "java/util/LinkedList" (27 : Nat) "java/util/LinkedList" "last" "Ljava/util/LinkedList$Node;") ∈ lw_all := lw_g (lw_at lw_m1 84 rfl) rfl
theorem q149 : (Jvm.Cond.lays "java/util/LinkedList" "java/util/LinkedList" "size" "I") ∈ lw_all := lw_g (lw_at lw_m1 85 rfl) rfl
theorem q150 : (Jvm.Cond.soleField "java/util/LinkedList" "size") ∈ lw_all := lw_g (lw_at lw_m1 86 rfl) rfl
theorem q151 : (Jvm.Cond.lays "java/util/LinkedList" "java/util/LinkedList" "first" "Ljava/util/LinkedList$Node;") ∈ lw_all := lw_g (lw_at lw_m1 87 rfl) rfl
theorem q152 : (Jvm.Cond.soleField "java/util/LinkedList" "first") ∈ lw_all := lw_g (lw_at lw_m1 88 rfl) rfl
theorem q153 : (Jvm.Cond.lays "java/util/LinkedList" "java/util/LinkedList" "last" "Ljava/util/LinkedList$Node;") ∈ lw_all := lw_g (lw_at lw_m1 89 rfl) rfl
theorem q154 : (Jvm.Cond.soleField "java/util/LinkedList" "last") ∈ lw_all := lw_g (lw_at lw_m1 90 rfl) rfl
theorem q155 : (Jvm.Cond.lays "java/util/LinkedList" "java/util/AbstractList" "modCount" "I") ∈ lw_all := lw_g (lw_at lw_m1 91 rfl) rfl
theorem q156 : (Jvm.Cond.superclass "java/util/LinkedList" "java/util/AbstractSequentialList") ∈ lw_all := lw_g (lw_at lw_m1 92 rfl) rfl
theorem q219 : (Jvm.Cond.instanceMethod ({ cls := "java/util/LinkedList", name := "addLast", desc := "(Ljava/lang/Object;)V" } : Jvm.MethodName)) ∈ lw_all := lw_g (lw_at lw_m1 155 rfl) rfl
theorem q220 : (Jvm.Cond.selects "java/util/LinkedList" ({ cls := "java/util/LinkedList", name := "addLast", desc := "(Ljava/lang/Object;)V" } : Jvm.MethodName) ({ cls := "java/util/LinkedList", name := "addLast", desc := "(Ljava/lang/Object;)V" } : Jvm.MethodName)) ∈ lw_all := lw_g (lw_at lw_m1 156 rfl) rfl
theorem q221 : (Jvm.Cond.code ({ cls := "java/util/LinkedList", name := "addLast", desc := "(Ljava/lang/Object;)V" } : Jvm.MethodName) prog_36_method_14_code (2 : Nat) (Option.none : Option Jvm.ClassFile.FieldType)) ∈ lw_all := lw_g (lw_at lw_m1 157 rfl) rfl
theorem q222 : (Jvm.Cond.methodLink "java/util/LinkedList" (57 : Nat) ({ cls := "java/util/LinkedList", name := "linkLast", desc := "(Ljava/lang/Object;)V" } : Jvm.MethodName)) ∈ lw_all := lw_g (lw_at lw_m1 158 rfl) rfl
theorem q223 : (Jvm.Cond.instanceMethod ({ cls := "java/util/LinkedList", name := "linkLast", desc := "(Ljava/lang/Object;)V" } : Jvm.MethodName)) ∈ lw_all := lw_g (lw_at lw_m1 159 rfl) rfl
theorem q224 : (Jvm.Cond.selects "java/util/LinkedList" ({ cls := "java/util/LinkedList", name := "linkLast", desc := "(Ljava/lang/Object;)V" } : Jvm.MethodName) ({ cls := "java/util/LinkedList", name := "linkLast", desc := "(Ljava/lang/Object;)V" } : Jvm.MethodName)) ∈ lw_all := lw_g (lw_at lw_m1 160 rfl) rfl
theorem q225 : (Jvm.Cond.code ({ cls := "java/util/LinkedList", name := "linkLast", desc := "(Ljava/lang/Object;)V" } : Jvm.MethodName) prog_36_method_4_code (4 : Nat) (Option.none : Option Jvm.ClassFile.FieldType)) ∈ lw_all := lw_g (lw_at lw_m1 161 rfl) rfl
theorem q226 : (Jvm.Cond.classLink "java/util/LinkedList" (22 : Nat) "java/util/LinkedList$Node") ∈ lw_all := lw_g (lw_at lw_m1 162 rfl) rfl
theorem q228 : (Jvm.Cond.methodLink "java/util/LinkedList" (24 : Nat) ({ cls := "java/util/LinkedList$Node", name := "<init>", desc := "(Ljava/util/LinkedList$Node;Ljava/lang/Object;Ljava/util/LinkedList$Node;)V" } : Jvm.MethodName)) ∈ lw_all := lw_g (lw_at lw_m1 164 rfl) rfl
theorem q233 : (Jvm.Cond.fieldLink "java/util/LinkedList" (39 : Nat) "java/util/LinkedList$Node" "item" "Ljava/lang/Object;") ∈ lw_all := lw_g (lw_at lw_m1 169 rfl) rfl
theorem q235 : (Jvm.Cond.fieldLink "java/util/LinkedList" (36 : Nat) "java/util/LinkedList$Node" "next" "Ljava/util/LinkedList$Node;") ∈ lw_all := lw_g (lw_at lw_m1 171 rfl) rfl
theorem q237 : (Jvm.Cond.fieldLink "java/util/LinkedList" (30 : Nat) "java/util/LinkedList$Node" "prev" "Ljava/util/LinkedList$Node;") ∈ lw_all := lw_g (lw_at lw_m1 173 rfl) rfl
theorem q282 : (Jvm.Cond.selects "java/util/LinkedList" ({ cls := "java/lang/Object", name := "getClass", desc := "()Ljava/lang/Class;" } : Jvm.MethodName) ({ cls := "java/lang/Object", name := "getClass", desc := "()Ljava/lang/Class;" } : Jvm.MethodName)) ∈ lw_all := lw_g (lw_at lw_m1 218 rfl) rfl
theorem q296 : (Jvm.Cond.castable "java/util/LinkedList" "java/util/Collection") ∈ lw_tbl := lw_at lw_m1 232 rfl
theorem q297 : (Jvm.Cond.selects "java/util/LinkedList" ({ cls := "java/util/Collection", name := "toArray", desc := "()[Ljava/lang/Object;" } : Jvm.MethodName) ({ cls := "java/util/LinkedList", name := "toArray", desc := "()[Ljava/lang/Object;" } : Jvm.MethodName)) ∈ lw_all := lw_g (lw_at lw_m1 233 rfl) rfl
theorem q298 : (Jvm.Cond.unhidden "java/util/LinkedList" "toArray" "()[Ljava/lang/Object;") ∈ lw_tbl := lw_at lw_m1 234 rfl
theorem q299 : (Jvm.Cond.instanceMethod ({ cls := "java/util/LinkedList", name := "toArray", desc := "()[Ljava/lang/Object;" } : Jvm.MethodName)) ∈ lw_all := lw_g (lw_at lw_m1 235 rfl) rfl
theorem q300 : (Jvm.Cond.publicMethod ({ cls := "java/util/LinkedList", name := "toArray", desc := "()[Ljava/lang/Object;" } : Jvm.MethodName)) ∈ lw_tbl := lw_at lw_m1 236 rfl
theorem q301 : (Jvm.Cond.code ({ cls := "java/util/LinkedList", name := "toArray", desc := "()[Ljava/lang/Object;" } : Jvm.MethodName) prog_36_method_53_code (4 : Nat) (Option.some (Jvm.ClassFile.FieldType.array (Jvm.ClassFile.FieldType.object "java/lang/Object")))) ∈ lw_all := lw_g (lw_at lw_m1 237 rfl) rfl
theorem q302 : (Jvm.Cond.classLink "java/util/LinkedList" (68 : Nat) "java/lang/Object") ∈ lw_all := lw_g (lw_at lw_m1 238 rfl) rfl
theorem q309 : (Jvm.Cond.unhidden "java/util/LinkedList" "getClass" "()Ljava/lang/Class;") ∈ lw_tbl := lw_at lw_m2 5 rfl
theorem q314 : (Jvm.Cond.instanceMethod ({ cls := "java/util/LinkedList", name := "size", desc := "()I" } : Jvm.MethodName)) ∈ lw_all := lw_g (lw_at lw_m2 10 rfl) rfl
theorem q315 : (Jvm.Cond.selects "java/util/LinkedList" ({ cls := "java/util/LinkedList", name := "size", desc := "()I" } : Jvm.MethodName) ({ cls := "java/util/LinkedList", name := "size", desc := "()I" } : Jvm.MethodName)) ∈ lw_all := lw_g (lw_at lw_m2 11 rfl) rfl
theorem q316 : (Jvm.Cond.code ({ cls := "java/util/LinkedList", name := "size", desc := "()I" } : Jvm.MethodName) prog_36_method_16_code (1 : Nat) (Option.some Jvm.ClassFile.FieldType.int)) ∈ lw_all := lw_g (lw_at lw_m2 12 rfl) rfl
theorem q318 : (Jvm.Cond.instanceMethod ({ cls := "java/util/LinkedList", name := "removeFirst", desc := "()Ljava/lang/Object;" } : Jvm.MethodName)) ∈ lw_all := lw_g (lw_at lw_m2 14 rfl) rfl
theorem q319 : (Jvm.Cond.selects "java/util/LinkedList" ({ cls := "java/util/LinkedList", name := "removeFirst", desc := "()Ljava/lang/Object;" } : Jvm.MethodName) ({ cls := "java/util/LinkedList", name := "removeFirst", desc := "()Ljava/lang/Object;" } : Jvm.MethodName)) ∈ lw_all := lw_g (lw_at lw_m2 15 rfl) rfl
theorem q320 : (Jvm.Cond.code ({ cls := "java/util/LinkedList", name := "removeFirst", desc := "()Ljava/lang/Object;" } : Jvm.MethodName) prog_36_method_11_code (2 : Nat) (Option.some (Jvm.ClassFile.FieldType.object "java/lang/Object"))) ∈ lw_all := lw_g (lw_at lw_m2 16 rfl) rfl
theorem q321 : (Jvm.Cond.methodLink "java/util/LinkedList" (46 : Nat) ({ cls := "java/util/LinkedList", name := "unlinkFirst", desc := "(Ljava/util/LinkedList$Node;)Ljava/lang/Object;" } : Jvm.MethodName)) ∈ lw_all := lw_g (lw_at lw_m2 17 rfl) rfl
theorem q322 : (Jvm.Cond.privateMethod ({ cls := "java/util/LinkedList", name := "unlinkFirst", desc := "(Ljava/util/LinkedList$Node;)Ljava/lang/Object;" } : Jvm.MethodName)) ∈ lw_tbl := lw_at lw_m2 18 rfl
theorem q323 : (Jvm.Cond.instanceMethod ({ cls := "java/util/LinkedList", name := "unlinkFirst", desc := "(Ljava/util/LinkedList$Node;)Ljava/lang/Object;" } : Jvm.MethodName)) ∈ lw_all := lw_g (lw_at lw_m2 19 rfl) rfl
theorem q324 : (Jvm.Cond.code ({ cls := "java/util/LinkedList", name := "unlinkFirst", desc := "(Ljava/util/LinkedList$Node;)Ljava/lang/Object;" } : Jvm.MethodName) prog_36_method_6_code (4 : Nat) (Option.some (Jvm.ClassFile.FieldType.object "java/lang/Object"))) ∈ lw_all := lw_g (lw_at lw_m2 20 rfl) rfl
theorem q479 : (Jvm.Cond.sameMethod "java/util/LinkedList" "java/util/AbstractCollection" "isEmpty" "()Z") ∈ lw_all := lw_g (lw_at lw_m2 175 rfl) rfl
theorem q481 : (Jvm.Cond.selects "java/util/LinkedList" ({ cls := "java/util/LinkedList", name := "isEmpty", desc := "()Z" } : Jvm.MethodName) ({ cls := "java/util/AbstractCollection", name := "isEmpty", desc := "()Z" } : Jvm.MethodName)) ∈ lw_all := lw_g (lw_at lw_m2 177 rfl) rfl
theorem q488 : (Jvm.Cond.selects "java/util/LinkedList" ({ cls := "java/util/AbstractCollection", name := "size", desc := "()I" } : Jvm.MethodName) ({ cls := "java/util/LinkedList", name := "size", desc := "()I" } : Jvm.MethodName)) ∈ lw_all := lw_g (lw_at lw_m2 184 rfl) rfl
theorem q491 : (Jvm.Cond.instanceMethod ({ cls := "java/util/LinkedList", name := "removeLast", desc := "()Ljava/lang/Object;" } : Jvm.MethodName)) ∈ lw_all := lw_g (lw_at lw_m2 187 rfl) rfl
theorem q492 : (Jvm.Cond.selects "java/util/LinkedList" ({ cls := "java/util/LinkedList", name := "removeLast", desc := "()Ljava/lang/Object;" } : Jvm.MethodName) ({ cls := "java/util/LinkedList", name := "removeLast", desc := "()Ljava/lang/Object;" } : Jvm.MethodName)) ∈ lw_all := lw_g (lw_at lw_m2 188 rfl) rfl
theorem q493 : (Jvm.Cond.code ({ cls := "java/util/LinkedList", name := "removeLast", desc := "()Ljava/lang/Object;" } : Jvm.MethodName) prog_36_method_12_code (2 : Nat) (Option.some (Jvm.ClassFile.FieldType.object "java/lang/Object"))) ∈ lw_all := lw_g (lw_at lw_m2 189 rfl) rfl
theorem q494 : (Jvm.Cond.methodLink "java/util/LinkedList" (50 : Nat) ({ cls := "java/util/LinkedList", name := "unlinkLast", desc := "(Ljava/util/LinkedList$Node;)Ljava/lang/Object;" } : Jvm.MethodName)) ∈ lw_all := lw_g (lw_at lw_m2 190 rfl) rfl
theorem q495 : (Jvm.Cond.privateMethod ({ cls := "java/util/LinkedList", name := "unlinkLast", desc := "(Ljava/util/LinkedList$Node;)Ljava/lang/Object;" } : Jvm.MethodName)) ∈ lw_tbl := lw_at lw_m2 191 rfl
theorem q496 : (Jvm.Cond.instanceMethod ({ cls := "java/util/LinkedList", name := "unlinkLast", desc := "(Ljava/util/LinkedList$Node;)Ljava/lang/Object;" } : Jvm.MethodName)) ∈ lw_all := lw_g (lw_at lw_m2 192 rfl) rfl
theorem q497 : (Jvm.Cond.code ({ cls := "java/util/LinkedList", name := "unlinkLast", desc := "(Ljava/util/LinkedList$Node;)Ljava/lang/Object;" } : Jvm.MethodName) prog_36_method_7_code (4 : Nat) (Option.some (Jvm.ClassFile.FieldType.object "java/lang/Object"))) ∈ lw_all := lw_g (lw_at lw_m2 193 rfl) rfl
theorem q1797 : (Jvm.Cond.castable "java/util/LinkedList" "java/lang/Object") ∈ lw_tbl := lw_at lw_m8 53 rfl
theorem in_J4 : ∀ w ∈ wsJ40, w ∈ lw_all := lw_in wsJ40 [155, 149, 151, 153] (by decide +kernel) (by decide +kernel)

/-! java/util/LinkedList$Node -/
set_option maxRecDepth 100000
def RJ5 : String := "java/util/LinkedList$Node"
def TJ5 : u_T := fun k => match k with
  | 0 => ("java/util/LinkedList$Node", "item", "Ljava/lang/Object;", false)
  | 1 => ("java/util/LinkedList$Node", "next", "Ljava/util/LinkedList$Node;", false)
  | _ => ("java/util/LinkedList$Node", "prev", "Ljava/util/LinkedList$Node;", false)
def tyJ5 : Nat → FieldType := fun k => match k with
  | 0 => .object "java/lang/Object"
  | 1 => .object "java/util/LinkedList$Node"
  | _ => .object "java/util/LinkedList$Node"
abbrev wsJ50 : List Cond := u_ws RJ5 TJ5 3
theorem nmJ5 : ∀ a, a < 3 → ∀ b, b < 3 → a ≠ b → (TJ5 a).2.1 ≠ (TJ5 b).2.1 := by decide +kernel
theorem tyJ5_ok : ∀ k, k < 3 → parseFieldDescriptor (TJ5 k).2.2.1 = some (tyJ5 k) := by decide +kernel
abbrev cJ5_init : ByteArray := prog_37_method_1_code
def yJ5_init : MethodName := ⟨RJ5, "<init>", "(Ljava/util/LinkedList$Node;Ljava/lang/Object;Ljava/util/LinkedList$Node;)V"⟩
def dkwJ5_init_0 : List UInt8 := [42, 183, 0, 1, 42, 44, 181, 0, 7, 42, 45, 181, 0, 13, 42, 43, 181, 0, 17, 177]
abbrev dktJ5_init_0 : List UInt8 := dkwJ5_init_0 ++ []
theorem dksJ5_init_0 : cJ5_init.data.toList.drop 0 = dktJ5_init_0 := by decide +kernel
theorem dJ5_init_0 : decode cJ5_init 0 = .ok (.aload_n 0, 1) := dk_42 (dk_at dksJ5_init_0 0 rfl rfl)
theorem dJ5_init_1 : decode cJ5_init 1 = .ok (.invokespecial 1, 3) := dk_183 0 1 (dk_at dksJ5_init_0 1 rfl rfl)
theorem dJ5_init_4 : decode cJ5_init 4 = .ok (.aload_n 0, 1) := dk_42 (dk_at dksJ5_init_0 4 rfl rfl)
theorem dJ5_init_5 : decode cJ5_init 5 = .ok (.aload_n 2, 1) := dk_44 (dk_at dksJ5_init_0 5 rfl rfl)
theorem dJ5_init_6 : decode cJ5_init 6 = .ok (.putfield 7, 3) := dk_181 0 7 (dk_at dksJ5_init_0 6 rfl rfl)
theorem dJ5_init_9 : decode cJ5_init 9 = .ok (.aload_n 0, 1) := dk_42 (dk_at dksJ5_init_0 9 rfl rfl)
theorem dJ5_init_10 : decode cJ5_init 10 = .ok (.aload_n 3, 1) := dk_45 (dk_at dksJ5_init_0 10 rfl rfl)
theorem dJ5_init_11 : decode cJ5_init 11 = .ok (.putfield 13, 3) := dk_181 0 13 (dk_at dksJ5_init_0 11 rfl rfl)
theorem dJ5_init_14 : decode cJ5_init 14 = .ok (.aload_n 0, 1) := dk_42 (dk_at dksJ5_init_0 14 rfl rfl)
theorem dJ5_init_15 : decode cJ5_init 15 = .ok (.aload_n 1, 1) := dk_43 (dk_at dksJ5_init_0 15 rfl rfl)
theorem dJ5_init_16 : decode cJ5_init 16 = .ok (.putfield 17, 3) := dk_181 0 17 (dk_at dksJ5_init_0 16 rfl rfl)
theorem dJ5_init_19 : decode cJ5_init 19 = .ok (.return_, 1) := dk_177 (dk_at dksJ5_init_0 19 rfl rfl)
theorem q73 : (Jvm.Cond.initialized "java/util/LinkedList$Node") ∈ lw_all := lw_g (lw_at lw_m1 9 rfl) rfl
theorem q227 : (Jvm.Cond.instantiable "java/util/LinkedList$Node" (3 : Nat)) ∈ lw_all := lw_g (lw_at lw_m1 163 rfl) rfl
theorem q229 : (Jvm.Cond.instanceMethod ({ cls := "java/util/LinkedList$Node", name := "<init>", desc := "(Ljava/util/LinkedList$Node;Ljava/lang/Object;Ljava/util/LinkedList$Node;)V" } : Jvm.MethodName)) ∈ lw_all := lw_g (lw_at lw_m1 165 rfl) rfl
theorem q230 : (Jvm.Cond.code ({ cls := "java/util/LinkedList$Node", name := "<init>", desc := "(Ljava/util/LinkedList$Node;Ljava/lang/Object;Ljava/util/LinkedList$Node;)V" } : Jvm.MethodName) prog_37_method_1_code (4 : Nat) (Option.none : Option Jvm.ClassFile.FieldType)) ∈ lw_all := lw_g (lw_at lw_m1 166 rfl) rfl
theorem q231 : (Jvm.Cond.methodLink "java/util/LinkedList$Node" (1 : Nat) ({ cls := "java/lang/Object", name := "<init>", desc := "()V" } : Jvm.MethodName)) ∈ lw_all := lw_g (lw_at lw_m1 167 rfl) rfl
theorem q232 : (Jvm.Cond.fieldLink "java/util/LinkedList$Node" (7 : Nat) "java/util/LinkedList$Node" "item" "Ljava/lang/Object;") ∈ lw_all := lw_g (lw_at lw_m1 168 rfl) rfl
theorem q234 : (Jvm.Cond.fieldLink "java/util/LinkedList$Node" (13 : Nat) "java/util/LinkedList$Node" "next" "Ljava/util/LinkedList$Node;") ∈ lw_all := lw_g (lw_at lw_m1 170 rfl) rfl
theorem q236 : (Jvm.Cond.fieldLink "java/util/LinkedList$Node" (17 : Nat) "java/util/LinkedList$Node" "prev" "Ljava/util/LinkedList$Node;") ∈ lw_all := lw_g (lw_at lw_m1 172 rfl) rfl
theorem q238 : (Jvm.Cond.lays "java/util/LinkedList$Node" "java/util/LinkedList$Node" "item" "Ljava/lang/Object;") ∈ lw_all := lw_g (lw_at lw_m1 174 rfl) rfl
theorem q239 : (Jvm.Cond.soleField "java/util/LinkedList$Node" "item") ∈ lw_all := lw_g (lw_at lw_m1 175 rfl) rfl
theorem q240 : (Jvm.Cond.lays "java/util/LinkedList$Node" "java/util/LinkedList$Node" "next" "Ljava/util/LinkedList$Node;") ∈ lw_all := lw_g (lw_at lw_m1 176 rfl) rfl
theorem q241 : (Jvm.Cond.soleField "java/util/LinkedList$Node" "next") ∈ lw_all := lw_g (lw_at lw_m1 177 rfl) rfl
theorem q242 : (Jvm.Cond.lays "java/util/LinkedList$Node" "java/util/LinkedList$Node" "prev" "Ljava/util/LinkedList$Node;") ∈ lw_all := lw_g (lw_at lw_m1 178 rfl) rfl
theorem q243 : (Jvm.Cond.soleField "java/util/LinkedList$Node" "prev") ∈ lw_all := lw_g (lw_at lw_m1 179 rfl) rfl
theorem q244 : (Jvm.Cond.superclass "java/util/LinkedList$Node" "java/lang/Object") ∈ lw_all := lw_g (lw_at lw_m1 180 rfl) rfl
theorem q283 : (Jvm.Cond.selects "java/util/LinkedList$Node" ({ cls := "java/lang/Object", name := "getClass", desc := "()Ljava/lang/Class;" } : Jvm.MethodName) ({ cls := "java/lang/Object", name := "getClass", desc := "()Ljava/lang/Class;" } : Jvm.MethodName)) ∈ lw_all := lw_g (lw_at lw_m1 219 rfl) rfl
theorem q1799 : (Jvm.Cond.castable "java/util/LinkedList$Node" "java/lang/Object") ∈ lw_tbl := lw_at lw_m8 55 rfl
theorem in_J5 : ∀ w ∈ wsJ50, w ∈ lw_all := lw_in wsJ50 [238, 240, 242] (by decide +kernel) (by decide +kernel)

/-! java/util/Arrays -/
set_option maxRecDepth 100000
def RJ6 : String := "java/util/Arrays"
abbrev cJ6_copyOf : ByteArray := prog_33_method_119_code
def yJ6_copyOf : MethodName := ⟨RJ6, "copyOf", "([Ljava/lang/Object;I)[Ljava/lang/Object;"⟩
def dkwJ6_copyOf_0 : List UInt8 := [42, 27, 42, 182, 0, 86, 184, 1, 44, 176]
abbrev dktJ6_copyOf_0 : List UInt8 := dkwJ6_copyOf_0 ++ []
theorem dksJ6_copyOf_0 : cJ6_copyOf.data.toList.drop 0 = dktJ6_copyOf_0 := by decide +kernel
theorem dJ6_copyOf_0 : decode cJ6_copyOf 0 = .ok (.aload_n 0, 1) := dk_42 (dk_at dksJ6_copyOf_0 0 rfl rfl)
theorem dJ6_copyOf_1 : decode cJ6_copyOf 1 = .ok (.iload_n 1, 1) := dk_27 (dk_at dksJ6_copyOf_0 1 rfl rfl)
theorem dJ6_copyOf_2 : decode cJ6_copyOf 2 = .ok (.aload_n 0, 1) := dk_42 (dk_at dksJ6_copyOf_0 2 rfl rfl)
theorem dJ6_copyOf_3 : decode cJ6_copyOf 3 = .ok (.invokevirtual 86, 3) := dk_182 0 86 (dk_at dksJ6_copyOf_0 3 rfl rfl)
theorem dJ6_copyOf_6 : decode cJ6_copyOf 6 = .ok (.invokestatic 300, 3) := dk_184 1 44 (dk_at dksJ6_copyOf_0 6 rfl rfl)
theorem dJ6_copyOf_9 : decode cJ6_copyOf 9 = .ok (.areturn, 1) := dk_176 (dk_at dksJ6_copyOf_0 9 rfl rfl)
abbrev cJ6_copyOf_2 : ByteArray := prog_33_method_120_code
def yJ6_copyOf_2 : MethodName := ⟨RJ6, "copyOf", "([Ljava/lang/Object;ILjava/lang/Class;)[Ljava/lang/Object;"⟩
def dkwJ6_copyOf_2_1 : List UInt8 := [78, 42, 3, 45, 3, 42, 190, 27, 184, 1, 48, 184, 0, 150, 45, 176]
abbrev dktJ6_copyOf_2_1 : List UInt8 := dkwJ6_copyOf_2_1 ++ []
def dkwJ6_copyOf_2_0 : List UInt8 := [44, 18, 110, 166, 0, 10, 27, 189, 0, 2, 167, 0, 14, 44, 182, 0, 90, 27, 184, 0, 95, 192, 0, 110]
abbrev dktJ6_copyOf_2_0 : List UInt8 := dkwJ6_copyOf_2_0 ++ dktJ6_copyOf_2_1
theorem dksJ6_copyOf_2_0 : cJ6_copyOf_2.data.toList.drop 0 = dktJ6_copyOf_2_0 := by decide +kernel
theorem dksJ6_copyOf_2_1 : cJ6_copyOf_2.data.toList.drop 24 = dktJ6_copyOf_2_1 := dk_seg dksJ6_copyOf_2_0 24 rfl rfl
theorem dJ6_copyOf_2_0 : decode cJ6_copyOf_2 0 = .ok (.aload_n 2, 1) := dk_44 (dk_at dksJ6_copyOf_2_0 0 rfl rfl)
theorem dJ6_copyOf_2_1 : decode cJ6_copyOf_2 1 = .ok (.ldc 110, 2) := dk_18 110 (dk_at dksJ6_copyOf_2_0 1 rfl rfl)
theorem dJ6_copyOf_2_3 : decode cJ6_copyOf_2 3 = .ok (.if_acmp .ne 10, 3) := dk_166 0 10 (dk_at dksJ6_copyOf_2_0 3 rfl rfl)
theorem dJ6_copyOf_2_6 : decode cJ6_copyOf_2 6 = .ok (.iload_n 1, 1) := dk_27 (dk_at dksJ6_copyOf_2_0 6 rfl rfl)
theorem dJ6_copyOf_2_7 : decode cJ6_copyOf_2 7 = .ok (.anewarray 2, 3) := dk_189 0 2 (dk_at dksJ6_copyOf_2_0 7 rfl rfl)
theorem dJ6_copyOf_2_10 : decode cJ6_copyOf_2 10 = .ok (.goto 14, 3) := dk_167 0 14 (dk_at dksJ6_copyOf_2_0 10 rfl rfl)
theorem dJ6_copyOf_2_13 : decode cJ6_copyOf_2 13 = .ok (.aload_n 2, 1) := dk_44 (dk_at dksJ6_copyOf_2_0 13 rfl rfl)
theorem dJ6_copyOf_2_14 : decode cJ6_copyOf_2 14 = .ok (.invokevirtual 90, 3) := dk_182 0 90 (dk_at dksJ6_copyOf_2_0 14 rfl rfl)
theorem dJ6_copyOf_2_17 : decode cJ6_copyOf_2 17 = .ok (.iload_n 1, 1) := dk_27 (dk_at dksJ6_copyOf_2_0 17 rfl rfl)
theorem dJ6_copyOf_2_18 : decode cJ6_copyOf_2 18 = .ok (.invokestatic 95, 3) := dk_184 0 95 (dk_at dksJ6_copyOf_2_0 18 rfl rfl)
theorem dJ6_copyOf_2_21 : decode cJ6_copyOf_2 21 = .ok (.checkcast 110, 3) := dk_192 0 110 (dk_at dksJ6_copyOf_2_0 21 rfl rfl)
theorem dJ6_copyOf_2_24 : decode cJ6_copyOf_2 24 = .ok (.astore_n 3, 1) := dk_78 (dk_at dksJ6_copyOf_2_1 0 rfl rfl)
theorem dJ6_copyOf_2_25 : decode cJ6_copyOf_2 25 = .ok (.aload_n 0, 1) := dk_42 (dk_at dksJ6_copyOf_2_1 1 rfl rfl)
theorem dJ6_copyOf_2_26 : decode cJ6_copyOf_2 26 = .ok (.iconst 0, 1) := dk_3 (dk_at dksJ6_copyOf_2_1 2 rfl rfl)
theorem dJ6_copyOf_2_27 : decode cJ6_copyOf_2 27 = .ok (.aload_n 3, 1) := dk_45 (dk_at dksJ6_copyOf_2_1 3 rfl rfl)
theorem dJ6_copyOf_2_28 : decode cJ6_copyOf_2 28 = .ok (.iconst 0, 1) := dk_3 (dk_at dksJ6_copyOf_2_1 4 rfl rfl)
theorem dJ6_copyOf_2_29 : decode cJ6_copyOf_2 29 = .ok (.aload_n 0, 1) := dk_42 (dk_at dksJ6_copyOf_2_1 5 rfl rfl)
theorem dJ6_copyOf_2_30 : decode cJ6_copyOf_2 30 = .ok (.arraylength, 1) := dk_190 (dk_at dksJ6_copyOf_2_1 6 rfl rfl)
theorem dJ6_copyOf_2_31 : decode cJ6_copyOf_2 31 = .ok (.iload_n 1, 1) := dk_27 (dk_at dksJ6_copyOf_2_1 7 rfl rfl)
theorem dJ6_copyOf_2_32 : decode cJ6_copyOf_2 32 = .ok (.invokestatic 304, 3) := dk_184 1 48 (dk_at dksJ6_copyOf_2_1 8 rfl rfl)
theorem dJ6_copyOf_2_35 : decode cJ6_copyOf_2 35 = .ok (.invokestatic 150, 3) := dk_184 0 150 (dk_at dksJ6_copyOf_2_1 11 rfl rfl)
theorem dJ6_copyOf_2_38 : decode cJ6_copyOf_2 38 = .ok (.aload_n 3, 1) := dk_45 (dk_at dksJ6_copyOf_2_1 14 rfl rfl)
theorem dJ6_copyOf_2_39 : decode cJ6_copyOf_2 39 = .ok (.areturn, 1) := dk_176 (dk_at dksJ6_copyOf_2_1 15 rfl rfl)
theorem q74 : (Jvm.Cond.initialized "java/util/Arrays") ∈ lw_all := lw_g (lw_at lw_m1 10 rfl) rfl
theorem q259 : (Jvm.Cond.static ({ cls := "java/util/Arrays", name := "copyOf", desc := "([Ljava/lang/Object;I)[Ljava/lang/Object;" } : Jvm.MethodName)) ∈ lw_all := lw_g (lw_at lw_m1 195 rfl) rfl
theorem q260 : (Jvm.Cond.code ({ cls := "java/util/Arrays", name := "copyOf", desc := "([Ljava/lang/Object;I)[Ljava/lang/Object;" } : Jvm.MethodName) prog_33_method_119_code (2 : Nat) (Option.some (Jvm.ClassFile.FieldType.array (Jvm.ClassFile.FieldType.object "java/lang/Object")))) ∈ lw_all := lw_g (lw_at lw_m1 196 rfl) rfl
theorem q261 : (Jvm.Cond.methodLink "java/util/Arrays" (86 : Nat) ({ cls := "java/lang/Object", name := "getClass", desc := "()Ljava/lang/Class;" } : Jvm.MethodName)) ∈ lw_all := lw_g (lw_at lw_m1 197 rfl) rfl
theorem q285 : (Jvm.Cond.methodLink "java/util/Arrays" (300 : Nat) ({ cls := "java/util/Arrays", name := "copyOf", desc := "([Ljava/lang/Object;ILjava/lang/Class;)[Ljava/lang/Object;" } : Jvm.MethodName)) ∈ lw_all := lw_g (lw_at lw_m1 221 rfl) rfl
theorem q286 : (Jvm.Cond.static ({ cls := "java/util/Arrays", name := "copyOf", desc := "([Ljava/lang/Object;ILjava/lang/Class;)[Ljava/lang/Object;" } : Jvm.MethodName)) ∈ lw_all := lw_g (lw_at lw_m1 222 rfl) rfl
theorem q287 : (Jvm.Cond.code ({ cls := "java/util/Arrays", name := "copyOf", desc := "([Ljava/lang/Object;ILjava/lang/Class;)[Ljava/lang/Object;" } : Jvm.MethodName) prog_33_method_120_code (4 : Nat) (Option.some (Jvm.ClassFile.FieldType.array (Jvm.ClassFile.FieldType.object "java/lang/Object")))) ∈ lw_all := lw_g (lw_at lw_m1 223 rfl) rfl
theorem q288 : (Jvm.Cond.classLink "java/util/Arrays" (110 : Nat) "[Ljava/lang/Object;") ∈ lw_all := lw_g (lw_at lw_m1 224 rfl) rfl
theorem q289 : (Jvm.Cond.classLink "java/util/Arrays" (2 : Nat) "java/lang/Object") ∈ lw_all := lw_g (lw_at lw_m1 225 rfl) rfl
theorem q290 : (Jvm.Cond.methodLink "java/util/Arrays" (304 : Nat) ({ cls := "java/lang/Math", name := "min", desc := "(II)I" } : Jvm.MethodName)) ∈ lw_all := lw_g (lw_at lw_m1 226 rfl) rfl
theorem q293 : (Jvm.Cond.methodLink "java/util/Arrays" (150 : Nat) ({ cls := "java/lang/System", name := "arraycopy", desc := "(Ljava/lang/Object;ILjava/lang/Object;II)V" } : Jvm.MethodName)) ∈ lw_all := lw_g (lw_at lw_m1 229 rfl) rfl

/-! java/lang/Math -/
set_option maxRecDepth 100000
def RJ7 : String := "java/lang/Math"
abbrev cJ7_min : ByteArray := prog_26_method_69_code
def yJ7_min : MethodName := ⟨RJ7, "min", "(II)I"⟩
def dkwJ7_min_0 : List UInt8 := [26, 27, 163, 0, 7, 26, 167, 0, 4, 27, 172]
abbrev dktJ7_min_0 : List UInt8 := dkwJ7_min_0 ++ []
theorem dksJ7_min_0 : cJ7_min.data.toList.drop 0 = dktJ7_min_0 := by decide +kernel
theorem dJ7_min_0 : decode cJ7_min 0 = .ok (.iload_n 0, 1) := dk_26 (dk_at dksJ7_min_0 0 rfl rfl)
theorem dJ7_min_1 : decode cJ7_min 1 = .ok (.iload_n 1, 1) := dk_27 (dk_at dksJ7_min_0 1 rfl rfl)
theorem dJ7_min_2 : decode cJ7_min 2 = .ok (.if_icmp .gt 7, 3) := dk_163 0 7 (dk_at dksJ7_min_0 2 rfl rfl)
theorem dJ7_min_5 : decode cJ7_min 5 = .ok (.iload_n 0, 1) := dk_26 (dk_at dksJ7_min_0 5 rfl rfl)
theorem dJ7_min_6 : decode cJ7_min 6 = .ok (.goto 4, 3) := dk_167 0 4 (dk_at dksJ7_min_0 6 rfl rfl)
theorem dJ7_min_9 : decode cJ7_min 9 = .ok (.iload_n 1, 1) := dk_27 (dk_at dksJ7_min_0 9 rfl rfl)
theorem dJ7_min_10 : decode cJ7_min 10 = .ok (.ireturn, 1) := dk_172 (dk_at dksJ7_min_0 10 rfl rfl)
abbrev cJ7_max : ByteArray := prog_26_method_65_code
def yJ7_max : MethodName := ⟨RJ7, "max", "(II)I"⟩
def dkwJ7_max_0 : List UInt8 := [26, 27, 161, 0, 7, 26, 167, 0, 4, 27, 172]
abbrev dktJ7_max_0 : List UInt8 := dkwJ7_max_0 ++ []
theorem dksJ7_max_0 : cJ7_max.data.toList.drop 0 = dktJ7_max_0 := by decide +kernel
theorem dJ7_max_0 : decode cJ7_max 0 = .ok (.iload_n 0, 1) := dk_26 (dk_at dksJ7_max_0 0 rfl rfl)
theorem dJ7_max_1 : decode cJ7_max 1 = .ok (.iload_n 1, 1) := dk_27 (dk_at dksJ7_max_0 1 rfl rfl)
theorem dJ7_max_2 : decode cJ7_max 2 = .ok (.if_icmp .lt 7, 3) := dk_161 0 7 (dk_at dksJ7_max_0 2 rfl rfl)
theorem dJ7_max_5 : decode cJ7_max 5 = .ok (.iload_n 0, 1) := dk_26 (dk_at dksJ7_max_0 5 rfl rfl)
theorem dJ7_max_6 : decode cJ7_max 6 = .ok (.goto 4, 3) := dk_167 0 4 (dk_at dksJ7_max_0 6 rfl rfl)
theorem dJ7_max_9 : decode cJ7_max 9 = .ok (.iload_n 1, 1) := dk_27 (dk_at dksJ7_max_0 9 rfl rfl)
theorem dJ7_max_10 : decode cJ7_max 10 = .ok (.ireturn, 1) := dk_172 (dk_at dksJ7_max_0 10 rfl rfl)
abbrev cJ7_min_2 : ByteArray := prog_26_method_70_code
def yJ7_min_2 : MethodName := ⟨RJ7, "min", "(JJ)J"⟩
def dkwJ7_min_2_0 : List UInt8 := [30, 32, 148, 157, 0, 7, 30, 167, 0, 4, 32, 173]
abbrev dktJ7_min_2_0 : List UInt8 := dkwJ7_min_2_0 ++ []
theorem dksJ7_min_2_0 : cJ7_min_2.data.toList.drop 0 = dktJ7_min_2_0 := by decide +kernel
theorem dJ7_min_2_0 : decode cJ7_min_2 0 = .ok (.lload_n 0, 1) := dk_30 (dk_at dksJ7_min_2_0 0 rfl rfl)
theorem dJ7_min_2_1 : decode cJ7_min_2 1 = .ok (.lload_n 2, 1) := dk_32 (dk_at dksJ7_min_2_0 1 rfl rfl)
theorem dJ7_min_2_2 : decode cJ7_min_2 2 = .ok (.lcmp, 1) := dk_148 (dk_at dksJ7_min_2_0 2 rfl rfl)
theorem dJ7_min_2_3 : decode cJ7_min_2 3 = .ok (.ifCond .gt 7, 3) := dk_157 0 7 (dk_at dksJ7_min_2_0 3 rfl rfl)
theorem dJ7_min_2_6 : decode cJ7_min_2 6 = .ok (.lload_n 0, 1) := dk_30 (dk_at dksJ7_min_2_0 6 rfl rfl)
theorem dJ7_min_2_7 : decode cJ7_min_2 7 = .ok (.goto 4, 3) := dk_167 0 4 (dk_at dksJ7_min_2_0 7 rfl rfl)
theorem dJ7_min_2_10 : decode cJ7_min_2 10 = .ok (.lload_n 2, 1) := dk_32 (dk_at dksJ7_min_2_0 10 rfl rfl)
theorem dJ7_min_2_11 : decode cJ7_min_2 11 = .ok (.lreturn, 1) := dk_173 (dk_at dksJ7_min_2_0 11 rfl rfl)
abbrev cJ7_abs : ByteArray := prog_26_method_61_code
def yJ7_abs : MethodName := ⟨RJ7, "abs", "(J)J"⟩
def dkwJ7_abs_0 : List UInt8 := [30, 9, 148, 156, 0, 8, 30, 117, 167, 0, 4, 30, 173]
abbrev dktJ7_abs_0 : List UInt8 := dkwJ7_abs_0 ++ []
theorem dksJ7_abs_0 : cJ7_abs.data.toList.drop 0 = dktJ7_abs_0 := by decide +kernel
theorem dJ7_abs_0 : decode cJ7_abs 0 = .ok (.lload_n 0, 1) := dk_30 (dk_at dksJ7_abs_0 0 rfl rfl)
theorem dJ7_abs_1 : decode cJ7_abs 1 = .ok (.lconst 0, 1) := dk_9 (dk_at dksJ7_abs_0 1 rfl rfl)
theorem dJ7_abs_2 : decode cJ7_abs 2 = .ok (.lcmp, 1) := dk_148 (dk_at dksJ7_abs_0 2 rfl rfl)
theorem dJ7_abs_3 : decode cJ7_abs 3 = .ok (.ifCond .ge 8, 3) := dk_156 0 8 (dk_at dksJ7_abs_0 3 rfl rfl)
theorem dJ7_abs_6 : decode cJ7_abs 6 = .ok (.lload_n 0, 1) := dk_30 (dk_at dksJ7_abs_0 6 rfl rfl)
theorem dJ7_abs_7 : decode cJ7_abs 7 = .ok (.lneg, 1) := dk_117 (dk_at dksJ7_abs_0 7 rfl rfl)
theorem dJ7_abs_8 : decode cJ7_abs 8 = .ok (.goto 4, 3) := dk_167 0 4 (dk_at dksJ7_abs_0 8 rfl rfl)
theorem dJ7_abs_11 : decode cJ7_abs 11 = .ok (.lload_n 0, 1) := dk_30 (dk_at dksJ7_abs_0 11 rfl rfl)
theorem dJ7_abs_12 : decode cJ7_abs 12 = .ok (.lreturn, 1) := dk_173 (dk_at dksJ7_abs_0 12 rfl rfl)
abbrev cJ7_floorDiv : ByteArray := prog_26_method_49_code
def yJ7_floorDiv : MethodName := ⟨RJ7, "floorDiv", "(JJ)J"⟩
def dkwJ7_floorDiv_1 : List UInt8 := [10, 101, 173, 22, 4, 173]
abbrev dktJ7_floorDiv_1 : List UInt8 := dkwJ7_floorDiv_1 ++ []
def dkwJ7_floorDiv_0 : List UInt8 := [30, 32, 109, 55, 4, 30, 32, 131, 9, 148, 156, 0, 17, 22, 4, 32, 105, 30, 148, 153, 0, 8, 22, 4]
abbrev dktJ7_floorDiv_0 : List UInt8 := dkwJ7_floorDiv_0 ++ dktJ7_floorDiv_1
theorem dksJ7_floorDiv_0 : cJ7_floorDiv.data.toList.drop 0 = dktJ7_floorDiv_0 := by decide +kernel
theorem dksJ7_floorDiv_1 : cJ7_floorDiv.data.toList.drop 24 = dktJ7_floorDiv_1 := dk_seg dksJ7_floorDiv_0 24 rfl rfl
theorem dJ7_floorDiv_0 : decode cJ7_floorDiv 0 = .ok (.lload_n 0, 1) := dk_30 (dk_at dksJ7_floorDiv_0 0 rfl rfl)
theorem dJ7_floorDiv_1 : decode cJ7_floorDiv 1 = .ok (.lload_n 2, 1) := dk_32 (dk_at dksJ7_floorDiv_0 1 rfl rfl)
theorem dJ7_floorDiv_2 : decode cJ7_floorDiv 2 = .ok (.ldiv, 1) := dk_109 (dk_at dksJ7_floorDiv_0 2 rfl rfl)
theorem dJ7_floorDiv_3 : decode cJ7_floorDiv 3 = .ok (.lstore 4, 2) := dk_55 4 (dk_at dksJ7_floorDiv_0 3 rfl rfl)
theorem dJ7_floorDiv_5 : decode cJ7_floorDiv 5 = .ok (.lload_n 0, 1) := dk_30 (dk_at dksJ7_floorDiv_0 5 rfl rfl)
theorem dJ7_floorDiv_6 : decode cJ7_floorDiv 6 = .ok (.lload_n 2, 1) := dk_32 (dk_at dksJ7_floorDiv_0 6 rfl rfl)
theorem dJ7_floorDiv_7 : decode cJ7_floorDiv 7 = .ok (.lxor, 1) := dk_131 (dk_at dksJ7_floorDiv_0 7 rfl rfl)
theorem dJ7_floorDiv_8 : decode cJ7_floorDiv 8 = .ok (.lconst 0, 1) := dk_9 (dk_at dksJ7_floorDiv_0 8 rfl rfl)
theorem dJ7_floorDiv_9 : decode cJ7_floorDiv 9 = .ok (.lcmp, 1) := dk_148 (dk_at dksJ7_floorDiv_0 9 rfl rfl)
theorem dJ7_floorDiv_10 : decode cJ7_floorDiv 10 = .ok (.ifCond .ge 17, 3) := dk_156 0 17 (dk_at dksJ7_floorDiv_0 10 rfl rfl)
theorem dJ7_floorDiv_13 : decode cJ7_floorDiv 13 = .ok (.lload 4, 2) := dk_22 4 (dk_at dksJ7_floorDiv_0 13 rfl rfl)
theorem dJ7_floorDiv_15 : decode cJ7_floorDiv 15 = .ok (.lload_n 2, 1) := dk_32 (dk_at dksJ7_floorDiv_0 15 rfl rfl)
theorem dJ7_floorDiv_16 : decode cJ7_floorDiv 16 = .ok (.lmul, 1) := dk_105 (dk_at dksJ7_floorDiv_0 16 rfl rfl)
theorem dJ7_floorDiv_17 : decode cJ7_floorDiv 17 = .ok (.lload_n 0, 1) := dk_30 (dk_at dksJ7_floorDiv_0 17 rfl rfl)
theorem dJ7_floorDiv_18 : decode cJ7_floorDiv 18 = .ok (.lcmp, 1) := dk_148 (dk_at dksJ7_floorDiv_0 18 rfl rfl)
theorem dJ7_floorDiv_19 : decode cJ7_floorDiv 19 = .ok (.ifCond .eq 8, 3) := dk_153 0 8 (dk_at dksJ7_floorDiv_0 19 rfl rfl)
theorem dJ7_floorDiv_22 : decode cJ7_floorDiv 22 = .ok (.lload 4, 2) := dk_22 4 (dk_at dksJ7_floorDiv_0 22 rfl rfl)
theorem dJ7_floorDiv_24 : decode cJ7_floorDiv 24 = .ok (.lconst 1, 1) := dk_10 (dk_at dksJ7_floorDiv_1 0 rfl rfl)
theorem dJ7_floorDiv_25 : decode cJ7_floorDiv 25 = .ok (.lsub, 1) := dk_101 (dk_at dksJ7_floorDiv_1 1 rfl rfl)
theorem dJ7_floorDiv_26 : decode cJ7_floorDiv 26 = .ok (.lreturn, 1) := dk_173 (dk_at dksJ7_floorDiv_1 2 rfl rfl)
theorem dJ7_floorDiv_27 : decode cJ7_floorDiv 27 = .ok (.lload 4, 2) := dk_22 4 (dk_at dksJ7_floorDiv_1 3 rfl rfl)
theorem dJ7_floorDiv_29 : decode cJ7_floorDiv 29 = .ok (.lreturn, 1) := dk_173 (dk_at dksJ7_floorDiv_1 5 rfl rfl)
theorem q75 : (Jvm.Cond.initialized "java/lang/Math") ∈ lw_all := lw_g (lw_at lw_m1 11 rfl) rfl
theorem q291 : (Jvm.Cond.static ({ cls := "java/lang/Math", name := "min", desc := "(II)I" } : Jvm.MethodName)) ∈ lw_all := lw_g (lw_at lw_m1 227 rfl) rfl
theorem q292 : (Jvm.Cond.code ({ cls := "java/lang/Math", name := "min", desc := "(II)I" } : Jvm.MethodName) prog_26_method_69_code (2 : Nat) (Option.some Jvm.ClassFile.FieldType.int)) ∈ lw_all := lw_g (lw_at lw_m1 228 rfl) rfl
theorem q397 : (Jvm.Cond.static ({ cls := "java/lang/Math", name := "max", desc := "(II)I" } : Jvm.MethodName)) ∈ lw_all := lw_g (lw_at lw_m2 93 rfl) rfl
theorem q398 : (Jvm.Cond.code ({ cls := "java/lang/Math", name := "max", desc := "(II)I" } : Jvm.MethodName) prog_26_method_65_code (2 : Nat) (Option.some Jvm.ClassFile.FieldType.int)) ∈ lw_all := lw_g (lw_at lw_m2 94 rfl) rfl
theorem q668 : (Jvm.Cond.static ({ cls := "java/lang/Math", name := "min", desc := "(JJ)J" } : Jvm.MethodName)) ∈ lw_all := lw_g (lw_at lw_m3 124 rfl) rfl
theorem q669 : (Jvm.Cond.code ({ cls := "java/lang/Math", name := "min", desc := "(JJ)J" } : Jvm.MethodName) prog_26_method_70_code (4 : Nat) (Option.some Jvm.ClassFile.FieldType.long)) ∈ lw_all := lw_g (lw_at lw_m3 125 rfl) rfl
theorem q683 : (Jvm.Cond.static ({ cls := "java/lang/Math", name := "abs", desc := "(J)J" } : Jvm.MethodName)) ∈ lw_all := lw_g (lw_at lw_m3 139 rfl) rfl
theorem q684 : (Jvm.Cond.code ({ cls := "java/lang/Math", name := "abs", desc := "(J)J" } : Jvm.MethodName) prog_26_method_61_code (2 : Nat) (Option.some Jvm.ClassFile.FieldType.long)) ∈ lw_all := lw_g (lw_at lw_m3 140 rfl) rfl
theorem q710 : (Jvm.Cond.static ({ cls := "java/lang/Math", name := "floorDiv", desc := "(JJ)J" } : Jvm.MethodName)) ∈ lw_all := lw_g (lw_at lw_m3 166 rfl) rfl
theorem q711 : (Jvm.Cond.code ({ cls := "java/lang/Math", name := "floorDiv", desc := "(JJ)J" } : Jvm.MethodName) prog_26_method_49_code (6 : Nat) (Option.some Jvm.ClassFile.FieldType.long)) ∈ lw_all := lw_g (lw_at lw_m3 167 rfl) rfl

/-! jdk/internal/util/ArraysSupport -/
set_option maxRecDepth 100000
def RJ8 : String := "jdk/internal/util/ArraysSupport"
abbrev cJ8_newLength : ByteArray := prog_43_method_27_code
def yJ8_newLength : MethodName := ⟨RJ8, "newLength", "(III)I"⟩
def dkwJ8_newLength_1 : List UInt8 := [184, 0, 201, 172]
abbrev dktJ8_newLength_1 : List UInt8 := dkwJ8_newLength_1 ++ []
def dkwJ8_newLength_0 : List UInt8 := [26, 27, 28, 184, 0, 194, 96, 62, 3, 29, 162, 0, 11, 29, 18, 200, 163, 0, 5, 29, 172, 26, 27]
abbrev dktJ8_newLength_0 : List UInt8 := dkwJ8_newLength_0 ++ dktJ8_newLength_1
theorem dksJ8_newLength_0 : cJ8_newLength.data.toList.drop 0 = dktJ8_newLength_0 := by decide +kernel
theorem dksJ8_newLength_1 : cJ8_newLength.data.toList.drop 23 = dktJ8_newLength_1 := dk_seg dksJ8_newLength_0 23 rfl rfl
theorem dJ8_newLength_0 : decode cJ8_newLength 0 = .ok (.iload_n 0, 1) := dk_26 (dk_at dksJ8_newLength_0 0 rfl rfl)
theorem dJ8_newLength_1 : decode cJ8_newLength 1 = .ok (.iload_n 1, 1) := dk_27 (dk_at dksJ8_newLength_0 1 rfl rfl)
theorem dJ8_newLength_2 : decode cJ8_newLength 2 = .ok (.iload_n 2, 1) := dk_28 (dk_at dksJ8_newLength_0 2 rfl rfl)
theorem dJ8_newLength_3 : decode cJ8_newLength 3 = .ok (.invokestatic 194, 3) := dk_184 0 194 (dk_at dksJ8_newLength_0 3 rfl rfl)
theorem dJ8_newLength_6 : decode cJ8_newLength 6 = .ok (.iadd, 1) := dk_96 (dk_at dksJ8_newLength_0 6 rfl rfl)
theorem dJ8_newLength_7 : decode cJ8_newLength 7 = .ok (.istore_n 3, 1) := dk_62 (dk_at dksJ8_newLength_0 7 rfl rfl)
theorem dJ8_newLength_8 : decode cJ8_newLength 8 = .ok (.iconst 0, 1) := dk_3 (dk_at dksJ8_newLength_0 8 rfl rfl)
theorem dJ8_newLength_9 : decode cJ8_newLength 9 = .ok (.iload_n 3, 1) := dk_29 (dk_at dksJ8_newLength_0 9 rfl rfl)
theorem dJ8_newLength_10 : decode cJ8_newLength 10 = .ok (.if_icmp .ge 11, 3) := dk_162 0 11 (dk_at dksJ8_newLength_0 10 rfl rfl)
theorem dJ8_newLength_13 : decode cJ8_newLength 13 = .ok (.iload_n 3, 1) := dk_29 (dk_at dksJ8_newLength_0 13 rfl rfl)
theorem dJ8_newLength_14 : decode cJ8_newLength 14 = .ok (.ldc 200, 2) := dk_18 200 (dk_at dksJ8_newLength_0 14 rfl rfl)
theorem dJ8_newLength_16 : decode cJ8_newLength 16 = .ok (.if_icmp .gt 5, 3) := dk_163 0 5 (dk_at dksJ8_newLength_0 16 rfl rfl)
theorem dJ8_newLength_19 : decode cJ8_newLength 19 = .ok (.iload_n 3, 1) := dk_29 (dk_at dksJ8_newLength_0 19 rfl rfl)
theorem dJ8_newLength_20 : decode cJ8_newLength 20 = .ok (.ireturn, 1) := dk_172 (dk_at dksJ8_newLength_0 20 rfl rfl)
theorem dJ8_newLength_21 : decode cJ8_newLength 21 = .ok (.iload_n 0, 1) := dk_26 (dk_at dksJ8_newLength_0 21 rfl rfl)
theorem dJ8_newLength_22 : decode cJ8_newLength 22 = .ok (.iload_n 1, 1) := dk_27 (dk_at dksJ8_newLength_0 22 rfl rfl)
theorem dJ8_newLength_23 : decode cJ8_newLength 23 = .ok (.invokestatic 201, 3) := dk_184 0 201 (dk_at dksJ8_newLength_1 0 rfl rfl)
theorem dJ8_newLength_26 : decode cJ8_newLength 26 = .ok (.ireturn, 1) := dk_172 (dk_at dksJ8_newLength_1 3 rfl rfl)
abbrev cJ8_hugeLength : ByteArray := prog_43_method_28_code
def yJ8_hugeLength : MethodName := ⟨RJ8, "hugeLength", "(II)I"⟩
def dkwJ8_hugeLength_2 : List UInt8 := [191, 28, 18, 200, 163, 0, 6, 18, 200, 172, 28, 172]
abbrev dktJ8_hugeLength_2 : List UInt8 := dkwJ8_hugeLength_2 ++ []
def dkwJ8_hugeLength_1 : List UInt8 := [26, 182, 0, 98, 18, 208, 182, 0, 94, 27, 182, 0, 98, 18, 210, 182, 0, 94, 182, 0, 101, 183, 0, 212]
abbrev dktJ8_hugeLength_1 : List UInt8 := dkwJ8_hugeLength_1 ++ dktJ8_hugeLength_2
def dkwJ8_hugeLength_0 : List UInt8 := [26, 27, 96, 61, 28, 156, 0, 44, 187, 0, 204, 89, 187, 0, 89, 89, 183, 0, 91, 18, 206, 182, 0, 94]
abbrev dktJ8_hugeLength_0 : List UInt8 := dkwJ8_hugeLength_0 ++ dktJ8_hugeLength_1
theorem dksJ8_hugeLength_0 : cJ8_hugeLength.data.toList.drop 0 = dktJ8_hugeLength_0 := by decide +kernel
theorem dksJ8_hugeLength_1 : cJ8_hugeLength.data.toList.drop 24 = dktJ8_hugeLength_1 := dk_seg dksJ8_hugeLength_0 24 rfl rfl
theorem dksJ8_hugeLength_2 : cJ8_hugeLength.data.toList.drop 48 = dktJ8_hugeLength_2 := dk_seg dksJ8_hugeLength_1 24 rfl rfl
theorem dJ8_hugeLength_0 : decode cJ8_hugeLength 0 = .ok (.iload_n 0, 1) := dk_26 (dk_at dksJ8_hugeLength_0 0 rfl rfl)
theorem dJ8_hugeLength_1 : decode cJ8_hugeLength 1 = .ok (.iload_n 1, 1) := dk_27 (dk_at dksJ8_hugeLength_0 1 rfl rfl)
theorem dJ8_hugeLength_2 : decode cJ8_hugeLength 2 = .ok (.iadd, 1) := dk_96 (dk_at dksJ8_hugeLength_0 2 rfl rfl)
theorem dJ8_hugeLength_3 : decode cJ8_hugeLength 3 = .ok (.istore_n 2, 1) := dk_61 (dk_at dksJ8_hugeLength_0 3 rfl rfl)
theorem dJ8_hugeLength_4 : decode cJ8_hugeLength 4 = .ok (.iload_n 2, 1) := dk_28 (dk_at dksJ8_hugeLength_0 4 rfl rfl)
theorem dJ8_hugeLength_5 : decode cJ8_hugeLength 5 = .ok (.ifCond .ge 44, 3) := dk_156 0 44 (dk_at dksJ8_hugeLength_0 5 rfl rfl)
theorem dJ8_hugeLength_8 : decode cJ8_hugeLength 8 = .ok (.new 204, 3) := dk_187 0 204 (dk_at dksJ8_hugeLength_0 8 rfl rfl)
theorem dJ8_hugeLength_11 : decode cJ8_hugeLength 11 = .ok (.dup, 1) := dk_89 (dk_at dksJ8_hugeLength_0 11 rfl rfl)
theorem dJ8_hugeLength_12 : decode cJ8_hugeLength 12 = .ok (.new 89, 3) := dk_187 0 89 (dk_at dksJ8_hugeLength_0 12 rfl rfl)
theorem dJ8_hugeLength_15 : decode cJ8_hugeLength 15 = .ok (.dup, 1) := dk_89 (dk_at dksJ8_hugeLength_0 15 rfl rfl)
theorem dJ8_hugeLength_16 : decode cJ8_hugeLength 16 = .ok (.invokespecial 91, 3) := dk_183 0 91 (dk_at dksJ8_hugeLength_0 16 rfl rfl)
theorem dJ8_hugeLength_19 : decode cJ8_hugeLength 19 = .ok (.ldc 206, 2) := dk_18 206 (dk_at dksJ8_hugeLength_0 19 rfl rfl)
theorem dJ8_hugeLength_21 : decode cJ8_hugeLength 21 = .ok (.invokevirtual 94, 3) := dk_182 0 94 (dk_at dksJ8_hugeLength_0 21 rfl rfl)
theorem dJ8_hugeLength_24 : decode cJ8_hugeLength 24 = .ok (.iload_n 0, 1) := dk_26 (dk_at dksJ8_hugeLength_1 0 rfl rfl)
theorem dJ8_hugeLength_25 : decode cJ8_hugeLength 25 = .ok (.invokevirtual 98, 3) := dk_182 0 98 (dk_at dksJ8_hugeLength_1 1 rfl rfl)
theorem dJ8_hugeLength_28 : decode cJ8_hugeLength 28 = .ok (.ldc 208, 2) := dk_18 208 (dk_at dksJ8_hugeLength_1 4 rfl rfl)
theorem dJ8_hugeLength_30 : decode cJ8_hugeLength 30 = .ok (.invokevirtual 94, 3) := dk_182 0 94 (dk_at dksJ8_hugeLength_1 6 rfl rfl)
theorem dJ8_hugeLength_33 : decode cJ8_hugeLength 33 = .ok (.iload_n 1, 1) := dk_27 (dk_at dksJ8_hugeLength_1 9 rfl rfl)
theorem dJ8_hugeLength_34 : decode cJ8_hugeLength 34 = .ok (.invokevirtual 98, 3) := dk_182 0 98 (dk_at dksJ8_hugeLength_1 10 rfl rfl)
theorem dJ8_hugeLength_37 : decode cJ8_hugeLength 37 = .ok (.ldc 210, 2) := dk_18 210 (dk_at dksJ8_hugeLength_1 13 rfl rfl)
theorem dJ8_hugeLength_39 : decode cJ8_hugeLength 39 = .ok (.invokevirtual 94, 3) := dk_182 0 94 (dk_at dksJ8_hugeLength_1 15 rfl rfl)
theorem dJ8_hugeLength_42 : decode cJ8_hugeLength 42 = .ok (.invokevirtual 101, 3) := dk_182 0 101 (dk_at dksJ8_hugeLength_1 18 rfl rfl)
theorem dJ8_hugeLength_45 : decode cJ8_hugeLength 45 = .ok (.invokespecial 212, 3) := dk_183 0 212 (dk_at dksJ8_hugeLength_1 21 rfl rfl)
theorem dJ8_hugeLength_48 : decode cJ8_hugeLength 48 = .ok (.athrow, 1) := dk_191 (dk_at dksJ8_hugeLength_2 0 rfl rfl)
theorem dJ8_hugeLength_49 : decode cJ8_hugeLength 49 = .ok (.iload_n 2, 1) := dk_28 (dk_at dksJ8_hugeLength_2 1 rfl rfl)
theorem dJ8_hugeLength_50 : decode cJ8_hugeLength 50 = .ok (.ldc 200, 2) := dk_18 200 (dk_at dksJ8_hugeLength_2 2 rfl rfl)
theorem dJ8_hugeLength_52 : decode cJ8_hugeLength 52 = .ok (.if_icmp .gt 6, 3) := dk_163 0 6 (dk_at dksJ8_hugeLength_2 4 rfl rfl)
theorem dJ8_hugeLength_55 : decode cJ8_hugeLength 55 = .ok (.ldc 200, 2) := dk_18 200 (dk_at dksJ8_hugeLength_2 7 rfl rfl)
theorem dJ8_hugeLength_57 : decode cJ8_hugeLength 57 = .ok (.ireturn, 1) := dk_172 (dk_at dksJ8_hugeLength_2 9 rfl rfl)
theorem dJ8_hugeLength_58 : decode cJ8_hugeLength 58 = .ok (.iload_n 2, 1) := dk_28 (dk_at dksJ8_hugeLength_2 10 rfl rfl)
theorem dJ8_hugeLength_59 : decode cJ8_hugeLength 59 = .ok (.ireturn, 1) := dk_172 (dk_at dksJ8_hugeLength_2 11 rfl rfl)
theorem q77 : (Jvm.Cond.initialized "jdk/internal/util/ArraysSupport") ∈ lw_all := lw_g (lw_at lw_m1 13 rfl) rfl
theorem q394 : (Jvm.Cond.static ({ cls := "jdk/internal/util/ArraysSupport", name := "newLength", desc := "(III)I" } : Jvm.MethodName)) ∈ lw_all := lw_g (lw_at lw_m2 90 rfl) rfl
theorem q395 : (Jvm.Cond.code ({ cls := "jdk/internal/util/ArraysSupport", name := "newLength", desc := "(III)I" } : Jvm.MethodName) prog_43_method_27_code (4 : Nat) (Option.some Jvm.ClassFile.FieldType.int)) ∈ lw_all := lw_g (lw_at lw_m2 91 rfl) rfl
theorem q396 : (Jvm.Cond.methodLink "jdk/internal/util/ArraysSupport" (194 : Nat) ({ cls := "java/lang/Math", name := "max", desc := "(II)I" } : Jvm.MethodName)) ∈ lw_all := lw_g (lw_at lw_m2 92 rfl) rfl
theorem q399 : (Jvm.Cond.constant "jdk/internal/util/ArraysSupport" (200 : Nat) (2147483639 : Int32)) ∈ lw_all := lw_g (lw_at lw_m2 95 rfl) rfl
theorem q400 : (Jvm.Cond.methodLink "jdk/internal/util/ArraysSupport" (201 : Nat) ({ cls := "jdk/internal/util/ArraysSupport", name := "hugeLength", desc := "(II)I" } : Jvm.MethodName)) ∈ lw_all := lw_g (lw_at lw_m2 96 rfl) rfl
theorem q401 : (Jvm.Cond.static ({ cls := "jdk/internal/util/ArraysSupport", name := "hugeLength", desc := "(II)I" } : Jvm.MethodName)) ∈ lw_all := lw_g (lw_at lw_m2 97 rfl) rfl
theorem q402 : (Jvm.Cond.code ({ cls := "jdk/internal/util/ArraysSupport", name := "hugeLength", desc := "(II)I" } : Jvm.MethodName) prog_43_method_28_code (3 : Nat) (Option.some Jvm.ClassFile.FieldType.int)) ∈ lw_all := lw_g (lw_at lw_m2 98 rfl) rfl

/-! java/util/Objects -/
set_option maxRecDepth 100000
def RJ9 : String := "java/util/Objects"
abbrev cJ9_checkIndex : ByteArray := prog_39_method_17_code
def yJ9_checkIndex : MethodName := ⟨RJ9, "checkIndex", "(II)I"⟩
def dkwJ9_checkIndex_0 : List UInt8 := [26, 27, 1, 184, 0, 105, 172]
abbrev dktJ9_checkIndex_0 : List UInt8 := dkwJ9_checkIndex_0 ++ []
theorem dksJ9_checkIndex_0 : cJ9_checkIndex.data.toList.drop 0 = dktJ9_checkIndex_0 := by decide +kernel
theorem dJ9_checkIndex_0 : decode cJ9_checkIndex 0 = .ok (.iload_n 0, 1) := dk_26 (dk_at dksJ9_checkIndex_0 0 rfl rfl)
theorem dJ9_checkIndex_1 : decode cJ9_checkIndex 1 = .ok (.iload_n 1, 1) := dk_27 (dk_at dksJ9_checkIndex_0 1 rfl rfl)
theorem dJ9_checkIndex_2 : decode cJ9_checkIndex 2 = .ok (.aconst_null, 1) := dk_1 (dk_at dksJ9_checkIndex_0 2 rfl rfl)
theorem dJ9_checkIndex_3 : decode cJ9_checkIndex 3 = .ok (.invokestatic 105, 3) := dk_184 0 105 (dk_at dksJ9_checkIndex_0 3 rfl rfl)
theorem dJ9_checkIndex_6 : decode cJ9_checkIndex 6 = .ok (.ireturn, 1) := dk_172 (dk_at dksJ9_checkIndex_0 6 rfl rfl)
theorem q78 : (Jvm.Cond.initialized "java/util/Objects") ∈ lw_all := lw_g (lw_at lw_m1 14 rfl) rfl
theorem q417 : (Jvm.Cond.static ({ cls := "java/util/Objects", name := "checkIndex", desc := "(II)I" } : Jvm.MethodName)) ∈ lw_all := lw_g (lw_at lw_m2 113 rfl) rfl
theorem q418 : (Jvm.Cond.code ({ cls := "java/util/Objects", name := "checkIndex", desc := "(II)I" } : Jvm.MethodName) prog_39_method_17_code (2 : Nat) (Option.some Jvm.ClassFile.FieldType.int)) ∈ lw_all := lw_g (lw_at lw_m2 114 rfl) rfl
theorem q419 : (Jvm.Cond.methodLink "java/util/Objects" (105 : Nat) ({ cls := "jdk/internal/util/Preconditions", name := "checkIndex", desc := "(IILjava/util/function/BiFunction;)I" } : Jvm.MethodName)) ∈ lw_all := lw_g (lw_at lw_m2 115 rfl) rfl

/-! jdk/internal/util/Preconditions -/
set_option maxRecDepth 100000
def RJ10 : String := "jdk/internal/util/Preconditions"
abbrev cJ10_checkIndex : ByteArray := prog_44_method_11_code
def yJ10_checkIndex : MethodName := ⟨RJ10, "checkIndex", "(IILjava/util/function/BiFunction;)I"⟩
def dkwJ10_checkIndex_0 : List UInt8 := [26, 155, 0, 8, 26, 27, 161, 0, 10, 44, 26, 27, 184, 0, 95, 191, 26, 172]
abbrev dktJ10_checkIndex_0 : List UInt8 := dkwJ10_checkIndex_0 ++ []
theorem dksJ10_checkIndex_0 : cJ10_checkIndex.data.toList.drop 0 = dktJ10_checkIndex_0 := by decide +kernel
theorem dJ10_checkIndex_0 : decode cJ10_checkIndex 0 = .ok (.iload_n 0, 1) := dk_26 (dk_at dksJ10_checkIndex_0 0 rfl rfl)
theorem dJ10_checkIndex_1 : decode cJ10_checkIndex 1 = .ok (.ifCond .lt 8, 3) := dk_155 0 8 (dk_at dksJ10_checkIndex_0 1 rfl rfl)
theorem dJ10_checkIndex_4 : decode cJ10_checkIndex 4 = .ok (.iload_n 0, 1) := dk_26 (dk_at dksJ10_checkIndex_0 4 rfl rfl)
theorem dJ10_checkIndex_5 : decode cJ10_checkIndex 5 = .ok (.iload_n 1, 1) := dk_27 (dk_at dksJ10_checkIndex_0 5 rfl rfl)
theorem dJ10_checkIndex_6 : decode cJ10_checkIndex 6 = .ok (.if_icmp .lt 10, 3) := dk_161 0 10 (dk_at dksJ10_checkIndex_0 6 rfl rfl)
theorem dJ10_checkIndex_9 : decode cJ10_checkIndex 9 = .ok (.aload_n 2, 1) := dk_44 (dk_at dksJ10_checkIndex_0 9 rfl rfl)
theorem dJ10_checkIndex_10 : decode cJ10_checkIndex 10 = .ok (.iload_n 0, 1) := dk_26 (dk_at dksJ10_checkIndex_0 10 rfl rfl)
theorem dJ10_checkIndex_11 : decode cJ10_checkIndex 11 = .ok (.iload_n 1, 1) := dk_27 (dk_at dksJ10_checkIndex_0 11 rfl rfl)
theorem dJ10_checkIndex_12 : decode cJ10_checkIndex 12 = .ok (.invokestatic 95, 3) := dk_184 0 95 (dk_at dksJ10_checkIndex_0 12 rfl rfl)
theorem dJ10_checkIndex_15 : decode cJ10_checkIndex 15 = .ok (.athrow, 1) := dk_191 (dk_at dksJ10_checkIndex_0 15 rfl rfl)
theorem dJ10_checkIndex_16 : decode cJ10_checkIndex 16 = .ok (.iload_n 0, 1) := dk_26 (dk_at dksJ10_checkIndex_0 16 rfl rfl)
theorem dJ10_checkIndex_17 : decode cJ10_checkIndex 17 = .ok (.ireturn, 1) := dk_172 (dk_at dksJ10_checkIndex_0 17 rfl rfl)
theorem q79 : (Jvm.Cond.initialized "jdk/internal/util/Preconditions") ∈ lw_all := lw_g (lw_at lw_m1 15 rfl) rfl
theorem q420 : (Jvm.Cond.static ({ cls := "jdk/internal/util/Preconditions", name := "checkIndex", desc := "(IILjava/util/function/BiFunction;)I" } : Jvm.MethodName)) ∈ lw_all := lw_g (lw_at lw_m2 116 rfl) rfl
theorem q421 : (Jvm.Cond.code ({ cls := "jdk/internal/util/Preconditions", name := "checkIndex", desc := "(IILjava/util/function/BiFunction;)I" } : Jvm.MethodName) prog_44_method_11_code (3 : Nat) (Option.some Jvm.ClassFile.FieldType.int)) ∈ lw_all := lw_g (lw_at lw_m2 117 rfl) rfl

/-! java/lang/Throwable -/
set_option maxRecDepth 100000
def RJ11 : String := "java/lang/Throwable"
def TJ11 : u_T := fun k => match k with
  | 0 => ("java/lang/Throwable", "cause", "Ljava/lang/Throwable;", false)
  | 1 => ("java/lang/Throwable", "stackTrace", "[Ljava/lang/StackTraceElement;", false)
  | 2 => ("java/lang/Throwable", "suppressedExceptions", "Ljava/util/List;", false)
  | 3 => ("java/lang/Throwable", "detailMessage", "Ljava/lang/String;", false)
  | _ => ("java/lang/Throwable", "backtrace", "Ljava/lang/Object;", false)
def tyJ11 : Nat → FieldType := fun k => match k with
  | 0 => .object "java/lang/Throwable"
  | 1 => .array (.object "java/lang/StackTraceElement")
  | 2 => .object "java/util/List"
  | 3 => .object "java/lang/String"
  | _ => .object "java/lang/Object"
abbrev wsJ110 : List Cond := u_ws RJ11 TJ11 5
theorem nmJ11 : ∀ a, a < 5 → ∀ b, b < 5 → a ≠ b → (TJ11 a).2.1 ≠ (TJ11 b).2.1 := by decide +kernel
theorem tyJ11_ok : ∀ k, k < 5 → parseFieldDescriptor (TJ11 k).2.2.1 = some (tyJ11 k) := by decide +kernel
abbrev cJ11_init : ByteArray := prog_28_method_1_code
def yJ11_init : MethodName := ⟨RJ11, "<init>", "()V"⟩
def dkwJ11_init_1 : List UInt8 := [182, 0, 27, 87, 177]
abbrev dktJ11_init_1 : List UInt8 := dkwJ11_init_1 ++ []
def dkwJ11_init_0 : List UInt8 := [42, 183, 0, 1, 42, 42, 181, 0, 7, 42, 178, 0, 13, 181, 0, 17, 42, 178, 0, 20, 181, 0, 24, 42]
abbrev dktJ11_init_0 : List UInt8 := dkwJ11_init_0 ++ dktJ11_init_1
theorem dksJ11_init_0 : cJ11_init.data.toList.drop 0 = dktJ11_init_0 := by decide +kernel
theorem dksJ11_init_1 : cJ11_init.data.toList.drop 24 = dktJ11_init_1 := dk_seg dksJ11_init_0 24 rfl rfl
theorem dJ11_init_0 : decode cJ11_init 0 = .ok (.aload_n 0, 1) := dk_42 (dk_at dksJ11_init_0 0 rfl rfl)
theorem dJ11_init_1 : decode cJ11_init 1 = .ok (.invokespecial 1, 3) := dk_183 0 1 (dk_at dksJ11_init_0 1 rfl rfl)
theorem dJ11_init_4 : decode cJ11_init 4 = .ok (.aload_n 0, 1) := dk_42 (dk_at dksJ11_init_0 4 rfl rfl)
theorem dJ11_init_5 : decode cJ11_init 5 = .ok (.aload_n 0, 1) := dk_42 (dk_at dksJ11_init_0 5 rfl rfl)
theorem dJ11_init_6 : decode cJ11_init 6 = .ok (.putfield 7, 3) := dk_181 0 7 (dk_at dksJ11_init_0 6 rfl rfl)
theorem dJ11_init_9 : decode cJ11_init 9 = .ok (.aload_n 0, 1) := dk_42 (dk_at dksJ11_init_0 9 rfl rfl)
theorem dJ11_init_10 : decode cJ11_init 10 = .ok (.getstatic 13, 3) := dk_178 0 13 (dk_at dksJ11_init_0 10 rfl rfl)
theorem dJ11_init_13 : decode cJ11_init 13 = .ok (.putfield 17, 3) := dk_181 0 17 (dk_at dksJ11_init_0 13 rfl rfl)
theorem dJ11_init_16 : decode cJ11_init 16 = .ok (.aload_n 0, 1) := dk_42 (dk_at dksJ11_init_0 16 rfl rfl)
theorem dJ11_init_17 : decode cJ11_init 17 = .ok (.getstatic 20, 3) := dk_178 0 20 (dk_at dksJ11_init_0 17 rfl rfl)
theorem dJ11_init_20 : decode cJ11_init 20 = .ok (.putfield 24, 3) := dk_181 0 24 (dk_at dksJ11_init_0 20 rfl rfl)
theorem dJ11_init_23 : decode cJ11_init 23 = .ok (.aload_n 0, 1) := dk_42 (dk_at dksJ11_init_0 23 rfl rfl)
theorem dJ11_init_24 : decode cJ11_init 24 = .ok (.invokevirtual 27, 3) := dk_182 0 27 (dk_at dksJ11_init_1 0 rfl rfl)
theorem dJ11_init_27 : decode cJ11_init 27 = .ok (.pop, 1) := dk_87 (dk_at dksJ11_init_1 3 rfl rfl)
theorem dJ11_init_28 : decode cJ11_init 28 = .ok (.return_, 1) := dk_177 (dk_at dksJ11_init_1 4 rfl rfl)
abbrev cJ11_init_2 : ByteArray := prog_28_method_5_code
def yJ11_init_2 : MethodName := ⟨RJ11, "<init>", "(Ljava/lang/String;Ljava/lang/Throwable;ZZ)V"⟩
def dkwJ11_init_2_2 : List UInt8 := [44, 181, 0, 7, 29, 154, 0, 8, 42, 1, 181, 0, 24, 177]
abbrev dktJ11_init_2_2 : List UInt8 := dkwJ11_init_2_2 ++ []
def dkwJ11_init_2_1 : List UInt8 := [21, 4, 153, 0, 11, 42, 182, 0, 27, 87, 167, 0, 8, 42, 1, 181, 0, 17, 42, 43, 181, 0, 31, 42]
abbrev dktJ11_init_2_1 : List UInt8 := dkwJ11_init_2_1 ++ dktJ11_init_2_2
def dkwJ11_init_2_0 : List UInt8 := [42, 183, 0, 1, 42, 42, 181, 0, 7, 42, 178, 0, 13, 181, 0, 17, 42, 178, 0, 20, 181, 0, 24]
abbrev dktJ11_init_2_0 : List UInt8 := dkwJ11_init_2_0 ++ dktJ11_init_2_1
theorem dksJ11_init_2_0 : cJ11_init_2.data.toList.drop 0 = dktJ11_init_2_0 := by decide +kernel
theorem dksJ11_init_2_1 : cJ11_init_2.data.toList.drop 23 = dktJ11_init_2_1 := dk_seg dksJ11_init_2_0 23 rfl rfl
theorem dksJ11_init_2_2 : cJ11_init_2.data.toList.drop 47 = dktJ11_init_2_2 := dk_seg dksJ11_init_2_1 24 rfl rfl
theorem dJ11_init_2_0 : decode cJ11_init_2 0 = .ok (.aload_n 0, 1) := dk_42 (dk_at dksJ11_init_2_0 0 rfl rfl)
theorem dJ11_init_2_1 : decode cJ11_init_2 1 = .ok (.invokespecial 1, 3) := dk_183 0 1 (dk_at dksJ11_init_2_0 1 rfl rfl)
theorem dJ11_init_2_4 : decode cJ11_init_2 4 = .ok (.aload_n 0, 1) := dk_42 (dk_at dksJ11_init_2_0 4 rfl rfl)
theorem dJ11_init_2_5 : decode cJ11_init_2 5 = .ok (.aload_n 0, 1) := dk_42 (dk_at dksJ11_init_2_0 5 rfl rfl)
theorem dJ11_init_2_6 : decode cJ11_init_2 6 = .ok (.putfield 7, 3) := dk_181 0 7 (dk_at dksJ11_init_2_0 6 rfl rfl)
theorem dJ11_init_2_9 : decode cJ11_init_2 9 = .ok (.aload_n 0, 1) := dk_42 (dk_at dksJ11_init_2_0 9 rfl rfl)
theorem dJ11_init_2_10 : decode cJ11_init_2 10 = .ok (.getstatic 13, 3) := dk_178 0 13 (dk_at dksJ11_init_2_0 10 rfl rfl)
theorem dJ11_init_2_13 : decode cJ11_init_2 13 = .ok (.putfield 17, 3) := dk_181 0 17 (dk_at dksJ11_init_2_0 13 rfl rfl)
theorem dJ11_init_2_16 : decode cJ11_init_2 16 = .ok (.aload_n 0, 1) := dk_42 (dk_at dksJ11_init_2_0 16 rfl rfl)
theorem dJ11_init_2_17 : decode cJ11_init_2 17 = .ok (.getstatic 20, 3) := dk_178 0 20 (dk_at dksJ11_init_2_0 17 rfl rfl)
theorem dJ11_init_2_20 : decode cJ11_init_2 20 = .ok (.putfield 24, 3) := dk_181 0 24 (dk_at dksJ11_init_2_0 20 rfl rfl)
theorem dJ11_init_2_23 : decode cJ11_init_2 23 = .ok (.iload 4, 2) := dk_21 4 (dk_at dksJ11_init_2_1 0 rfl rfl)
theorem dJ11_init_2_25 : decode cJ11_init_2 25 = .ok (.ifCond .eq 11, 3) := dk_153 0 11 (dk_at dksJ11_init_2_1 2 rfl rfl)
theorem dJ11_init_2_28 : decode cJ11_init_2 28 = .ok (.aload_n 0, 1) := dk_42 (dk_at dksJ11_init_2_1 5 rfl rfl)
theorem dJ11_init_2_29 : decode cJ11_init_2 29 = .ok (.invokevirtual 27, 3) := dk_182 0 27 (dk_at dksJ11_init_2_1 6 rfl rfl)
theorem dJ11_init_2_32 : decode cJ11_init_2 32 = .ok (.pop, 1) := dk_87 (dk_at dksJ11_init_2_1 9 rfl rfl)
theorem dJ11_init_2_33 : decode cJ11_init_2 33 = .ok (.goto 8, 3) := dk_167 0 8 (dk_at dksJ11_init_2_1 10 rfl rfl)
theorem dJ11_init_2_36 : decode cJ11_init_2 36 = .ok (.aload_n 0, 1) := dk_42 (dk_at dksJ11_init_2_1 13 rfl rfl)
theorem dJ11_init_2_37 : decode cJ11_init_2 37 = .ok (.aconst_null, 1) := dk_1 (dk_at dksJ11_init_2_1 14 rfl rfl)
theorem dJ11_init_2_38 : decode cJ11_init_2 38 = .ok (.putfield 17, 3) := dk_181 0 17 (dk_at dksJ11_init_2_1 15 rfl rfl)
theorem dJ11_init_2_41 : decode cJ11_init_2 41 = .ok (.aload_n 0, 1) := dk_42 (dk_at dksJ11_init_2_1 18 rfl rfl)
theorem dJ11_init_2_42 : decode cJ11_init_2 42 = .ok (.aload_n 1, 1) := dk_43 (dk_at dksJ11_init_2_1 19 rfl rfl)
theorem dJ11_init_2_43 : decode cJ11_init_2 43 = .ok (.putfield 31, 3) := dk_181 0 31 (dk_at dksJ11_init_2_1 20 rfl rfl)
theorem dJ11_init_2_46 : decode cJ11_init_2 46 = .ok (.aload_n 0, 1) := dk_42 (dk_at dksJ11_init_2_1 23 rfl rfl)
theorem dJ11_init_2_47 : decode cJ11_init_2 47 = .ok (.aload_n 2, 1) := dk_44 (dk_at dksJ11_init_2_2 0 rfl rfl)
theorem dJ11_init_2_48 : decode cJ11_init_2 48 = .ok (.putfield 7, 3) := dk_181 0 7 (dk_at dksJ11_init_2_2 1 rfl rfl)
theorem dJ11_init_2_51 : decode cJ11_init_2 51 = .ok (.iload_n 3, 1) := dk_29 (dk_at dksJ11_init_2_2 4 rfl rfl)
theorem dJ11_init_2_52 : decode cJ11_init_2 52 = .ok (.ifCond .ne 8, 3) := dk_154 0 8 (dk_at dksJ11_init_2_2 5 rfl rfl)
theorem dJ11_init_2_55 : decode cJ11_init_2 55 = .ok (.aload_n 0, 1) := dk_42 (dk_at dksJ11_init_2_2 8 rfl rfl)
theorem dJ11_init_2_56 : decode cJ11_init_2 56 = .ok (.aconst_null, 1) := dk_1 (dk_at dksJ11_init_2_2 9 rfl rfl)
theorem dJ11_init_2_57 : decode cJ11_init_2 57 = .ok (.putfield 24, 3) := dk_181 0 24 (dk_at dksJ11_init_2_2 10 rfl rfl)
theorem dJ11_init_2_60 : decode cJ11_init_2 60 = .ok (.return_, 1) := dk_177 (dk_at dksJ11_init_2_2 13 rfl rfl)
theorem q81 : (Jvm.Cond.initialized "java/lang/Throwable") ∈ lw_all := lw_g (lw_at lw_m1 17 rfl) rfl
theorem q556 : (Jvm.Cond.declares ({ cls := "java/lang/Throwable", name := "<init>", desc := "()V" } : Jvm.MethodName)) ∈ lw_tbl := lw_at lw_m3 12 rfl
theorem q557 : (Jvm.Cond.declares ({ cls := "java/lang/Throwable", name := "<init>", desc := "(Ljava/lang/String;)V" } : Jvm.MethodName)) ∈ lw_tbl := lw_at lw_m3 13 rfl
theorem q561 : (Jvm.Cond.lays "java/lang/Throwable" "java/lang/Throwable" "cause" "Ljava/lang/Throwable;") ∈ lw_all := lw_g (lw_at lw_m3 17 rfl) rfl
theorem q563 : (Jvm.Cond.lays "java/lang/Throwable" "java/lang/Throwable" "stackTrace" "[Ljava/lang/StackTraceElement;") ∈ lw_all := lw_g (lw_at lw_m3 19 rfl) rfl
theorem q565 : (Jvm.Cond.lays "java/lang/Throwable" "java/lang/Throwable" "suppressedExceptions" "Ljava/util/List;") ∈ lw_all := lw_g (lw_at lw_m3 21 rfl) rfl
theorem q567 : (Jvm.Cond.lays "java/lang/Throwable" "java/lang/Throwable" "detailMessage" "Ljava/lang/String;") ∈ lw_all := lw_g (lw_at lw_m3 23 rfl) rfl
theorem q569 : (Jvm.Cond.lays "java/lang/Throwable" "java/lang/Throwable" "backtrace" "Ljava/lang/Object;") ∈ lw_all := lw_g (lw_at lw_m3 25 rfl) rfl
theorem q570 : (Jvm.Cond.fieldLink "java/lang/Throwable" (198 : Nat) "java/lang/Throwable" "backtrace" "Ljava/lang/Object;") ∈ lw_all := lw_g (lw_at lw_m3 26 rfl) rfl
theorem q571 : (Jvm.Cond.superclass "java/lang/Throwable" "java/lang/Object") ∈ lw_all := lw_g (lw_at lw_m3 27 rfl) rfl
theorem q572 : (Jvm.Cond.instanceMethod ({ cls := "java/lang/Throwable", name := "<init>", desc := "()V" } : Jvm.MethodName)) ∈ lw_all := lw_g (lw_at lw_m3 28 rfl) rfl
theorem q573 : (Jvm.Cond.code ({ cls := "java/lang/Throwable", name := "<init>", desc := "()V" } : Jvm.MethodName) prog_28_method_1_code (1 : Nat) (Option.none : Option Jvm.ClassFile.FieldType)) ∈ lw_all := lw_g (lw_at lw_m3 29 rfl) rfl
theorem q574 : (Jvm.Cond.methodLink "java/lang/Throwable" (1 : Nat) ({ cls := "java/lang/Object", name := "<init>", desc := "()V" } : Jvm.MethodName)) ∈ lw_all := lw_g (lw_at lw_m3 30 rfl) rfl
theorem q575 : (Jvm.Cond.fieldLink "java/lang/Throwable" (13 : Nat) "java/lang/Throwable" "UNASSIGNED_STACK" "[Ljava/lang/StackTraceElement;") ∈ lw_all := lw_g (lw_at lw_m3 31 rfl) rfl
theorem q576 : (Jvm.Cond.laysStatic "java/lang/Throwable" "UNASSIGNED_STACK" "[Ljava/lang/StackTraceElement;") ∈ lw_tbl := lw_at lw_m3 32 rfl
theorem q577 : (Jvm.Cond.fieldLink "java/lang/Throwable" (20 : Nat) "java/lang/Throwable" "SUPPRESSED_SENTINEL" "Ljava/util/List;") ∈ lw_all := lw_g (lw_at lw_m3 33 rfl) rfl
theorem q578 : (Jvm.Cond.laysStatic "java/lang/Throwable" "SUPPRESSED_SENTINEL" "Ljava/util/List;") ∈ lw_tbl := lw_at lw_m3 34 rfl
theorem q579 : (Jvm.Cond.methodLink "java/lang/Throwable" (27 : Nat) ({ cls := "java/lang/Throwable", name := "fillInStackTrace", desc := "()Ljava/lang/Throwable;" } : Jvm.MethodName)) ∈ lw_all := lw_g (lw_at lw_m3 35 rfl) rfl
theorem q580 : (Jvm.Cond.instanceMethod ({ cls := "java/lang/Throwable", name := "fillInStackTrace", desc := "()Ljava/lang/Throwable;" } : Jvm.MethodName)) ∈ lw_all := lw_g (lw_at lw_m3 36 rfl) rfl
theorem q581 : (Jvm.Cond.sameMethod "java/lang/Throwable" "java/lang/Throwable" "fillInStackTrace" "()Ljava/lang/Throwable;") ∈ lw_all := lw_g (lw_at lw_m3 37 rfl) rfl
theorem q582 : (Jvm.Cond.codeSync ({ cls := "java/lang/Throwable", name := "fillInStackTrace", desc := "()Ljava/lang/Throwable;" } : Jvm.MethodName) prog_28_method_18_code (1 : Nat) (Option.some (Jvm.ClassFile.FieldType.object "java/lang/Throwable"))) ∈ lw_all := lw_g (lw_at lw_m3 38 rfl) rfl
theorem q583 : (Jvm.Cond.methodLink "java/lang/Throwable" (202 : Nat) ({ cls := "java/lang/Throwable", name := "fillInStackTrace", desc := "(I)Ljava/lang/Throwable;" } : Jvm.MethodName)) ∈ lw_all := lw_g (lw_at lw_m3 39 rfl) rfl
theorem q584 : (Jvm.Cond.privateMethod ({ cls := "java/lang/Throwable", name := "fillInStackTrace", desc := "(I)Ljava/lang/Throwable;" } : Jvm.MethodName)) ∈ lw_tbl := lw_at lw_m3 40 rfl
theorem q585 : (Jvm.Cond.instanceMethod ({ cls := "java/lang/Throwable", name := "fillInStackTrace", desc := "(I)Ljava/lang/Throwable;" } : Jvm.MethodName)) ∈ lw_all := lw_g (lw_at lw_m3 41 rfl) rfl
theorem q586 : (Jvm.Cond.instantiable "java/lang/Throwable" (6 : Nat)) ∈ lw_all := lw_g (lw_at lw_m3 42 rfl) rfl
theorem q587 : (Jvm.Cond.native ({ cls := "java/lang/Throwable", name := "fillInStackTrace", desc := "(I)Ljava/lang/Throwable;" } : Jvm.MethodName)) ∈ lw_all := lw_g (lw_at lw_m3 43 rfl) rfl
theorem q595 : (Jvm.Cond.instanceMethod ({ cls := "java/lang/Throwable", name := "<init>", desc := "(Ljava/lang/String;Ljava/lang/Throwable;ZZ)V" } : Jvm.MethodName)) ∈ lw_all := lw_g (lw_at lw_m3 51 rfl) rfl
theorem q596 : (Jvm.Cond.code ({ cls := "java/lang/Throwable", name := "<init>", desc := "(Ljava/lang/String;Ljava/lang/Throwable;ZZ)V" } : Jvm.MethodName) prog_28_method_5_code (5 : Nat) (Option.none : Option Jvm.ClassFile.FieldType)) ∈ lw_all := lw_g (lw_at lw_m3 52 rfl) rfl
theorem q599 : (Jvm.Cond.fieldLink "java/lang/Throwable" (198 : Nat) "java/lang/Throwable" "backtrace" "Ljava/lang/Object;") ∈ lw_all := lw_g (lw_at lw_m3 55 rfl) rfl
theorem q600 : (Jvm.Cond.fieldLink "java/lang/Throwable" (31 : Nat) "java/lang/Throwable" "detailMessage" "Ljava/lang/String;") ∈ lw_all := lw_g (lw_at lw_m3 56 rfl) rfl
theorem q601 : (Jvm.Cond.fieldLink "java/lang/Throwable" (7 : Nat) "java/lang/Throwable" "cause" "Ljava/lang/Throwable;") ∈ lw_all := lw_g (lw_at lw_m3 57 rfl) rfl
theorem q602 : (Jvm.Cond.fieldLink "java/lang/Throwable" (17 : Nat) "java/lang/Throwable" "stackTrace" "[Ljava/lang/StackTraceElement;") ∈ lw_all := lw_g (lw_at lw_m3 58 rfl) rfl
theorem q603 : (Jvm.Cond.fieldLink "java/lang/Throwable" (24 : Nat) "java/lang/Throwable" "suppressedExceptions" "Ljava/util/List;") ∈ lw_all := lw_g (lw_at lw_m3 59 rfl) rfl
theorem q606 : (Jvm.Cond.soleField "java/lang/Throwable" "backtrace") ∈ lw_all := lw_g (lw_at lw_m3 62 rfl) rfl
theorem q607 : (Jvm.Cond.soleField "java/lang/Throwable" "detailMessage") ∈ lw_all := lw_g (lw_at lw_m3 63 rfl) rfl
theorem q608 : (Jvm.Cond.soleField "java/lang/Throwable" "cause") ∈ lw_all := lw_g (lw_at lw_m3 64 rfl) rfl
theorem q609 : (Jvm.Cond.soleField "java/lang/Throwable" "stackTrace") ∈ lw_all := lw_g (lw_at lw_m3 65 rfl) rfl
theorem q611 : (Jvm.Cond.soleField "java/lang/Throwable" "depth") ∈ lw_all := lw_g (lw_at lw_m3 67 rfl) rfl
theorem q612 : (Jvm.Cond.soleField "java/lang/Throwable" "suppressedExceptions") ∈ lw_all := lw_g (lw_at lw_m3 68 rfl) rfl
theorem q1784 : (Jvm.Cond.sameMethod "java/lang/Throwable" "java/lang/Throwable" "fillInStackTrace" "(I)Ljava/lang/Throwable;") ∈ lw_all := lw_g (lw_at lw_m8 40 rfl) rfl
theorem q1814 : (Jvm.Cond.castable "java/lang/Throwable" "java/lang/Object") ∈ lw_tbl := lw_at lw_m8 70 rfl
theorem in_J11 : ∀ w ∈ wsJ110, w ∈ lw_all := lw_in wsJ110 [561, 563, 565, 567, 569] (by decide +kernel) (by decide +kernel)

/-! java/lang/Exception -/
set_option maxRecDepth 100000
def RJ12 : String := "java/lang/Exception"
abbrev cJ12_init : ByteArray := prog_23_method_5_code
def yJ12_init : MethodName := ⟨RJ12, "<init>", "(Ljava/lang/String;Ljava/lang/Throwable;ZZ)V"⟩
def dkwJ12_init_0 : List UInt8 := [42, 43, 44, 29, 21, 4, 183, 0, 16, 177]
abbrev dktJ12_init_0 : List UInt8 := dkwJ12_init_0 ++ []
theorem dksJ12_init_0 : cJ12_init.data.toList.drop 0 = dktJ12_init_0 := by decide +kernel
theorem dJ12_init_0 : decode cJ12_init 0 = .ok (.aload_n 0, 1) := dk_42 (dk_at dksJ12_init_0 0 rfl rfl)
theorem dJ12_init_1 : decode cJ12_init 1 = .ok (.aload_n 1, 1) := dk_43 (dk_at dksJ12_init_0 1 rfl rfl)
theorem dJ12_init_2 : decode cJ12_init 2 = .ok (.aload_n 2, 1) := dk_44 (dk_at dksJ12_init_0 2 rfl rfl)
theorem dJ12_init_3 : decode cJ12_init 3 = .ok (.iload_n 3, 1) := dk_29 (dk_at dksJ12_init_0 3 rfl rfl)
theorem dJ12_init_4 : decode cJ12_init 4 = .ok (.iload 4, 2) := dk_21 4 (dk_at dksJ12_init_0 4 rfl rfl)
theorem dJ12_init_6 : decode cJ12_init 6 = .ok (.invokespecial 16, 3) := dk_183 0 16 (dk_at dksJ12_init_0 6 rfl rfl)
theorem dJ12_init_9 : decode cJ12_init 9 = .ok (.return_, 1) := dk_177 (dk_at dksJ12_init_0 9 rfl rfl)
theorem q82 : (Jvm.Cond.initialized "java/lang/Exception") ∈ lw_all := lw_g (lw_at lw_m1 18 rfl) rfl
theorem q554 : (Jvm.Cond.declares ({ cls := "java/lang/Exception", name := "<init>", desc := "()V" } : Jvm.MethodName)) ∈ lw_tbl := lw_at lw_m3 10 rfl
theorem q555 : (Jvm.Cond.declares ({ cls := "java/lang/Exception", name := "<init>", desc := "(Ljava/lang/String;)V" } : Jvm.MethodName)) ∈ lw_tbl := lw_at lw_m3 11 rfl
theorem q592 : (Jvm.Cond.instanceMethod ({ cls := "java/lang/Exception", name := "<init>", desc := "(Ljava/lang/String;Ljava/lang/Throwable;ZZ)V" } : Jvm.MethodName)) ∈ lw_all := lw_g (lw_at lw_m3 48 rfl) rfl
theorem q593 : (Jvm.Cond.code ({ cls := "java/lang/Exception", name := "<init>", desc := "(Ljava/lang/String;Ljava/lang/Throwable;ZZ)V" } : Jvm.MethodName) prog_23_method_5_code (5 : Nat) (Option.none : Option Jvm.ClassFile.FieldType)) ∈ lw_all := lw_g (lw_at lw_m3 49 rfl) rfl
theorem q594 : (Jvm.Cond.methodLink "java/lang/Exception" (16 : Nat) ({ cls := "java/lang/Throwable", name := "<init>", desc := "(Ljava/lang/String;Ljava/lang/Throwable;ZZ)V" } : Jvm.MethodName)) ∈ lw_all := lw_g (lw_at lw_m3 50 rfl) rfl

/-! java/lang/Integer -/
set_option maxRecDepth 100000
def RJ13 : String := "java/lang/Integer"
abbrev cJ13_bitCount : ByteArray := prog_24_method_49_code
def yJ13_bitCount : MethodName := ⟨RJ13, "bitCount", "(I)I"⟩
def dkwJ13_bitCount_2 : List UInt8 := [26, 16, 63, 126, 172]
abbrev dktJ13_bitCount_2 : List UInt8 := dkwJ13_bitCount_2 ++ []
def dkwJ13_bitCount_1 : List UInt8 := [26, 26, 7, 124, 96, 19, 1, 11, 126, 59, 26, 26, 16, 8, 124, 96, 59, 26, 26, 16, 16, 124, 96, 59]
abbrev dktJ13_bitCount_1 : List UInt8 := dkwJ13_bitCount_1 ++ dktJ13_bitCount_2
def dkwJ13_bitCount_0 : List UInt8 := [26, 26, 4, 124, 19, 1, 9, 126, 100, 59, 26, 19, 1, 10, 126, 26, 5, 124, 19, 1, 10, 126, 96, 59]
abbrev dktJ13_bitCount_0 : List UInt8 := dkwJ13_bitCount_0 ++ dktJ13_bitCount_1
theorem dksJ13_bitCount_0 : cJ13_bitCount.data.toList.drop 0 = dktJ13_bitCount_0 := by decide +kernel
theorem dksJ13_bitCount_1 : cJ13_bitCount.data.toList.drop 24 = dktJ13_bitCount_1 := dk_seg dksJ13_bitCount_0 24 rfl rfl
theorem dksJ13_bitCount_2 : cJ13_bitCount.data.toList.drop 48 = dktJ13_bitCount_2 := dk_seg dksJ13_bitCount_1 24 rfl rfl
theorem dJ13_bitCount_0 : decode cJ13_bitCount 0 = .ok (.iload_n 0, 1) := dk_26 (dk_at dksJ13_bitCount_0 0 rfl rfl)
theorem dJ13_bitCount_1 : decode cJ13_bitCount 1 = .ok (.iload_n 0, 1) := dk_26 (dk_at dksJ13_bitCount_0 1 rfl rfl)
theorem dJ13_bitCount_2 : decode cJ13_bitCount 2 = .ok (.iconst 1, 1) := dk_4 (dk_at dksJ13_bitCount_0 2 rfl rfl)
theorem dJ13_bitCount_3 : decode cJ13_bitCount 3 = .ok (.iushr, 1) := dk_124 (dk_at dksJ13_bitCount_0 3 rfl rfl)
theorem dJ13_bitCount_4 : decode cJ13_bitCount 4 = .ok (.ldc_w 265, 3) := dk_19 1 9 (dk_at dksJ13_bitCount_0 4 rfl rfl)
theorem dJ13_bitCount_7 : decode cJ13_bitCount 7 = .ok (.iand, 1) := dk_126 (dk_at dksJ13_bitCount_0 7 rfl rfl)
theorem dJ13_bitCount_8 : decode cJ13_bitCount 8 = .ok (.isub, 1) := dk_100 (dk_at dksJ13_bitCount_0 8 rfl rfl)
theorem dJ13_bitCount_9 : decode cJ13_bitCount 9 = .ok (.istore_n 0, 1) := dk_59 (dk_at dksJ13_bitCount_0 9 rfl rfl)
theorem dJ13_bitCount_10 : decode cJ13_bitCount 10 = .ok (.iload_n 0, 1) := dk_26 (dk_at dksJ13_bitCount_0 10 rfl rfl)
theorem dJ13_bitCount_11 : decode cJ13_bitCount 11 = .ok (.ldc_w 266, 3) := dk_19 1 10 (dk_at dksJ13_bitCount_0 11 rfl rfl)
theorem dJ13_bitCount_14 : decode cJ13_bitCount 14 = .ok (.iand, 1) := dk_126 (dk_at dksJ13_bitCount_0 14 rfl rfl)
theorem dJ13_bitCount_15 : decode cJ13_bitCount 15 = .ok (.iload_n 0, 1) := dk_26 (dk_at dksJ13_bitCount_0 15 rfl rfl)
theorem dJ13_bitCount_16 : decode cJ13_bitCount 16 = .ok (.iconst 2, 1) := dk_5 (dk_at dksJ13_bitCount_0 16 rfl rfl)
theorem dJ13_bitCount_17 : decode cJ13_bitCount 17 = .ok (.iushr, 1) := dk_124 (dk_at dksJ13_bitCount_0 17 rfl rfl)
theorem dJ13_bitCount_18 : decode cJ13_bitCount 18 = .ok (.ldc_w 266, 3) := dk_19 1 10 (dk_at dksJ13_bitCount_0 18 rfl rfl)
theorem dJ13_bitCount_21 : decode cJ13_bitCount 21 = .ok (.iand, 1) := dk_126 (dk_at dksJ13_bitCount_0 21 rfl rfl)
theorem dJ13_bitCount_22 : decode cJ13_bitCount 22 = .ok (.iadd, 1) := dk_96 (dk_at dksJ13_bitCount_0 22 rfl rfl)
theorem dJ13_bitCount_23 : decode cJ13_bitCount 23 = .ok (.istore_n 0, 1) := dk_59 (dk_at dksJ13_bitCount_0 23 rfl rfl)
theorem dJ13_bitCount_24 : decode cJ13_bitCount 24 = .ok (.iload_n 0, 1) := dk_26 (dk_at dksJ13_bitCount_1 0 rfl rfl)
theorem dJ13_bitCount_25 : decode cJ13_bitCount 25 = .ok (.iload_n 0, 1) := dk_26 (dk_at dksJ13_bitCount_1 1 rfl rfl)
theorem dJ13_bitCount_26 : decode cJ13_bitCount 26 = .ok (.iconst 4, 1) := dk_7 (dk_at dksJ13_bitCount_1 2 rfl rfl)
theorem dJ13_bitCount_27 : decode cJ13_bitCount 27 = .ok (.iushr, 1) := dk_124 (dk_at dksJ13_bitCount_1 3 rfl rfl)
theorem dJ13_bitCount_28 : decode cJ13_bitCount 28 = .ok (.iadd, 1) := dk_96 (dk_at dksJ13_bitCount_1 4 rfl rfl)
theorem dJ13_bitCount_29 : decode cJ13_bitCount 29 = .ok (.ldc_w 267, 3) := dk_19 1 11 (dk_at dksJ13_bitCount_1 5 rfl rfl)
theorem dJ13_bitCount_32 : decode cJ13_bitCount 32 = .ok (.iand, 1) := dk_126 (dk_at dksJ13_bitCount_1 8 rfl rfl)
theorem dJ13_bitCount_33 : decode cJ13_bitCount 33 = .ok (.istore_n 0, 1) := dk_59 (dk_at dksJ13_bitCount_1 9 rfl rfl)
theorem dJ13_bitCount_34 : decode cJ13_bitCount 34 = .ok (.iload_n 0, 1) := dk_26 (dk_at dksJ13_bitCount_1 10 rfl rfl)
theorem dJ13_bitCount_35 : decode cJ13_bitCount 35 = .ok (.iload_n 0, 1) := dk_26 (dk_at dksJ13_bitCount_1 11 rfl rfl)
theorem dJ13_bitCount_36 : decode cJ13_bitCount 36 = .ok (.bipush 8, 2) := dk_16 8 (dk_at dksJ13_bitCount_1 12 rfl rfl)
theorem dJ13_bitCount_38 : decode cJ13_bitCount 38 = .ok (.iushr, 1) := dk_124 (dk_at dksJ13_bitCount_1 14 rfl rfl)
theorem dJ13_bitCount_39 : decode cJ13_bitCount 39 = .ok (.iadd, 1) := dk_96 (dk_at dksJ13_bitCount_1 15 rfl rfl)
theorem dJ13_bitCount_40 : decode cJ13_bitCount 40 = .ok (.istore_n 0, 1) := dk_59 (dk_at dksJ13_bitCount_1 16 rfl rfl)
theorem dJ13_bitCount_41 : decode cJ13_bitCount 41 = .ok (.iload_n 0, 1) := dk_26 (dk_at dksJ13_bitCount_1 17 rfl rfl)
theorem dJ13_bitCount_42 : decode cJ13_bitCount 42 = .ok (.iload_n 0, 1) := dk_26 (dk_at dksJ13_bitCount_1 18 rfl rfl)
theorem dJ13_bitCount_43 : decode cJ13_bitCount 43 = .ok (.bipush 16, 2) := dk_16 16 (dk_at dksJ13_bitCount_1 19 rfl rfl)
theorem dJ13_bitCount_45 : decode cJ13_bitCount 45 = .ok (.iushr, 1) := dk_124 (dk_at dksJ13_bitCount_1 21 rfl rfl)
theorem dJ13_bitCount_46 : decode cJ13_bitCount 46 = .ok (.iadd, 1) := dk_96 (dk_at dksJ13_bitCount_1 22 rfl rfl)
theorem dJ13_bitCount_47 : decode cJ13_bitCount 47 = .ok (.istore_n 0, 1) := dk_59 (dk_at dksJ13_bitCount_1 23 rfl rfl)
theorem dJ13_bitCount_48 : decode cJ13_bitCount 48 = .ok (.iload_n 0, 1) := dk_26 (dk_at dksJ13_bitCount_2 0 rfl rfl)
theorem dJ13_bitCount_49 : decode cJ13_bitCount 49 = .ok (.bipush 63, 2) := dk_16 63 (dk_at dksJ13_bitCount_2 1 rfl rfl)
theorem dJ13_bitCount_51 : decode cJ13_bitCount 51 = .ok (.iand, 1) := dk_126 (dk_at dksJ13_bitCount_2 3 rfl rfl)
theorem dJ13_bitCount_52 : decode cJ13_bitCount 52 = .ok (.ireturn, 1) := dk_172 (dk_at dksJ13_bitCount_2 4 rfl rfl)
theorem q98 : (Jvm.Cond.initialized "java/lang/Integer") ∈ lw_all := lw_g (lw_at lw_m1 34 rfl) rfl
theorem q1340 : (Jvm.Cond.static ({ cls := "java/lang/Integer", name := "bitCount", desc := "(I)I" } : Jvm.MethodName)) ∈ lw_all := lw_g (lw_at lw_m6 76 rfl) rfl
theorem q1341 : (Jvm.Cond.code ({ cls := "java/lang/Integer", name := "bitCount", desc := "(I)I" } : Jvm.MethodName) prog_24_method_49_code (1 : Nat) (Option.some Jvm.ClassFile.FieldType.int)) ∈ lw_all := lw_g (lw_at lw_m6 77 rfl) rfl
theorem q1342 : (Jvm.Cond.constant "java/lang/Integer" (265 : Nat) (1431655765 : Int32)) ∈ lw_all := lw_g (lw_at lw_m6 78 rfl) rfl
theorem q1343 : (Jvm.Cond.constant "java/lang/Integer" (266 : Nat) (858993459 : Int32)) ∈ lw_all := lw_g (lw_at lw_m6 79 rfl) rfl
theorem q1344 : (Jvm.Cond.constant "java/lang/Integer" (267 : Nat) (252645135 : Int32)) ∈ lw_all := lw_g (lw_at lw_m6 80 rfl) rfl

/-! java/lang/Object -/
set_option maxRecDepth 100000
def RJ14 : String := "java/lang/Object"
abbrev cJ14_init : ByteArray := object_method_1_code
def yJ14_init : MethodName := ⟨RJ14, "<init>", "()V"⟩
theorem dJ14_init_0 : decode cJ14_init 0 = .ok (.return_, 1) := by decide +kernel
theorem q105 : (Jvm.Cond.instanceMethod ({ cls := "java/lang/Object", name := "<init>", desc := "()V" } : Jvm.MethodName)) ∈ lw_all := lw_g (lw_at lw_m1 41 rfl) rfl
theorem q106 : (Jvm.Cond.code ({ cls := "java/lang/Object", name := "<init>", desc := "()V" } : Jvm.MethodName) object_method_1_code (1 : Nat) (Option.none : Option Jvm.ClassFile.FieldType)) ∈ lw_all := lw_g (lw_at lw_m1 42 rfl) rfl
theorem q262 : (Jvm.Cond.instanceMethod ({ cls := "java/lang/Object", name := "getClass", desc := "()Ljava/lang/Class;" } : Jvm.MethodName)) ∈ lw_all := lw_g (lw_at lw_m1 198 rfl) rfl
theorem q263 : (Jvm.Cond.sameMethod "java/lang/Object" "java/lang/Object" "getClass" "()Ljava/lang/Class;") ∈ lw_all := lw_g (lw_at lw_m1 199 rfl) rfl
theorem q284 : (Jvm.Cond.native ({ cls := "java/lang/Object", name := "getClass", desc := "()Ljava/lang/Class;" } : Jvm.MethodName)) ∈ lw_all := lw_g (lw_at lw_m1 220 rfl) rfl
theorem q306 : (Jvm.Cond.declares ({ cls := "java/lang/Object", name := "getClass", desc := "()Ljava/lang/Class;" } : Jvm.MethodName)) ∈ lw_tbl := lw_at lw_m2 2 rfl
theorem q308 : (Jvm.Cond.publicMethod ({ cls := "java/lang/Object", name := "getClass", desc := "()Ljava/lang/Class;" } : Jvm.MethodName)) ∈ lw_tbl := lw_at lw_m2 4 rfl
theorem q1793 : (Jvm.Cond.initialized "java/lang/Object") ∈ lw_all := lw_g (lw_at lw_m8 49 rfl) rfl
