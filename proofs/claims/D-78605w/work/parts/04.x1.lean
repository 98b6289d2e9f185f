/-! RatioGraphModel -/
set_option maxRecDepth 100000
def RX1 : String := "RatioGraphModel"
def TX1 : u_T := fun k => match k with
  | 0 => ("RatioGraphModel", "m", "[I", true)
  | 1 => ("RatioGraphModel", "past", "[I", true)
  | 2 => ("RatioGraphModel", "undos", "I", false)
  | 3 => ("RatioGraphModel", "marks", "[I", true)
  | 4 => ("RatioGraphModel", "text", "[I", true)
  | 5 => ("RatioGraphModel", "textLength", "I", false)
  | 6 => ("RatioGraphModel", "found", "[I", true)
  | 7 => ("RatioGraphModel", "foundEdges", "I", false)
  | 8 => ("RatioGraphModel", "valueUp", "J", false)
  | 9 => ("RatioGraphModel", "valueDown", "J", false)
  | 10 => ("RatioGraphModel", "piece", "[J", true)
  | 11 => ("RatioGraphModel", "kept", "I", false)
  | 12 => ("RatioGraphModel", "hasPieces", "Z", false)
  | 13 => ("RatioGraphModel", "read", "[I", true)
  | 14 => ("RatioGraphModel", "reads", "I", false)
  | 15 => ("RatioGraphModel", "at", "I", false)
  | 16 => ("RatioGraphModel", "fault", "I", false)
  | 17 => ("RatioGraphModel", "walk", "[I", true)
  | 18 => ("RatioGraphModel", "steps", "I", false)
  | 19 => ("RatioGraphModel", "taken", "I", false)
  | 20 => ("RatioGraphModel", "first", "I", false)
  | 21 => ("RatioGraphModel", "last", "I", false)
  | 22 => ("RatioGraphModel", "best", "[I", true)
  | 23 => ("RatioGraphModel", "bestSteps", "I", false)
  | 24 => ("RatioGraphModel", "bestUp", "J", false)
  | 25 => ("RatioGraphModel", "bestDown", "J", false)
  | 26 => ("RatioGraphModel", "far", "[J", true)
  | 27 => ("RatioGraphModel", "lineA", "J", false)
  | 28 => ("RatioGraphModel", "lineB", "J", false)
  | 29 => ("RatioGraphModel", "beginUp", "J", false)
  | 30 => ("RatioGraphModel", "beginDown", "J", false)
  | 31 => ("RatioGraphModel", "hasLeast", "Z", false)
  | 32 => ("RatioGraphModel", "hasMost", "Z", false)
  | 33 => ("RatioGraphModel", "leastUp", "J", false)
  | 34 => ("RatioGraphModel", "leastDown", "J", false)
  | 35 => ("RatioGraphModel", "mostUp", "J", false)
  | 36 => ("RatioGraphModel", "mostDown", "J", false)
  | 37 => ("RatioGraphModel", "isEmpty", "Z", false)
  | _ => ("RatioGraphModel", "hash", "J", false)
def tyX1 : Nat → FieldType := fun k => match k with
  | 0 => .array .int
  | 1 => .array .int
  | 2 => .int
  | 3 => .array .int
  | 4 => .array .int
  | 5 => .int
  | 6 => .array .int
  | 7 => .int
  | 8 => .long
  | 9 => .long
  | 10 => .array .long
  | 11 => .int
  | 12 => .boolean
  | 13 => .array .int
  | 14 => .int
  | 15 => .int
  | 16 => .int
  | 17 => .array .int
  | 18 => .int
  | 19 => .int
  | 20 => .int
  | 21 => .int
  | 22 => .array .int
  | 23 => .int
  | 24 => .long
  | 25 => .long
  | 26 => .array .long
  | 27 => .long
  | 28 => .long
  | 29 => .long
  | 30 => .long
  | 31 => .boolean
  | 32 => .boolean
  | 33 => .long
  | 34 => .long
  | 35 => .long
  | 36 => .long
  | 37 => .boolean
  | _ => .long
abbrev wsX10 : List Cond := u_ws RX1 TX1 39
set_option maxRecDepth 100000 in
theorem nmX1 : ∀ a, a < 39 → ∀ b, b < 39 → a ≠ b → (TX1 a).2.1 ≠ (TX1 b).2.1 := by decide +kernel
set_option maxRecDepth 100000 in
theorem tyX1_ok : ∀ k, k < 39 → parseFieldDescriptor (TX1 k).2.2.1 = some (tyX1 k) := by decide +kernel
abbrev cX1_init : ByteArray := prog_20_method_1_code
def yX1_init : MethodName := ⟨RX1, "<init>", "()V"⟩
def dkwX1_init_3 : List UInt8 := [16, 8, 188, 10, 181, 0, 37, 42, 16, 8, 188, 10, 181, 0, 40, 42, 16, 8, 188, 11, 181, 0, 43, 177]
abbrev dktX1_init_3 : List UInt8 := dkwX1_init_3 ++ []
def dkwX1_init_2 : List UInt8 := [18, 25, 181, 0, 26, 42, 17, 2, 0, 188, 11, 181, 0, 30, 42, 16, 112, 188, 10, 181, 0, 34, 42]
abbrev dktX1_init_2 : List UInt8 := dkwX1_init_2 ++ dktX1_init_3
def dkwX1_init_1 : List UInt8 := [188, 10, 181, 0, 16, 42, 17, 0, 150, 188, 10, 181, 0, 19, 42, 16, 8, 188, 10, 181, 0, 22, 42]
abbrev dktX1_init_1 : List UInt8 := dkwX1_init_1 ++ dktX1_init_2
def dkwX1_init_0 : List UInt8 := [42, 183, 0, 1, 42, 16, 113, 188, 10, 181, 0, 7, 42, 17, 5, 76, 188, 10, 181, 0, 13, 42, 16, 8]
abbrev dktX1_init_0 : List UInt8 := dkwX1_init_0 ++ dktX1_init_1
theorem dksX1_init_0 : cX1_init.data.toList.drop 0 = dktX1_init_0 := by decide +kernel
theorem dksX1_init_1 : cX1_init.data.toList.drop 24 = dktX1_init_1 := dk_seg dksX1_init_0 24 rfl rfl
theorem dksX1_init_2 : cX1_init.data.toList.drop 47 = dktX1_init_2 := dk_seg dksX1_init_1 23 rfl rfl
theorem dksX1_init_3 : cX1_init.data.toList.drop 70 = dktX1_init_3 := dk_seg dksX1_init_2 23 rfl rfl
theorem dX1_init_0 : decode cX1_init 0 = .ok (.aload_n 0, 1) := dk_42 (dk_at dksX1_init_0 0 rfl rfl)
theorem dX1_init_1 : decode cX1_init 1 = .ok (.invokespecial 1, 3) := dk_183 0 1 (dk_at dksX1_init_0 1 rfl rfl)
theorem dX1_init_4 : decode cX1_init 4 = .ok (.aload_n 0, 1) := dk_42 (dk_at dksX1_init_0 4 rfl rfl)
theorem dX1_init_5 : decode cX1_init 5 = .ok (.bipush 113, 2) := dk_16 113 (dk_at dksX1_init_0 5 rfl rfl)
theorem dX1_init_7 : decode cX1_init 7 = .ok (.newarray .int, 2) := dk_188_10 (dk_at dksX1_init_0 7 rfl rfl)
theorem dX1_init_9 : decode cX1_init 9 = .ok (.putfield 7, 3) := dk_181 0 7 (dk_at dksX1_init_0 9 rfl rfl)
theorem dX1_init_12 : decode cX1_init 12 = .ok (.aload_n 0, 1) := dk_42 (dk_at dksX1_init_0 12 rfl rfl)
theorem dX1_init_13 : decode cX1_init 13 = .ok (.sipush 1356, 3) := dk_17 5 76 (dk_at dksX1_init_0 13 rfl rfl)
theorem dX1_init_16 : decode cX1_init 16 = .ok (.newarray .int, 2) := dk_188_10 (dk_at dksX1_init_0 16 rfl rfl)
theorem dX1_init_18 : decode cX1_init 18 = .ok (.putfield 13, 3) := dk_181 0 13 (dk_at dksX1_init_0 18 rfl rfl)
theorem dX1_init_21 : decode cX1_init 21 = .ok (.aload_n 0, 1) := dk_42 (dk_at dksX1_init_0 21 rfl rfl)
theorem dX1_init_22 : decode cX1_init 22 = .ok (.bipush 8, 2) := dk_16 8 (dk_at dksX1_init_0 22 rfl rfl)
theorem dX1_init_24 : decode cX1_init 24 = .ok (.newarray .int, 2) := dk_188_10 (dk_at dksX1_init_1 0 rfl rfl)
theorem dX1_init_26 : decode cX1_init 26 = .ok (.putfield 16, 3) := dk_181 0 16 (dk_at dksX1_init_1 2 rfl rfl)
theorem dX1_init_29 : decode cX1_init 29 = .ok (.aload_n 0, 1) := dk_42 (dk_at dksX1_init_1 5 rfl rfl)
theorem dX1_init_30 : decode cX1_init 30 = .ok (.sipush 150, 3) := dk_17 0 150 (dk_at dksX1_init_1 6 rfl rfl)
theorem dX1_init_33 : decode cX1_init 33 = .ok (.newarray .int, 2) := dk_188_10 (dk_at dksX1_init_1 9 rfl rfl)
theorem dX1_init_35 : decode cX1_init 35 = .ok (.putfield 19, 3) := dk_181 0 19 (dk_at dksX1_init_1 11 rfl rfl)
theorem dX1_init_38 : decode cX1_init 38 = .ok (.aload_n 0, 1) := dk_42 (dk_at dksX1_init_1 14 rfl rfl)
theorem dX1_init_39 : decode cX1_init 39 = .ok (.bipush 8, 2) := dk_16 8 (dk_at dksX1_init_1 15 rfl rfl)
theorem dX1_init_41 : decode cX1_init 41 = .ok (.newarray .int, 2) := dk_188_10 (dk_at dksX1_init_1 17 rfl rfl)
theorem dX1_init_43 : decode cX1_init 43 = .ok (.putfield 22, 3) := dk_181 0 22 (dk_at dksX1_init_1 19 rfl rfl)
theorem dX1_init_46 : decode cX1_init 46 = .ok (.aload_n 0, 1) := dk_42 (dk_at dksX1_init_1 22 rfl rfl)
theorem dX1_init_47 : decode cX1_init 47 = .ok (.ldc 25, 2) := dk_18 25 (dk_at dksX1_init_2 0 rfl rfl)
theorem dX1_init_49 : decode cX1_init 49 = .ok (.putfield 26, 3) := dk_181 0 26 (dk_at dksX1_init_2 2 rfl rfl)
theorem dX1_init_52 : decode cX1_init 52 = .ok (.aload_n 0, 1) := dk_42 (dk_at dksX1_init_2 5 rfl rfl)
theorem dX1_init_53 : decode cX1_init 53 = .ok (.sipush 512, 3) := dk_17 2 0 (dk_at dksX1_init_2 6 rfl rfl)
theorem dX1_init_56 : decode cX1_init 56 = .ok (.newarray .long, 2) := dk_188_11 (dk_at dksX1_init_2 9 rfl rfl)
theorem dX1_init_58 : decode cX1_init 58 = .ok (.putfield 30, 3) := dk_181 0 30 (dk_at dksX1_init_2 11 rfl rfl)
theorem dX1_init_61 : decode cX1_init 61 = .ok (.aload_n 0, 1) := dk_42 (dk_at dksX1_init_2 14 rfl rfl)
theorem dX1_init_62 : decode cX1_init 62 = .ok (.bipush 112, 2) := dk_16 112 (dk_at dksX1_init_2 15 rfl rfl)
theorem dX1_init_64 : decode cX1_init 64 = .ok (.newarray .int, 2) := dk_188_10 (dk_at dksX1_init_2 17 rfl rfl)
theorem dX1_init_66 : decode cX1_init 66 = .ok (.putfield 34, 3) := dk_181 0 34 (dk_at dksX1_init_2 19 rfl rfl)
theorem dX1_init_69 : decode cX1_init 69 = .ok (.aload_n 0, 1) := dk_42 (dk_at dksX1_init_2 22 rfl rfl)
theorem dX1_init_70 : decode cX1_init 70 = .ok (.bipush 8, 2) := dk_16 8 (dk_at dksX1_init_3 0 rfl rfl)
theorem dX1_init_72 : decode cX1_init 72 = .ok (.newarray .int, 2) := dk_188_10 (dk_at dksX1_init_3 2 rfl rfl)
theorem dX1_init_74 : decode cX1_init 74 = .ok (.putfield 37, 3) := dk_181 0 37 (dk_at dksX1_init_3 4 rfl rfl)
theorem dX1_init_77 : decode cX1_init 77 = .ok (.aload_n 0, 1) := dk_42 (dk_at dksX1_init_3 7 rfl rfl)
theorem dX1_init_78 : decode cX1_init 78 = .ok (.bipush 8, 2) := dk_16 8 (dk_at dksX1_init_3 8 rfl rfl)
theorem dX1_init_80 : decode cX1_init 80 = .ok (.newarray .int, 2) := dk_188_10 (dk_at dksX1_init_3 10 rfl rfl)
theorem dX1_init_82 : decode cX1_init 82 = .ok (.putfield 40, 3) := dk_181 0 40 (dk_at dksX1_init_3 12 rfl rfl)
theorem dX1_init_85 : decode cX1_init 85 = .ok (.aload_n 0, 1) := dk_42 (dk_at dksX1_init_3 15 rfl rfl)
theorem dX1_init_86 : decode cX1_init 86 = .ok (.bipush 8, 2) := dk_16 8 (dk_at dksX1_init_3 16 rfl rfl)
theorem dX1_init_88 : decode cX1_init 88 = .ok (.newarray .long, 2) := dk_188_11 (dk_at dksX1_init_3 18 rfl rfl)
theorem dX1_init_90 : decode cX1_init 90 = .ok (.putfield 43, 3) := dk_181 0 43 (dk_at dksX1_init_3 20 rfl rfl)
theorem dX1_init_93 : decode cX1_init 93 = .ok (.return_, 1) := dk_177 (dk_at dksX1_init_3 23 rfl rfl)
abbrev cX1_undo : ByteArray := prog_20_method_8_code
def yX1_undo : MethodName := ⟨RX1, "undo", "()I"⟩
def dkwX1_undo_2 : List UInt8 := [79, 132, 1, 1, 167, 255, 227, 42, 180, 0, 60, 172]
abbrev dktX1_undo_2 : List UInt8 := dkwX1_undo_2 ++ []
def dkwX1_undo_1 : List UInt8 := [16, 113, 162, 0, 29, 42, 180, 0, 7, 27, 42, 180, 0, 13, 16, 113, 42, 180, 0, 60, 104, 27, 96, 46]
abbrev dktX1_undo_1 : List UInt8 := dkwX1_undo_1 ++ dktX1_undo_2
def dkwX1_undo_0 : List UInt8 := [42, 180, 0, 60, 154, 0, 6, 18, 63, 172, 42, 89, 180, 0, 60, 4, 100, 181, 0, 60, 3, 60, 27]
abbrev dktX1_undo_0 : List UInt8 := dkwX1_undo_0 ++ dktX1_undo_1
theorem dksX1_undo_0 : cX1_undo.data.toList.drop 0 = dktX1_undo_0 := by decide +kernel
theorem dksX1_undo_1 : cX1_undo.data.toList.drop 23 = dktX1_undo_1 := dk_seg dksX1_undo_0 23 rfl rfl
theorem dksX1_undo_2 : cX1_undo.data.toList.drop 47 = dktX1_undo_2 := dk_seg dksX1_undo_1 24 rfl rfl
theorem dX1_undo_0 : decode cX1_undo 0 = .ok (.aload_n 0, 1) := dk_42 (dk_at dksX1_undo_0 0 rfl rfl)
theorem dX1_undo_1 : decode cX1_undo 1 = .ok (.getfield 60, 3) := dk_180 0 60 (dk_at dksX1_undo_0 1 rfl rfl)
theorem dX1_undo_4 : decode cX1_undo 4 = .ok (.ifCond .ne 6, 3) := dk_154 0 6 (dk_at dksX1_undo_0 4 rfl rfl)
theorem dX1_undo_7 : decode cX1_undo 7 = .ok (.ldc 63, 2) := dk_18 63 (dk_at dksX1_undo_0 7 rfl rfl)
theorem dX1_undo_9 : decode cX1_undo 9 = .ok (.ireturn, 1) := dk_172 (dk_at dksX1_undo_0 9 rfl rfl)
theorem dX1_undo_10 : decode cX1_undo 10 = .ok (.aload_n 0, 1) := dk_42 (dk_at dksX1_undo_0 10 rfl rfl)
theorem dX1_undo_11 : decode cX1_undo 11 = .ok (.dup, 1) := dk_89 (dk_at dksX1_undo_0 11 rfl rfl)
theorem dX1_undo_12 : decode cX1_undo 12 = .ok (.getfield 60, 3) := dk_180 0 60 (dk_at dksX1_undo_0 12 rfl rfl)
theorem dX1_undo_15 : decode cX1_undo 15 = .ok (.iconst 1, 1) := dk_4 (dk_at dksX1_undo_0 15 rfl rfl)
theorem dX1_undo_16 : decode cX1_undo 16 = .ok (.isub, 1) := dk_100 (dk_at dksX1_undo_0 16 rfl rfl)
theorem dX1_undo_17 : decode cX1_undo 17 = .ok (.putfield 60, 3) := dk_181 0 60 (dk_at dksX1_undo_0 17 rfl rfl)
theorem dX1_undo_20 : decode cX1_undo 20 = .ok (.iconst 0, 1) := dk_3 (dk_at dksX1_undo_0 20 rfl rfl)
theorem dX1_undo_21 : decode cX1_undo 21 = .ok (.istore_n 1, 1) := dk_60 (dk_at dksX1_undo_0 21 rfl rfl)
theorem dX1_undo_22 : decode cX1_undo 22 = .ok (.iload_n 1, 1) := dk_27 (dk_at dksX1_undo_0 22 rfl rfl)
theorem dX1_undo_23 : decode cX1_undo 23 = .ok (.bipush 113, 2) := dk_16 113 (dk_at dksX1_undo_1 0 rfl rfl)
theorem dX1_undo_25 : decode cX1_undo 25 = .ok (.if_icmp .ge 29, 3) := dk_162 0 29 (dk_at dksX1_undo_1 2 rfl rfl)
theorem dX1_undo_28 : decode cX1_undo 28 = .ok (.aload_n 0, 1) := dk_42 (dk_at dksX1_undo_1 5 rfl rfl)
theorem dX1_undo_29 : decode cX1_undo 29 = .ok (.getfield 7, 3) := dk_180 0 7 (dk_at dksX1_undo_1 6 rfl rfl)
theorem dX1_undo_32 : decode cX1_undo 32 = .ok (.iload_n 1, 1) := dk_27 (dk_at dksX1_undo_1 9 rfl rfl)
theorem dX1_undo_33 : decode cX1_undo 33 = .ok (.aload_n 0, 1) := dk_42 (dk_at dksX1_undo_1 10 rfl rfl)
theorem dX1_undo_34 : decode cX1_undo 34 = .ok (.getfield 13, 3) := dk_180 0 13 (dk_at dksX1_undo_1 11 rfl rfl)
theorem dX1_undo_37 : decode cX1_undo 37 = .ok (.bipush 113, 2) := dk_16 113 (dk_at dksX1_undo_1 14 rfl rfl)
theorem dX1_undo_39 : decode cX1_undo 39 = .ok (.aload_n 0, 1) := dk_42 (dk_at dksX1_undo_1 16 rfl rfl)
theorem dX1_undo_40 : decode cX1_undo 40 = .ok (.getfield 60, 3) := dk_180 0 60 (dk_at dksX1_undo_1 17 rfl rfl)
theorem dX1_undo_43 : decode cX1_undo 43 = .ok (.imul, 1) := dk_104 (dk_at dksX1_undo_1 20 rfl rfl)
theorem dX1_undo_44 : decode cX1_undo 44 = .ok (.iload_n 1, 1) := dk_27 (dk_at dksX1_undo_1 21 rfl rfl)
theorem dX1_undo_45 : decode cX1_undo 45 = .ok (.iadd, 1) := dk_96 (dk_at dksX1_undo_1 22 rfl rfl)
theorem dX1_undo_46 : decode cX1_undo 46 = .ok (.iaload, 1) := dk_46 (dk_at dksX1_undo_1 23 rfl rfl)
theorem dX1_undo_47 : decode cX1_undo 47 = .ok (.iastore, 1) := dk_79 (dk_at dksX1_undo_2 0 rfl rfl)
theorem dX1_undo_48 : decode cX1_undo 48 = .ok (.iinc 1 1, 3) := dk_132 1 1 (dk_at dksX1_undo_2 1 rfl rfl)
theorem dX1_undo_51 : decode cX1_undo 51 = .ok (.goto (-29), 3) := dk_167 255 227 (dk_at dksX1_undo_2 4 rfl rfl)
theorem dX1_undo_54 : decode cX1_undo 54 = .ok (.aload_n 0, 1) := dk_42 (dk_at dksX1_undo_2 7 rfl rfl)
theorem dX1_undo_55 : decode cX1_undo 55 = .ok (.getfield 60, 3) := dk_180 0 60 (dk_at dksX1_undo_2 8 rfl rfl)
theorem dX1_undo_58 : decode cX1_undo 58 = .ok (.ireturn, 1) := dk_172 (dk_at dksX1_undo_2 11 rfl rfl)
abbrev cX1_addEdge : ByteArray := prog_20_method_9_code
def yX1_addEdge : MethodName := ⟨RX1, "addEdge", "(IIIII)I"⟩
def dkwX1_addEdge_7 : List UInt8 := [100, 172]
abbrev dktX1_addEdge_7 : List UInt8 := dkwX1_addEdge_7 ++ []
def dkwX1_addEdge_6 : List UInt8 := [16, 6, 96, 4, 79, 42, 180, 0, 7, 16, 112, 92, 46, 4, 96, 79, 42, 180, 0, 7, 16, 112, 46, 4]
abbrev dktX1_addEdge_6 : List UInt8 := dkwX1_addEdge_6 ++ dktX1_addEdge_7
def dkwX1_addEdge_5 : List UInt8 := [21, 6, 7, 96, 21, 5, 79, 42, 180, 0, 7, 21, 6, 8, 96, 4, 79, 42, 180, 0, 7, 21, 6]
abbrev dktX1_addEdge_5 : List UInt8 := dkwX1_addEdge_5 ++ dktX1_addEdge_6
def dkwX1_addEdge_4 : List UInt8 := [180, 0, 7, 21, 6, 5, 96, 29, 79, 42, 180, 0, 7, 21, 6, 6, 96, 21, 4, 79, 42, 180, 0, 7]
abbrev dktX1_addEdge_4 : List UInt8 := dkwX1_addEdge_4 ++ dktX1_addEdge_5
def dkwX1_addEdge_3 : List UInt8 := [104, 54, 6, 42, 180, 0, 7, 21, 6, 27, 79, 42, 180, 0, 7, 21, 6, 4, 96, 28, 79, 42]
abbrev dktX1_addEdge_3 : List UInt8 := dkwX1_addEdge_3 ++ dktX1_addEdge_4
def dkwX1_addEdge_2 : List UInt8 := [16, 112, 46, 16, 16, 160, 0, 6, 18, 73, 172, 42, 182, 0, 74, 16, 7, 42, 180, 0, 7, 16, 112, 46]
abbrev dktX1_addEdge_2 : List UInt8 := dkwX1_addEdge_2 ++ dktX1_addEdge_3
def dkwX1_addEdge_1 : List UInt8 := [21, 4, 184, 0, 68, 153, 0, 12, 7, 21, 5, 184, 0, 68, 154, 0, 6, 18, 72, 172, 42, 180, 0, 7]
abbrev dktX1_addEdge_1 : List UInt8 := dkwX1_addEdge_1 ++ dktX1_addEdge_2
def dkwX1_addEdge_0 : List UInt8 := [27, 184, 0, 64, 153, 0, 36, 28, 184, 0, 64, 153, 0, 29, 5, 29, 184, 0, 68, 153, 0, 21, 6]
abbrev dktX1_addEdge_0 : List UInt8 := dkwX1_addEdge_0 ++ dktX1_addEdge_1
theorem dksX1_addEdge_0 : cX1_addEdge.data.toList.drop 0 = dktX1_addEdge_0 := by decide +kernel
theorem dksX1_addEdge_1 : cX1_addEdge.data.toList.drop 23 = dktX1_addEdge_1 := dk_seg dksX1_addEdge_0 23 rfl rfl
theorem dksX1_addEdge_2 : cX1_addEdge.data.toList.drop 47 = dktX1_addEdge_2 := dk_seg dksX1_addEdge_1 24 rfl rfl
theorem dksX1_addEdge_3 : cX1_addEdge.data.toList.drop 71 = dktX1_addEdge_3 := dk_seg dksX1_addEdge_2 24 rfl rfl
theorem dksX1_addEdge_4 : cX1_addEdge.data.toList.drop 93 = dktX1_addEdge_4 := dk_seg dksX1_addEdge_3 22 rfl rfl
theorem dksX1_addEdge_5 : cX1_addEdge.data.toList.drop 117 = dktX1_addEdge_5 := dk_seg dksX1_addEdge_4 24 rfl rfl
theorem dksX1_addEdge_6 : cX1_addEdge.data.toList.drop 140 = dktX1_addEdge_6 := dk_seg dksX1_addEdge_5 23 rfl rfl
theorem dksX1_addEdge_7 : cX1_addEdge.data.toList.drop 164 = dktX1_addEdge_7 := dk_seg dksX1_addEdge_6 24 rfl rfl
theorem dX1_addEdge_0 : decode cX1_addEdge 0 = .ok (.iload_n 1, 1) := dk_27 (dk_at dksX1_addEdge_0 0 rfl rfl)
theorem dX1_addEdge_1 : decode cX1_addEdge 1 = .ok (.invokestatic 64, 3) := dk_184 0 64 (dk_at dksX1_addEdge_0 1 rfl rfl)
theorem dX1_addEdge_4 : decode cX1_addEdge 4 = .ok (.ifCond .eq 36, 3) := dk_153 0 36 (dk_at dksX1_addEdge_0 4 rfl rfl)
theorem dX1_addEdge_7 : decode cX1_addEdge 7 = .ok (.iload_n 2, 1) := dk_28 (dk_at dksX1_addEdge_0 7 rfl rfl)
theorem dX1_addEdge_8 : decode cX1_addEdge 8 = .ok (.invokestatic 64, 3) := dk_184 0 64 (dk_at dksX1_addEdge_0 8 rfl rfl)
theorem dX1_addEdge_11 : decode cX1_addEdge 11 = .ok (.ifCond .eq 29, 3) := dk_153 0 29 (dk_at dksX1_addEdge_0 11 rfl rfl)
theorem dX1_addEdge_14 : decode cX1_addEdge 14 = .ok (.iconst 2, 1) := dk_5 (dk_at dksX1_addEdge_0 14 rfl rfl)
theorem dX1_addEdge_15 : decode cX1_addEdge 15 = .ok (.iload_n 3, 1) := dk_29 (dk_at dksX1_addEdge_0 15 rfl rfl)
theorem dX1_addEdge_16 : decode cX1_addEdge 16 = .ok (.invokestatic 68, 3) := dk_184 0 68 (dk_at dksX1_addEdge_0 16 rfl rfl)
theorem dX1_addEdge_19 : decode cX1_addEdge 19 = .ok (.ifCond .eq 21, 3) := dk_153 0 21 (dk_at dksX1_addEdge_0 19 rfl rfl)
theorem dX1_addEdge_22 : decode cX1_addEdge 22 = .ok (.iconst 3, 1) := dk_6 (dk_at dksX1_addEdge_0 22 rfl rfl)
theorem dX1_addEdge_23 : decode cX1_addEdge 23 = .ok (.iload 4, 2) := dk_21 4 (dk_at dksX1_addEdge_1 0 rfl rfl)
theorem dX1_addEdge_25 : decode cX1_addEdge 25 = .ok (.invokestatic 68, 3) := dk_184 0 68 (dk_at dksX1_addEdge_1 2 rfl rfl)
theorem dX1_addEdge_28 : decode cX1_addEdge 28 = .ok (.ifCond .eq 12, 3) := dk_153 0 12 (dk_at dksX1_addEdge_1 5 rfl rfl)
theorem dX1_addEdge_31 : decode cX1_addEdge 31 = .ok (.iconst 4, 1) := dk_7 (dk_at dksX1_addEdge_1 8 rfl rfl)
theorem dX1_addEdge_32 : decode cX1_addEdge 32 = .ok (.iload 5, 2) := dk_21 5 (dk_at dksX1_addEdge_1 9 rfl rfl)
theorem dX1_addEdge_34 : decode cX1_addEdge 34 = .ok (.invokestatic 68, 3) := dk_184 0 68 (dk_at dksX1_addEdge_1 11 rfl rfl)
theorem dX1_addEdge_37 : decode cX1_addEdge 37 = .ok (.ifCond .ne 6, 3) := dk_154 0 6 (dk_at dksX1_addEdge_1 14 rfl rfl)
theorem dX1_addEdge_40 : decode cX1_addEdge 40 = .ok (.ldc 72, 2) := dk_18 72 (dk_at dksX1_addEdge_1 17 rfl rfl)
theorem dX1_addEdge_42 : decode cX1_addEdge 42 = .ok (.ireturn, 1) := dk_172 (dk_at dksX1_addEdge_1 19 rfl rfl)
theorem dX1_addEdge_43 : decode cX1_addEdge 43 = .ok (.aload_n 0, 1) := dk_42 (dk_at dksX1_addEdge_1 20 rfl rfl)
theorem dX1_addEdge_44 : decode cX1_addEdge 44 = .ok (.getfield 7, 3) := dk_180 0 7 (dk_at dksX1_addEdge_1 21 rfl rfl)
theorem dX1_addEdge_47 : decode cX1_addEdge 47 = .ok (.bipush 112, 2) := dk_16 112 (dk_at dksX1_addEdge_2 0 rfl rfl)
theorem dX1_addEdge_49 : decode cX1_addEdge 49 = .ok (.iaload, 1) := dk_46 (dk_at dksX1_addEdge_2 2 rfl rfl)
theorem dX1_addEdge_50 : decode cX1_addEdge 50 = .ok (.bipush 16, 2) := dk_16 16 (dk_at dksX1_addEdge_2 3 rfl rfl)
theorem dX1_addEdge_52 : decode cX1_addEdge 52 = .ok (.if_icmp .ne 6, 3) := dk_160 0 6 (dk_at dksX1_addEdge_2 5 rfl rfl)
theorem dX1_addEdge_55 : decode cX1_addEdge 55 = .ok (.ldc 73, 2) := dk_18 73 (dk_at dksX1_addEdge_2 8 rfl rfl)
theorem dX1_addEdge_57 : decode cX1_addEdge 57 = .ok (.ireturn, 1) := dk_172 (dk_at dksX1_addEdge_2 10 rfl rfl)
theorem dX1_addEdge_58 : decode cX1_addEdge 58 = .ok (.aload_n 0, 1) := dk_42 (dk_at dksX1_addEdge_2 11 rfl rfl)
theorem dX1_addEdge_59 : decode cX1_addEdge 59 = .ok (.invokevirtual 74, 3) := dk_182 0 74 (dk_at dksX1_addEdge_2 12 rfl rfl)
theorem dX1_addEdge_62 : decode cX1_addEdge 62 = .ok (.bipush 7, 2) := dk_16 7 (dk_at dksX1_addEdge_2 15 rfl rfl)
theorem dX1_addEdge_64 : decode cX1_addEdge 64 = .ok (.aload_n 0, 1) := dk_42 (dk_at dksX1_addEdge_2 17 rfl rfl)
theorem dX1_addEdge_65 : decode cX1_addEdge 65 = .ok (.getfield 7, 3) := dk_180 0 7 (dk_at dksX1_addEdge_2 18 rfl rfl)
theorem dX1_addEdge_68 : decode cX1_addEdge 68 = .ok (.bipush 112, 2) := dk_16 112 (dk_at dksX1_addEdge_2 21 rfl rfl)
theorem dX1_addEdge_70 : decode cX1_addEdge 70 = .ok (.iaload, 1) := dk_46 (dk_at dksX1_addEdge_2 23 rfl rfl)
theorem dX1_addEdge_71 : decode cX1_addEdge 71 = .ok (.imul, 1) := dk_104 (dk_at dksX1_addEdge_3 0 rfl rfl)
theorem dX1_addEdge_72 : decode cX1_addEdge 72 = .ok (.istore 6, 2) := dk_54 6 (dk_at dksX1_addEdge_3 1 rfl rfl)
theorem dX1_addEdge_74 : decode cX1_addEdge 74 = .ok (.aload_n 0, 1) := dk_42 (dk_at dksX1_addEdge_3 3 rfl rfl)
theorem dX1_addEdge_75 : decode cX1_addEdge 75 = .ok (.getfield 7, 3) := dk_180 0 7 (dk_at dksX1_addEdge_3 4 rfl rfl)
theorem dX1_addEdge_78 : decode cX1_addEdge 78 = .ok (.iload 6, 2) := dk_21 6 (dk_at dksX1_addEdge_3 7 rfl rfl)
theorem dX1_addEdge_80 : decode cX1_addEdge 80 = .ok (.iload_n 1, 1) := dk_27 (dk_at dksX1_addEdge_3 9 rfl rfl)
theorem dX1_addEdge_81 : decode cX1_addEdge 81 = .ok (.iastore, 1) := dk_79 (dk_at dksX1_addEdge_3 10 rfl rfl)
theorem dX1_addEdge_82 : decode cX1_addEdge 82 = .ok (.aload_n 0, 1) := dk_42 (dk_at dksX1_addEdge_3 11 rfl rfl)
theorem dX1_addEdge_83 : decode cX1_addEdge 83 = .ok (.getfield 7, 3) := dk_180 0 7 (dk_at dksX1_addEdge_3 12 rfl rfl)
theorem dX1_addEdge_86 : decode cX1_addEdge 86 = .ok (.iload 6, 2) := dk_21 6 (dk_at dksX1_addEdge_3 15 rfl rfl)
theorem dX1_addEdge_88 : decode cX1_addEdge 88 = .ok (.iconst 1, 1) := dk_4 (dk_at dksX1_addEdge_3 17 rfl rfl)
theorem dX1_addEdge_89 : decode cX1_addEdge 89 = .ok (.iadd, 1) := dk_96 (dk_at dksX1_addEdge_3 18 rfl rfl)
theorem dX1_addEdge_90 : decode cX1_addEdge 90 = .ok (.iload_n 2, 1) := dk_28 (dk_at dksX1_addEdge_3 19 rfl rfl)
theorem dX1_addEdge_91 : decode cX1_addEdge 91 = .ok (.iastore, 1) := dk_79 (dk_at dksX1_addEdge_3 20 rfl rfl)
theorem dX1_addEdge_92 : decode cX1_addEdge 92 = .ok (.aload_n 0, 1) := dk_42 (dk_at dksX1_addEdge_3 21 rfl rfl)
theorem dX1_addEdge_93 : decode cX1_addEdge 93 = .ok (.getfield 7, 3) := dk_180 0 7 (dk_at dksX1_addEdge_4 0 rfl rfl)
theorem dX1_addEdge_96 : decode cX1_addEdge 96 = .ok (.iload 6, 2) := dk_21 6 (dk_at dksX1_addEdge_4 3 rfl rfl)
theorem dX1_addEdge_98 : decode cX1_addEdge 98 = .ok (.iconst 2, 1) := dk_5 (dk_at dksX1_addEdge_4 5 rfl rfl)
theorem dX1_addEdge_99 : decode cX1_addEdge 99 = .ok (.iadd, 1) := dk_96 (dk_at dksX1_addEdge_4 6 rfl rfl)
theorem dX1_addEdge_100 : decode cX1_addEdge 100 = .ok (.iload_n 3, 1) := dk_29 (dk_at dksX1_addEdge_4 7 rfl rfl)
theorem dX1_addEdge_101 : decode cX1_addEdge 101 = .ok (.iastore, 1) := dk_79 (dk_at dksX1_addEdge_4 8 rfl rfl)
theorem dX1_addEdge_102 : decode cX1_addEdge 102 = .ok (.aload_n 0, 1) := dk_42 (dk_at dksX1_addEdge_4 9 rfl rfl)
theorem dX1_addEdge_103 : decode cX1_addEdge 103 = .ok (.getfield 7, 3) := dk_180 0 7 (dk_at dksX1_addEdge_4 10 rfl rfl)
theorem dX1_addEdge_106 : decode cX1_addEdge 106 = .ok (.iload 6, 2) := dk_21 6 (dk_at dksX1_addEdge_4 13 rfl rfl)
theorem dX1_addEdge_108 : decode cX1_addEdge 108 = .ok (.iconst 3, 1) := dk_6 (dk_at dksX1_addEdge_4 15 rfl rfl)
theorem dX1_addEdge_109 : decode cX1_addEdge 109 = .ok (.iadd, 1) := dk_96 (dk_at dksX1_addEdge_4 16 rfl rfl)
theorem dX1_addEdge_110 : decode cX1_addEdge 110 = .ok (.iload 4, 2) := dk_21 4 (dk_at dksX1_addEdge_4 17 rfl rfl)
theorem dX1_addEdge_112 : decode cX1_addEdge 112 = .ok (.iastore, 1) := dk_79 (dk_at dksX1_addEdge_4 19 rfl rfl)
theorem dX1_addEdge_113 : decode cX1_addEdge 113 = .ok (.aload_n 0, 1) := dk_42 (dk_at dksX1_addEdge_4 20 rfl rfl)
theorem dX1_addEdge_114 : decode cX1_addEdge 114 = .ok (.getfield 7, 3) := dk_180 0 7 (dk_at dksX1_addEdge_4 21 rfl rfl)
theorem dX1_addEdge_117 : decode cX1_addEdge 117 = .ok (.iload 6, 2) := dk_21 6 (dk_at dksX1_addEdge_5 0 rfl rfl)
theorem dX1_addEdge_119 : decode cX1_addEdge 119 = .ok (.iconst 4, 1) := dk_7 (dk_at dksX1_addEdge_5 2 rfl rfl)
theorem dX1_addEdge_120 : decode cX1_addEdge 120 = .ok (.iadd, 1) := dk_96 (dk_at dksX1_addEdge_5 3 rfl rfl)
theorem dX1_addEdge_121 : decode cX1_addEdge 121 = .ok (.iload 5, 2) := dk_21 5 (dk_at dksX1_addEdge_5 4 rfl rfl)
theorem dX1_addEdge_123 : decode cX1_addEdge 123 = .ok (.iastore, 1) := dk_79 (dk_at dksX1_addEdge_5 6 rfl rfl)
theorem dX1_addEdge_124 : decode cX1_addEdge 124 = .ok (.aload_n 0, 1) := dk_42 (dk_at dksX1_addEdge_5 7 rfl rfl)
theorem dX1_addEdge_125 : decode cX1_addEdge 125 = .ok (.getfield 7, 3) := dk_180 0 7 (dk_at dksX1_addEdge_5 8 rfl rfl)
theorem dX1_addEdge_128 : decode cX1_addEdge 128 = .ok (.iload 6, 2) := dk_21 6 (dk_at dksX1_addEdge_5 11 rfl rfl)
theorem dX1_addEdge_130 : decode cX1_addEdge 130 = .ok (.iconst 5, 1) := dk_8 (dk_at dksX1_addEdge_5 13 rfl rfl)
theorem dX1_addEdge_131 : decode cX1_addEdge 131 = .ok (.iadd, 1) := dk_96 (dk_at dksX1_addEdge_5 14 rfl rfl)
theorem dX1_addEdge_132 : decode cX1_addEdge 132 = .ok (.iconst 1, 1) := dk_4 (dk_at dksX1_addEdge_5 15 rfl rfl)
theorem dX1_addEdge_133 : decode cX1_addEdge 133 = .ok (.iastore, 1) := dk_79 (dk_at dksX1_addEdge_5 16 rfl rfl)
theorem dX1_addEdge_134 : decode cX1_addEdge 134 = .ok (.aload_n 0, 1) := dk_42 (dk_at dksX1_addEdge_5 17 rfl rfl)
theorem dX1_addEdge_135 : decode cX1_addEdge 135 = .ok (.getfield 7, 3) := dk_180 0 7 (dk_at dksX1_addEdge_5 18 rfl rfl)
theorem dX1_addEdge_138 : decode cX1_addEdge 138 = .ok (.iload 6, 2) := dk_21 6 (dk_at dksX1_addEdge_5 21 rfl rfl)
theorem dX1_addEdge_140 : decode cX1_addEdge 140 = .ok (.bipush 6, 2) := dk_16 6 (dk_at dksX1_addEdge_6 0 rfl rfl)
theorem dX1_addEdge_142 : decode cX1_addEdge 142 = .ok (.iadd, 1) := dk_96 (dk_at dksX1_addEdge_6 2 rfl rfl)
theorem dX1_addEdge_143 : decode cX1_addEdge 143 = .ok (.iconst 1, 1) := dk_4 (dk_at dksX1_addEdge_6 3 rfl rfl)
theorem dX1_addEdge_144 : decode cX1_addEdge 144 = .ok (.iastore, 1) := dk_79 (dk_at dksX1_addEdge_6 4 rfl rfl)
theorem dX1_addEdge_145 : decode cX1_addEdge 145 = .ok (.aload_n 0, 1) := dk_42 (dk_at dksX1_addEdge_6 5 rfl rfl)
theorem dX1_addEdge_146 : decode cX1_addEdge 146 = .ok (.getfield 7, 3) := dk_180 0 7 (dk_at dksX1_addEdge_6 6 rfl rfl)
theorem dX1_addEdge_149 : decode cX1_addEdge 149 = .ok (.bipush 112, 2) := dk_16 112 (dk_at dksX1_addEdge_6 9 rfl rfl)
theorem dX1_addEdge_151 : decode cX1_addEdge 151 = .ok (.dup2, 1) := dk_92 (dk_at dksX1_addEdge_6 11 rfl rfl)
theorem dX1_addEdge_152 : decode cX1_addEdge 152 = .ok (.iaload, 1) := dk_46 (dk_at dksX1_addEdge_6 12 rfl rfl)
theorem dX1_addEdge_153 : decode cX1_addEdge 153 = .ok (.iconst 1, 1) := dk_4 (dk_at dksX1_addEdge_6 13 rfl rfl)
theorem dX1_addEdge_154 : decode cX1_addEdge 154 = .ok (.iadd, 1) := dk_96 (dk_at dksX1_addEdge_6 14 rfl rfl)
theorem dX1_addEdge_155 : decode cX1_addEdge 155 = .ok (.iastore, 1) := dk_79 (dk_at dksX1_addEdge_6 15 rfl rfl)
theorem dX1_addEdge_156 : decode cX1_addEdge 156 = .ok (.aload_n 0, 1) := dk_42 (dk_at dksX1_addEdge_6 16 rfl rfl)
theorem dX1_addEdge_157 : decode cX1_addEdge 157 = .ok (.getfield 7, 3) := dk_180 0 7 (dk_at dksX1_addEdge_6 17 rfl rfl)
theorem dX1_addEdge_160 : decode cX1_addEdge 160 = .ok (.bipush 112, 2) := dk_16 112 (dk_at dksX1_addEdge_6 20 rfl rfl)
theorem dX1_addEdge_162 : decode cX1_addEdge 162 = .ok (.iaload, 1) := dk_46 (dk_at dksX1_addEdge_6 22 rfl rfl)
theorem dX1_addEdge_163 : decode cX1_addEdge 163 = .ok (.iconst 1, 1) := dk_4 (dk_at dksX1_addEdge_6 23 rfl rfl)
theorem dX1_addEdge_164 : decode cX1_addEdge 164 = .ok (.isub, 1) := dk_100 (dk_at dksX1_addEdge_7 0 rfl rfl)
theorem dX1_addEdge_165 : decode cX1_addEdge 165 = .ok (.ireturn, 1) := dk_172 (dk_at dksX1_addEdge_7 1 rfl rfl)
abbrev cX1_isNode : ByteArray := prog_20_method_3_code
def yX1_isNode : MethodName := ⟨RX1, "isNode", "(I)Z"⟩
def dkwX1_isNode_0 : List UInt8 := [26, 133, 9, 20, 0, 46, 184, 0, 48, 172]
abbrev dktX1_isNode_0 : List UInt8 := dkwX1_isNode_0 ++ []
theorem dksX1_isNode_0 : cX1_isNode.data.toList.drop 0 = dktX1_isNode_0 := by decide +kernel
theorem dX1_isNode_0 : decode cX1_isNode 0 = .ok (.iload_n 0, 1) := dk_26 (dk_at dksX1_isNode_0 0 rfl rfl)
theorem dX1_isNode_1 : decode cX1_isNode 1 = .ok (.i2l, 1) := dk_133 (dk_at dksX1_isNode_0 1 rfl rfl)
theorem dX1_isNode_2 : decode cX1_isNode 2 = .ok (.lconst 0, 1) := dk_9 (dk_at dksX1_isNode_0 2 rfl rfl)
theorem dX1_isNode_3 : decode cX1_isNode 3 = .ok (.ldc2_w 46, 3) := dk_20 0 46 (dk_at dksX1_isNode_0 3 rfl rfl)
theorem dX1_isNode_6 : decode cX1_isNode 6 = .ok (.invokestatic 48, 3) := dk_184 0 48 (dk_at dksX1_isNode_0 6 rfl rfl)
theorem dX1_isNode_9 : decode cX1_isNode 9 = .ok (.ireturn, 1) := dk_172 (dk_at dksX1_isNode_0 9 rfl rfl)
abbrev cX1_in : ByteArray := prog_20_method_2_code
def yX1_in : MethodName := ⟨RX1, "in", "(JJJ)Z"⟩
def dkwX1_in_0 : List UInt8 := [30, 32, 148, 155, 0, 14, 30, 22, 4, 148, 157, 0, 7, 4, 167, 0, 4, 3, 172]
abbrev dktX1_in_0 : List UInt8 := dkwX1_in_0 ++ []
theorem dksX1_in_0 : cX1_in.data.toList.drop 0 = dktX1_in_0 := by decide +kernel
theorem dX1_in_0 : decode cX1_in 0 = .ok (.lload_n 0, 1) := dk_30 (dk_at dksX1_in_0 0 rfl rfl)
theorem dX1_in_1 : decode cX1_in 1 = .ok (.lload_n 2, 1) := dk_32 (dk_at dksX1_in_0 1 rfl rfl)
theorem dX1_in_2 : decode cX1_in 2 = .ok (.lcmp, 1) := dk_148 (dk_at dksX1_in_0 2 rfl rfl)
theorem dX1_in_3 : decode cX1_in 3 = .ok (.ifCond .lt 14, 3) := dk_155 0 14 (dk_at dksX1_in_0 3 rfl rfl)
theorem dX1_in_6 : decode cX1_in 6 = .ok (.lload_n 0, 1) := dk_30 (dk_at dksX1_in_0 6 rfl rfl)
theorem dX1_in_7 : decode cX1_in 7 = .ok (.lload 4, 2) := dk_22 4 (dk_at dksX1_in_0 7 rfl rfl)
theorem dX1_in_9 : decode cX1_in 9 = .ok (.lcmp, 1) := dk_148 (dk_at dksX1_in_0 9 rfl rfl)
theorem dX1_in_10 : decode cX1_in 10 = .ok (.ifCond .gt 7, 3) := dk_157 0 7 (dk_at dksX1_in_0 10 rfl rfl)
theorem dX1_in_13 : decode cX1_in 13 = .ok (.iconst 1, 1) := dk_4 (dk_at dksX1_in_0 13 rfl rfl)
theorem dX1_in_14 : decode cX1_in 14 = .ok (.goto 4, 3) := dk_167 0 4 (dk_at dksX1_in_0 14 rfl rfl)
theorem dX1_in_17 : decode cX1_in 17 = .ok (.iconst 0, 1) := dk_3 (dk_at dksX1_in_0 17 rfl rfl)
theorem dX1_in_18 : decode cX1_in 18 = .ok (.ireturn, 1) := dk_172 (dk_at dksX1_in_0 18 rfl rfl)
abbrev cX1_isValue : ByteArray := prog_20_method_6_code
def yX1_isValue : MethodName := ⟨RX1, "isValue", "(II)Z"⟩
def dkwX1_isValue_2 : List UInt8 := [20, 0, 58, 184, 0, 48, 153, 0, 7, 4, 167, 0, 4, 3, 172]
abbrev dktX1_isValue_2 : List UInt8 := dkwX1_isValue_2 ++ []
def dkwX1_isValue_1 : List UInt8 := [27, 133, 20, 0, 56, 20, 0, 58, 184, 0, 48, 167, 0, 25, 26, 7, 160, 0, 19, 27, 133, 10]
abbrev dktX1_isValue_1 : List UInt8 := dkwX1_isValue_1 ++ dktX1_isValue_2
def dkwX1_isValue_0 : List UInt8 := [26, 5, 160, 0, 17, 27, 133, 20, 0, 52, 20, 0, 54, 184, 0, 48, 167, 0, 44, 26, 6, 160, 0, 17]
abbrev dktX1_isValue_0 : List UInt8 := dkwX1_isValue_0 ++ dktX1_isValue_1
theorem dksX1_isValue_0 : cX1_isValue.data.toList.drop 0 = dktX1_isValue_0 := by decide +kernel
theorem dksX1_isValue_1 : cX1_isValue.data.toList.drop 24 = dktX1_isValue_1 := dk_seg dksX1_isValue_0 24 rfl rfl
theorem dksX1_isValue_2 : cX1_isValue.data.toList.drop 46 = dktX1_isValue_2 := dk_seg dksX1_isValue_1 22 rfl rfl
theorem dX1_isValue_0 : decode cX1_isValue 0 = .ok (.iload_n 0, 1) := dk_26 (dk_at dksX1_isValue_0 0 rfl rfl)
theorem dX1_isValue_1 : decode cX1_isValue 1 = .ok (.iconst 2, 1) := dk_5 (dk_at dksX1_isValue_0 1 rfl rfl)
theorem dX1_isValue_2 : decode cX1_isValue 2 = .ok (.if_icmp .ne 17, 3) := dk_160 0 17 (dk_at dksX1_isValue_0 2 rfl rfl)
theorem dX1_isValue_5 : decode cX1_isValue 5 = .ok (.iload_n 1, 1) := dk_27 (dk_at dksX1_isValue_0 5 rfl rfl)
theorem dX1_isValue_6 : decode cX1_isValue 6 = .ok (.i2l, 1) := dk_133 (dk_at dksX1_isValue_0 6 rfl rfl)
theorem dX1_isValue_7 : decode cX1_isValue 7 = .ok (.ldc2_w 52, 3) := dk_20 0 52 (dk_at dksX1_isValue_0 7 rfl rfl)
theorem dX1_isValue_10 : decode cX1_isValue 10 = .ok (.ldc2_w 54, 3) := dk_20 0 54 (dk_at dksX1_isValue_0 10 rfl rfl)
theorem dX1_isValue_13 : decode cX1_isValue 13 = .ok (.invokestatic 48, 3) := dk_184 0 48 (dk_at dksX1_isValue_0 13 rfl rfl)
theorem dX1_isValue_16 : decode cX1_isValue 16 = .ok (.goto 44, 3) := dk_167 0 44 (dk_at dksX1_isValue_0 16 rfl rfl)
theorem dX1_isValue_19 : decode cX1_isValue 19 = .ok (.iload_n 0, 1) := dk_26 (dk_at dksX1_isValue_0 19 rfl rfl)
theorem dX1_isValue_20 : decode cX1_isValue 20 = .ok (.iconst 3, 1) := dk_6 (dk_at dksX1_isValue_0 20 rfl rfl)
theorem dX1_isValue_21 : decode cX1_isValue 21 = .ok (.if_icmp .ne 17, 3) := dk_160 0 17 (dk_at dksX1_isValue_0 21 rfl rfl)
theorem dX1_isValue_24 : decode cX1_isValue 24 = .ok (.iload_n 1, 1) := dk_27 (dk_at dksX1_isValue_1 0 rfl rfl)
theorem dX1_isValue_25 : decode cX1_isValue 25 = .ok (.i2l, 1) := dk_133 (dk_at dksX1_isValue_1 1 rfl rfl)
theorem dX1_isValue_26 : decode cX1_isValue 26 = .ok (.ldc2_w 56, 3) := dk_20 0 56 (dk_at dksX1_isValue_1 2 rfl rfl)
theorem dX1_isValue_29 : decode cX1_isValue 29 = .ok (.ldc2_w 58, 3) := dk_20 0 58 (dk_at dksX1_isValue_1 5 rfl rfl)
theorem dX1_isValue_32 : decode cX1_isValue 32 = .ok (.invokestatic 48, 3) := dk_184 0 48 (dk_at dksX1_isValue_1 8 rfl rfl)
theorem dX1_isValue_35 : decode cX1_isValue 35 = .ok (.goto 25, 3) := dk_167 0 25 (dk_at dksX1_isValue_1 11 rfl rfl)
theorem dX1_isValue_38 : decode cX1_isValue 38 = .ok (.iload_n 0, 1) := dk_26 (dk_at dksX1_isValue_1 14 rfl rfl)
theorem dX1_isValue_39 : decode cX1_isValue 39 = .ok (.iconst 4, 1) := dk_7 (dk_at dksX1_isValue_1 15 rfl rfl)
theorem dX1_isValue_40 : decode cX1_isValue 40 = .ok (.if_icmp .ne 19, 3) := dk_160 0 19 (dk_at dksX1_isValue_1 16 rfl rfl)
theorem dX1_isValue_43 : decode cX1_isValue 43 = .ok (.iload_n 1, 1) := dk_27 (dk_at dksX1_isValue_1 19 rfl rfl)
theorem dX1_isValue_44 : decode cX1_isValue 44 = .ok (.i2l, 1) := dk_133 (dk_at dksX1_isValue_1 20 rfl rfl)
theorem dX1_isValue_45 : decode cX1_isValue 45 = .ok (.lconst 1, 1) := dk_10 (dk_at dksX1_isValue_1 21 rfl rfl)
theorem dX1_isValue_46 : decode cX1_isValue 46 = .ok (.ldc2_w 58, 3) := dk_20 0 58 (dk_at dksX1_isValue_2 0 rfl rfl)
theorem dX1_isValue_49 : decode cX1_isValue 49 = .ok (.invokestatic 48, 3) := dk_184 0 48 (dk_at dksX1_isValue_2 3 rfl rfl)
theorem dX1_isValue_52 : decode cX1_isValue 52 = .ok (.ifCond .eq 7, 3) := dk_153 0 7 (dk_at dksX1_isValue_2 6 rfl rfl)
theorem dX1_isValue_55 : decode cX1_isValue 55 = .ok (.iconst 1, 1) := dk_4 (dk_at dksX1_isValue_2 9 rfl rfl)
theorem dX1_isValue_56 : decode cX1_isValue 56 = .ok (.goto 4, 3) := dk_167 0 4 (dk_at dksX1_isValue_2 10 rfl rfl)
theorem dX1_isValue_59 : decode cX1_isValue 59 = .ok (.iconst 0, 1) := dk_3 (dk_at dksX1_isValue_2 13 rfl rfl)
theorem dX1_isValue_60 : decode cX1_isValue 60 = .ok (.ireturn, 1) := dk_172 (dk_at dksX1_isValue_2 14 rfl rfl)
abbrev cX1_keeps : ByteArray := prog_20_method_7_code
def yX1_keeps : MethodName := ⟨RX1, "keeps", "()V"⟩
def dkwX1_keeps_3 : List UInt8 := [42, 180, 0, 7, 27, 46, 79, 132, 1, 1, 167, 255, 227, 42, 89, 180, 0, 60, 4, 96, 181, 0, 60, 177]
abbrev dktX1_keeps_3 : List UInt8 := dkwX1_keeps_3 ++ []
def dkwX1_keeps_2 : List UInt8 := [181, 0, 60, 3, 60, 27, 16, 113, 162, 0, 29, 42, 180, 0, 13, 16, 113, 42, 180, 0, 60, 104, 27, 96]
abbrev dktX1_keeps_2 : List UInt8 := dkwX1_keeps_2 ++ dktX1_keeps_3
def dkwX1_keeps_1 : List UInt8 := [180, 0, 13, 27, 16, 113, 96, 46, 79, 132, 1, 1, 167, 255, 231, 42, 89, 180, 0, 60, 4, 100]
abbrev dktX1_keeps_1 : List UInt8 := dkwX1_keeps_1 ++ dktX1_keeps_2
def dkwX1_keeps_0 : List UInt8 := [42, 180, 0, 60, 16, 12, 160, 0, 43, 3, 60, 27, 17, 4, 219, 162, 0, 24, 42, 180, 0, 13, 27, 42]
abbrev dktX1_keeps_0 : List UInt8 := dkwX1_keeps_0 ++ dktX1_keeps_1
theorem dksX1_keeps_0 : cX1_keeps.data.toList.drop 0 = dktX1_keeps_0 := by decide +kernel
theorem dksX1_keeps_1 : cX1_keeps.data.toList.drop 24 = dktX1_keeps_1 := dk_seg dksX1_keeps_0 24 rfl rfl
theorem dksX1_keeps_2 : cX1_keeps.data.toList.drop 46 = dktX1_keeps_2 := dk_seg dksX1_keeps_1 22 rfl rfl
theorem dksX1_keeps_3 : cX1_keeps.data.toList.drop 70 = dktX1_keeps_3 := dk_seg dksX1_keeps_2 24 rfl rfl
theorem dX1_keeps_0 : decode cX1_keeps 0 = .ok (.aload_n 0, 1) := dk_42 (dk_at dksX1_keeps_0 0 rfl rfl)
theorem dX1_keeps_1 : decode cX1_keeps 1 = .ok (.getfield 60, 3) := dk_180 0 60 (dk_at dksX1_keeps_0 1 rfl rfl)
theorem dX1_keeps_4 : decode cX1_keeps 4 = .ok (.bipush 12, 2) := dk_16 12 (dk_at dksX1_keeps_0 4 rfl rfl)
theorem dX1_keeps_6 : decode cX1_keeps 6 = .ok (.if_icmp .ne 43, 3) := dk_160 0 43 (dk_at dksX1_keeps_0 6 rfl rfl)
theorem dX1_keeps_9 : decode cX1_keeps 9 = .ok (.iconst 0, 1) := dk_3 (dk_at dksX1_keeps_0 9 rfl rfl)
theorem dX1_keeps_10 : decode cX1_keeps 10 = .ok (.istore_n 1, 1) := dk_60 (dk_at dksX1_keeps_0 10 rfl rfl)
theorem dX1_keeps_11 : decode cX1_keeps 11 = .ok (.iload_n 1, 1) := dk_27 (dk_at dksX1_keeps_0 11 rfl rfl)
theorem dX1_keeps_12 : decode cX1_keeps 12 = .ok (.sipush 1243, 3) := dk_17 4 219 (dk_at dksX1_keeps_0 12 rfl rfl)
theorem dX1_keeps_15 : decode cX1_keeps 15 = .ok (.if_icmp .ge 24, 3) := dk_162 0 24 (dk_at dksX1_keeps_0 15 rfl rfl)
theorem dX1_keeps_18 : decode cX1_keeps 18 = .ok (.aload_n 0, 1) := dk_42 (dk_at dksX1_keeps_0 18 rfl rfl)
theorem dX1_keeps_19 : decode cX1_keeps 19 = .ok (.getfield 13, 3) := dk_180 0 13 (dk_at dksX1_keeps_0 19 rfl rfl)
theorem dX1_keeps_22 : decode cX1_keeps 22 = .ok (.iload_n 1, 1) := dk_27 (dk_at dksX1_keeps_0 22 rfl rfl)
theorem dX1_keeps_23 : decode cX1_keeps 23 = .ok (.aload_n 0, 1) := dk_42 (dk_at dksX1_keeps_0 23 rfl rfl)
theorem dX1_keeps_24 : decode cX1_keeps 24 = .ok (.getfield 13, 3) := dk_180 0 13 (dk_at dksX1_keeps_1 0 rfl rfl)
theorem dX1_keeps_27 : decode cX1_keeps 27 = .ok (.iload_n 1, 1) := dk_27 (dk_at dksX1_keeps_1 3 rfl rfl)
theorem dX1_keeps_28 : decode cX1_keeps 28 = .ok (.bipush 113, 2) := dk_16 113 (dk_at dksX1_keeps_1 4 rfl rfl)
theorem dX1_keeps_30 : decode cX1_keeps 30 = .ok (.iadd, 1) := dk_96 (dk_at dksX1_keeps_1 6 rfl rfl)
theorem dX1_keeps_31 : decode cX1_keeps 31 = .ok (.iaload, 1) := dk_46 (dk_at dksX1_keeps_1 7 rfl rfl)
theorem dX1_keeps_32 : decode cX1_keeps 32 = .ok (.iastore, 1) := dk_79 (dk_at dksX1_keeps_1 8 rfl rfl)
theorem dX1_keeps_33 : decode cX1_keeps 33 = .ok (.iinc 1 1, 3) := dk_132 1 1 (dk_at dksX1_keeps_1 9 rfl rfl)
theorem dX1_keeps_36 : decode cX1_keeps 36 = .ok (.goto (-25), 3) := dk_167 255 231 (dk_at dksX1_keeps_1 12 rfl rfl)
theorem dX1_keeps_39 : decode cX1_keeps 39 = .ok (.aload_n 0, 1) := dk_42 (dk_at dksX1_keeps_1 15 rfl rfl)
theorem dX1_keeps_40 : decode cX1_keeps 40 = .ok (.dup, 1) := dk_89 (dk_at dksX1_keeps_1 16 rfl rfl)
theorem dX1_keeps_41 : decode cX1_keeps 41 = .ok (.getfield 60, 3) := dk_180 0 60 (dk_at dksX1_keeps_1 17 rfl rfl)
theorem dX1_keeps_44 : decode cX1_keeps 44 = .ok (.iconst 1, 1) := dk_4 (dk_at dksX1_keeps_1 20 rfl rfl)
theorem dX1_keeps_45 : decode cX1_keeps 45 = .ok (.isub, 1) := dk_100 (dk_at dksX1_keeps_1 21 rfl rfl)
theorem dX1_keeps_46 : decode cX1_keeps 46 = .ok (.putfield 60, 3) := dk_181 0 60 (dk_at dksX1_keeps_2 0 rfl rfl)
theorem dX1_keeps_49 : decode cX1_keeps 49 = .ok (.iconst 0, 1) := dk_3 (dk_at dksX1_keeps_2 3 rfl rfl)
theorem dX1_keeps_50 : decode cX1_keeps 50 = .ok (.istore_n 1, 1) := dk_60 (dk_at dksX1_keeps_2 4 rfl rfl)
theorem dX1_keeps_51 : decode cX1_keeps 51 = .ok (.iload_n 1, 1) := dk_27 (dk_at dksX1_keeps_2 5 rfl rfl)
theorem dX1_keeps_52 : decode cX1_keeps 52 = .ok (.bipush 113, 2) := dk_16 113 (dk_at dksX1_keeps_2 6 rfl rfl)
theorem dX1_keeps_54 : decode cX1_keeps 54 = .ok (.if_icmp .ge 29, 3) := dk_162 0 29 (dk_at dksX1_keeps_2 8 rfl rfl)
theorem dX1_keeps_57 : decode cX1_keeps 57 = .ok (.aload_n 0, 1) := dk_42 (dk_at dksX1_keeps_2 11 rfl rfl)
theorem dX1_keeps_58 : decode cX1_keeps 58 = .ok (.getfield 13, 3) := dk_180 0 13 (dk_at dksX1_keeps_2 12 rfl rfl)
theorem dX1_keeps_61 : decode cX1_keeps 61 = .ok (.bipush 113, 2) := dk_16 113 (dk_at dksX1_keeps_2 15 rfl rfl)
theorem dX1_keeps_63 : decode cX1_keeps 63 = .ok (.aload_n 0, 1) := dk_42 (dk_at dksX1_keeps_2 17 rfl rfl)
theorem dX1_keeps_64 : decode cX1_keeps 64 = .ok (.getfield 60, 3) := dk_180 0 60 (dk_at dksX1_keeps_2 18 rfl rfl)
theorem dX1_keeps_67 : decode cX1_keeps 67 = .ok (.imul, 1) := dk_104 (dk_at dksX1_keeps_2 21 rfl rfl)
theorem dX1_keeps_68 : decode cX1_keeps 68 = .ok (.iload_n 1, 1) := dk_27 (dk_at dksX1_keeps_2 22 rfl rfl)
theorem dX1_keeps_69 : decode cX1_keeps 69 = .ok (.iadd, 1) := dk_96 (dk_at dksX1_keeps_2 23 rfl rfl)
theorem dX1_keeps_70 : decode cX1_keeps 70 = .ok (.aload_n 0, 1) := dk_42 (dk_at dksX1_keeps_3 0 rfl rfl)
theorem dX1_keeps_71 : decode cX1_keeps 71 = .ok (.getfield 7, 3) := dk_180 0 7 (dk_at dksX1_keeps_3 1 rfl rfl)
theorem dX1_keeps_74 : decode cX1_keeps 74 = .ok (.iload_n 1, 1) := dk_27 (dk_at dksX1_keeps_3 4 rfl rfl)
theorem dX1_keeps_75 : decode cX1_keeps 75 = .ok (.iaload, 1) := dk_46 (dk_at dksX1_keeps_3 5 rfl rfl)
theorem dX1_keeps_76 : decode cX1_keeps 76 = .ok (.iastore, 1) := dk_79 (dk_at dksX1_keeps_3 6 rfl rfl)
theorem dX1_keeps_77 : decode cX1_keeps 77 = .ok (.iinc 1 1, 3) := dk_132 1 1 (dk_at dksX1_keeps_3 7 rfl rfl)
theorem dX1_keeps_80 : decode cX1_keeps 80 = .ok (.goto (-29), 3) := dk_167 255 227 (dk_at dksX1_keeps_3 10 rfl rfl)
theorem dX1_keeps_83 : decode cX1_keeps 83 = .ok (.aload_n 0, 1) := dk_42 (dk_at dksX1_keeps_3 13 rfl rfl)
theorem dX1_keeps_84 : decode cX1_keeps 84 = .ok (.dup, 1) := dk_89 (dk_at dksX1_keeps_3 14 rfl rfl)
theorem dX1_keeps_85 : decode cX1_keeps 85 = .ok (.getfield 60, 3) := dk_180 0 60 (dk_at dksX1_keeps_3 15 rfl rfl)
theorem dX1_keeps_88 : decode cX1_keeps 88 = .ok (.iconst 1, 1) := dk_4 (dk_at dksX1_keeps_3 18 rfl rfl)
theorem dX1_keeps_89 : decode cX1_keeps 89 = .ok (.iadd, 1) := dk_96 (dk_at dksX1_keeps_3 19 rfl rfl)
theorem dX1_keeps_90 : decode cX1_keeps 90 = .ok (.putfield 60, 3) := dk_181 0 60 (dk_at dksX1_keeps_3 20 rfl rfl)
theorem dX1_keeps_93 : decode cX1_keeps 93 = .ok (.return_, 1) := dk_177 (dk_at dksX1_keeps_3 23 rfl rfl)
abbrev cX1_removeEdge : ByteArray := prog_20_method_10_code
def yX1_removeEdge : MethodName := ⟨RX1, "removeEdge", "(I)I"⟩
def dkwX1_removeEdge_3 : List UInt8 := [16, 112, 46, 172]
abbrev dktX1_removeEdge_3 : List UInt8 := dkwX1_removeEdge_3 ++ []
def dkwX1_removeEdge_2 : List UInt8 := [180, 0, 7, 28, 42, 180, 0, 7, 28, 16, 7, 96, 46, 79, 132, 2, 1, 167, 255, 224, 42, 180, 0, 7]
abbrev dktX1_removeEdge_2 : List UInt8 := dkwX1_removeEdge_2 ++ dktX1_removeEdge_3
def dkwX1_removeEdge_1 : List UInt8 := [100, 79, 16, 7, 27, 104, 61, 28, 16, 7, 42, 180, 0, 7, 16, 112, 46, 104, 162, 0, 24, 42]
abbrev dktX1_removeEdge_1 : List UInt8 := dkwX1_removeEdge_1 ++ dktX1_removeEdge_2
def dkwX1_removeEdge_0 : List UInt8 := [42, 27, 182, 0, 77, 154, 0, 6, 18, 72, 172, 42, 182, 0, 74, 42, 180, 0, 7, 16, 112, 92, 46, 4]
abbrev dktX1_removeEdge_0 : List UInt8 := dkwX1_removeEdge_0 ++ dktX1_removeEdge_1
theorem dksX1_removeEdge_0 : cX1_removeEdge.data.toList.drop 0 = dktX1_removeEdge_0 := by decide +kernel
theorem dksX1_removeEdge_1 : cX1_removeEdge.data.toList.drop 24 = dktX1_removeEdge_1 := dk_seg dksX1_removeEdge_0 24 rfl rfl
theorem dksX1_removeEdge_2 : cX1_removeEdge.data.toList.drop 46 = dktX1_removeEdge_2 := dk_seg dksX1_removeEdge_1 22 rfl rfl
theorem dksX1_removeEdge_3 : cX1_removeEdge.data.toList.drop 70 = dktX1_removeEdge_3 := dk_seg dksX1_removeEdge_2 24 rfl rfl
theorem dX1_removeEdge_0 : decode cX1_removeEdge 0 = .ok (.aload_n 0, 1) := dk_42 (dk_at dksX1_removeEdge_0 0 rfl rfl)
theorem dX1_removeEdge_1 : decode cX1_removeEdge 1 = .ok (.iload_n 1, 1) := dk_27 (dk_at dksX1_removeEdge_0 1 rfl rfl)
theorem dX1_removeEdge_2 : decode cX1_removeEdge 2 = .ok (.invokevirtual 77, 3) := dk_182 0 77 (dk_at dksX1_removeEdge_0 2 rfl rfl)
theorem dX1_removeEdge_5 : decode cX1_removeEdge 5 = .ok (.ifCond .ne 6, 3) := dk_154 0 6 (dk_at dksX1_removeEdge_0 5 rfl rfl)
theorem dX1_removeEdge_8 : decode cX1_removeEdge 8 = .ok (.ldc 72, 2) := dk_18 72 (dk_at dksX1_removeEdge_0 8 rfl rfl)
theorem dX1_removeEdge_10 : decode cX1_removeEdge 10 = .ok (.ireturn, 1) := dk_172 (dk_at dksX1_removeEdge_0 10 rfl rfl)
theorem dX1_removeEdge_11 : decode cX1_removeEdge 11 = .ok (.aload_n 0, 1) := dk_42 (dk_at dksX1_removeEdge_0 11 rfl rfl)
theorem dX1_removeEdge_12 : decode cX1_removeEdge 12 = .ok (.invokevirtual 74, 3) := dk_182 0 74 (dk_at dksX1_removeEdge_0 12 rfl rfl)
theorem dX1_removeEdge_15 : decode cX1_removeEdge 15 = .ok (.aload_n 0, 1) := dk_42 (dk_at dksX1_removeEdge_0 15 rfl rfl)
theorem dX1_removeEdge_16 : decode cX1_removeEdge 16 = .ok (.getfield 7, 3) := dk_180 0 7 (dk_at dksX1_removeEdge_0 16 rfl rfl)
theorem dX1_removeEdge_19 : decode cX1_removeEdge 19 = .ok (.bipush 112, 2) := dk_16 112 (dk_at dksX1_removeEdge_0 19 rfl rfl)
theorem dX1_removeEdge_21 : decode cX1_removeEdge 21 = .ok (.dup2, 1) := dk_92 (dk_at dksX1_removeEdge_0 21 rfl rfl)
theorem dX1_removeEdge_22 : decode cX1_removeEdge 22 = .ok (.iaload, 1) := dk_46 (dk_at dksX1_removeEdge_0 22 rfl rfl)
theorem dX1_removeEdge_23 : decode cX1_removeEdge 23 = .ok (.iconst 1, 1) := dk_4 (dk_at dksX1_removeEdge_0 23 rfl rfl)
theorem dX1_removeEdge_24 : decode cX1_removeEdge 24 = .ok (.isub, 1) := dk_100 (dk_at dksX1_removeEdge_1 0 rfl rfl)
theorem dX1_removeEdge_25 : decode cX1_removeEdge 25 = .ok (.iastore, 1) := dk_79 (dk_at dksX1_removeEdge_1 1 rfl rfl)
theorem dX1_removeEdge_26 : decode cX1_removeEdge 26 = .ok (.bipush 7, 2) := dk_16 7 (dk_at dksX1_removeEdge_1 2 rfl rfl)
theorem dX1_removeEdge_28 : decode cX1_removeEdge 28 = .ok (.iload_n 1, 1) := dk_27 (dk_at dksX1_removeEdge_1 4 rfl rfl)
theorem dX1_removeEdge_29 : decode cX1_removeEdge 29 = .ok (.imul, 1) := dk_104 (dk_at dksX1_removeEdge_1 5 rfl rfl)
theorem dX1_removeEdge_30 : decode cX1_removeEdge 30 = .ok (.istore_n 2, 1) := dk_61 (dk_at dksX1_removeEdge_1 6 rfl rfl)
theorem dX1_removeEdge_31 : decode cX1_removeEdge 31 = .ok (.iload_n 2, 1) := dk_28 (dk_at dksX1_removeEdge_1 7 rfl rfl)
theorem dX1_removeEdge_32 : decode cX1_removeEdge 32 = .ok (.bipush 7, 2) := dk_16 7 (dk_at dksX1_removeEdge_1 8 rfl rfl)
theorem dX1_removeEdge_34 : decode cX1_removeEdge 34 = .ok (.aload_n 0, 1) := dk_42 (dk_at dksX1_removeEdge_1 10 rfl rfl)
theorem dX1_removeEdge_35 : decode cX1_removeEdge 35 = .ok (.getfield 7, 3) := dk_180 0 7 (dk_at dksX1_removeEdge_1 11 rfl rfl)
theorem dX1_removeEdge_38 : decode cX1_removeEdge 38 = .ok (.bipush 112, 2) := dk_16 112 (dk_at dksX1_removeEdge_1 14 rfl rfl)
theorem dX1_removeEdge_40 : decode cX1_removeEdge 40 = .ok (.iaload, 1) := dk_46 (dk_at dksX1_removeEdge_1 16 rfl rfl)
theorem dX1_removeEdge_41 : decode cX1_removeEdge 41 = .ok (.imul, 1) := dk_104 (dk_at dksX1_removeEdge_1 17 rfl rfl)
theorem dX1_removeEdge_42 : decode cX1_removeEdge 42 = .ok (.if_icmp .ge 24, 3) := dk_162 0 24 (dk_at dksX1_removeEdge_1 18 rfl rfl)
theorem dX1_removeEdge_45 : decode cX1_removeEdge 45 = .ok (.aload_n 0, 1) := dk_42 (dk_at dksX1_removeEdge_1 21 rfl rfl)
theorem dX1_removeEdge_46 : decode cX1_removeEdge 46 = .ok (.getfield 7, 3) := dk_180 0 7 (dk_at dksX1_removeEdge_2 0 rfl rfl)
theorem dX1_removeEdge_49 : decode cX1_removeEdge 49 = .ok (.iload_n 2, 1) := dk_28 (dk_at dksX1_removeEdge_2 3 rfl rfl)
theorem dX1_removeEdge_50 : decode cX1_removeEdge 50 = .ok (.aload_n 0, 1) := dk_42 (dk_at dksX1_removeEdge_2 4 rfl rfl)
theorem dX1_removeEdge_51 : decode cX1_removeEdge 51 = .ok (.getfield 7, 3) := dk_180 0 7 (dk_at dksX1_removeEdge_2 5 rfl rfl)
theorem dX1_removeEdge_54 : decode cX1_removeEdge 54 = .ok (.iload_n 2, 1) := dk_28 (dk_at dksX1_removeEdge_2 8 rfl rfl)
theorem dX1_removeEdge_55 : decode cX1_removeEdge 55 = .ok (.bipush 7, 2) := dk_16 7 (dk_at dksX1_removeEdge_2 9 rfl rfl)
theorem dX1_removeEdge_57 : decode cX1_removeEdge 57 = .ok (.iadd, 1) := dk_96 (dk_at dksX1_removeEdge_2 11 rfl rfl)
theorem dX1_removeEdge_58 : decode cX1_removeEdge 58 = .ok (.iaload, 1) := dk_46 (dk_at dksX1_removeEdge_2 12 rfl rfl)
theorem dX1_removeEdge_59 : decode cX1_removeEdge 59 = .ok (.iastore, 1) := dk_79 (dk_at dksX1_removeEdge_2 13 rfl rfl)
theorem dX1_removeEdge_60 : decode cX1_removeEdge 60 = .ok (.iinc 2 1, 3) := dk_132 2 1 (dk_at dksX1_removeEdge_2 14 rfl rfl)
theorem dX1_removeEdge_63 : decode cX1_removeEdge 63 = .ok (.goto (-32), 3) := dk_167 255 224 (dk_at dksX1_removeEdge_2 17 rfl rfl)
theorem dX1_removeEdge_66 : decode cX1_removeEdge 66 = .ok (.aload_n 0, 1) := dk_42 (dk_at dksX1_removeEdge_2 20 rfl rfl)
theorem dX1_removeEdge_67 : decode cX1_removeEdge 67 = .ok (.getfield 7, 3) := dk_180 0 7 (dk_at dksX1_removeEdge_2 21 rfl rfl)
theorem dX1_removeEdge_70 : decode cX1_removeEdge 70 = .ok (.bipush 112, 2) := dk_16 112 (dk_at dksX1_removeEdge_3 0 rfl rfl)
theorem dX1_removeEdge_72 : decode cX1_removeEdge 72 = .ok (.iaload, 1) := dk_46 (dk_at dksX1_removeEdge_3 2 rfl rfl)
theorem dX1_removeEdge_73 : decode cX1_removeEdge 73 = .ok (.ireturn, 1) := dk_172 (dk_at dksX1_removeEdge_3 3 rfl rfl)
abbrev cX1_isEdge : ByteArray := prog_20_method_5_code
def yX1_isEdge : MethodName := ⟨RX1, "isEdge", "(I)Z"⟩
def dkwX1_isEdge_0 : List UInt8 := [27, 133, 9, 42, 180, 0, 7, 16, 112, 46, 4, 100, 133, 184, 0, 48, 172]
abbrev dktX1_isEdge_0 : List UInt8 := dkwX1_isEdge_0 ++ []
theorem dksX1_isEdge_0 : cX1_isEdge.data.toList.drop 0 = dktX1_isEdge_0 := by decide +kernel
theorem dX1_isEdge_0 : decode cX1_isEdge 0 = .ok (.iload_n 1, 1) := dk_27 (dk_at dksX1_isEdge_0 0 rfl rfl)
theorem dX1_isEdge_1 : decode cX1_isEdge 1 = .ok (.i2l, 1) := dk_133 (dk_at dksX1_isEdge_0 1 rfl rfl)
theorem dX1_isEdge_2 : decode cX1_isEdge 2 = .ok (.lconst 0, 1) := dk_9 (dk_at dksX1_isEdge_0 2 rfl rfl)
theorem dX1_isEdge_3 : decode cX1_isEdge 3 = .ok (.aload_n 0, 1) := dk_42 (dk_at dksX1_isEdge_0 3 rfl rfl)
theorem dX1_isEdge_4 : decode cX1_isEdge 4 = .ok (.getfield 7, 3) := dk_180 0 7 (dk_at dksX1_isEdge_0 4 rfl rfl)
theorem dX1_isEdge_7 : decode cX1_isEdge 7 = .ok (.bipush 112, 2) := dk_16 112 (dk_at dksX1_isEdge_0 7 rfl rfl)
theorem dX1_isEdge_9 : decode cX1_isEdge 9 = .ok (.iaload, 1) := dk_46 (dk_at dksX1_isEdge_0 9 rfl rfl)
theorem dX1_isEdge_10 : decode cX1_isEdge 10 = .ok (.iconst 1, 1) := dk_4 (dk_at dksX1_isEdge_0 10 rfl rfl)
theorem dX1_isEdge_11 : decode cX1_isEdge 11 = .ok (.isub, 1) := dk_100 (dk_at dksX1_isEdge_0 11 rfl rfl)
theorem dX1_isEdge_12 : decode cX1_isEdge 12 = .ok (.i2l, 1) := dk_133 (dk_at dksX1_isEdge_0 12 rfl rfl)
theorem dX1_isEdge_13 : decode cX1_isEdge 13 = .ok (.invokestatic 48, 3) := dk_184 0 48 (dk_at dksX1_isEdge_0 13 rfl rfl)
theorem dX1_isEdge_16 : decode cX1_isEdge 16 = .ok (.ireturn, 1) := dk_172 (dk_at dksX1_isEdge_0 16 rfl rfl)
abbrev cX1_setEdge : ByteArray := prog_20_method_11_code
def yX1_setEdge : MethodName := ⟨RX1, "setEdge", "(III)I"⟩
def dkwX1_setEdge_1 : List UInt8 := [27, 28, 182, 0, 80, 54, 4, 42, 180, 0, 7, 16, 7, 27, 104, 28, 96, 29, 79, 21, 4, 172]
abbrev dktX1_setEdge_1 : List UInt8 := dkwX1_setEdge_1 ++ []
def dkwX1_setEdge_0 : List UInt8 := [42, 27, 182, 0, 77, 153, 0, 11, 28, 29, 184, 0, 68, 154, 0, 6, 18, 72, 172, 42, 182, 0, 74, 42]
abbrev dktX1_setEdge_0 : List UInt8 := dkwX1_setEdge_0 ++ dktX1_setEdge_1
theorem dksX1_setEdge_0 : cX1_setEdge.data.toList.drop 0 = dktX1_setEdge_0 := by decide +kernel
theorem dksX1_setEdge_1 : cX1_setEdge.data.toList.drop 24 = dktX1_setEdge_1 := dk_seg dksX1_setEdge_0 24 rfl rfl
theorem dX1_setEdge_0 : decode cX1_setEdge 0 = .ok (.aload_n 0, 1) := dk_42 (dk_at dksX1_setEdge_0 0 rfl rfl)
theorem dX1_setEdge_1 : decode cX1_setEdge 1 = .ok (.iload_n 1, 1) := dk_27 (dk_at dksX1_setEdge_0 1 rfl rfl)
theorem dX1_setEdge_2 : decode cX1_setEdge 2 = .ok (.invokevirtual 77, 3) := dk_182 0 77 (dk_at dksX1_setEdge_0 2 rfl rfl)
theorem dX1_setEdge_5 : decode cX1_setEdge 5 = .ok (.ifCond .eq 11, 3) := dk_153 0 11 (dk_at dksX1_setEdge_0 5 rfl rfl)
theorem dX1_setEdge_8 : decode cX1_setEdge 8 = .ok (.iload_n 2, 1) := dk_28 (dk_at dksX1_setEdge_0 8 rfl rfl)
theorem dX1_setEdge_9 : decode cX1_setEdge 9 = .ok (.iload_n 3, 1) := dk_29 (dk_at dksX1_setEdge_0 9 rfl rfl)
theorem dX1_setEdge_10 : decode cX1_setEdge 10 = .ok (.invokestatic 68, 3) := dk_184 0 68 (dk_at dksX1_setEdge_0 10 rfl rfl)
theorem dX1_setEdge_13 : decode cX1_setEdge 13 = .ok (.ifCond .ne 6, 3) := dk_154 0 6 (dk_at dksX1_setEdge_0 13 rfl rfl)
theorem dX1_setEdge_16 : decode cX1_setEdge 16 = .ok (.ldc 72, 2) := dk_18 72 (dk_at dksX1_setEdge_0 16 rfl rfl)
theorem dX1_setEdge_18 : decode cX1_setEdge 18 = .ok (.ireturn, 1) := dk_172 (dk_at dksX1_setEdge_0 18 rfl rfl)
theorem dX1_setEdge_19 : decode cX1_setEdge 19 = .ok (.aload_n 0, 1) := dk_42 (dk_at dksX1_setEdge_0 19 rfl rfl)
theorem dX1_setEdge_20 : decode cX1_setEdge 20 = .ok (.invokevirtual 74, 3) := dk_182 0 74 (dk_at dksX1_setEdge_0 20 rfl rfl)
theorem dX1_setEdge_23 : decode cX1_setEdge 23 = .ok (.aload_n 0, 1) := dk_42 (dk_at dksX1_setEdge_0 23 rfl rfl)
theorem dX1_setEdge_24 : decode cX1_setEdge 24 = .ok (.iload_n 1, 1) := dk_27 (dk_at dksX1_setEdge_1 0 rfl rfl)
theorem dX1_setEdge_25 : decode cX1_setEdge 25 = .ok (.iload_n 2, 1) := dk_28 (dk_at dksX1_setEdge_1 1 rfl rfl)
theorem dX1_setEdge_26 : decode cX1_setEdge 26 = .ok (.invokevirtual 80, 3) := dk_182 0 80 (dk_at dksX1_setEdge_1 2 rfl rfl)
theorem dX1_setEdge_29 : decode cX1_setEdge 29 = .ok (.istore 4, 2) := dk_54 4 (dk_at dksX1_setEdge_1 5 rfl rfl)
theorem dX1_setEdge_31 : decode cX1_setEdge 31 = .ok (.aload_n 0, 1) := dk_42 (dk_at dksX1_setEdge_1 7 rfl rfl)
theorem dX1_setEdge_32 : decode cX1_setEdge 32 = .ok (.getfield 7, 3) := dk_180 0 7 (dk_at dksX1_setEdge_1 8 rfl rfl)
theorem dX1_setEdge_35 : decode cX1_setEdge 35 = .ok (.bipush 7, 2) := dk_16 7 (dk_at dksX1_setEdge_1 11 rfl rfl)
theorem dX1_setEdge_37 : decode cX1_setEdge 37 = .ok (.iload_n 1, 1) := dk_27 (dk_at dksX1_setEdge_1 13 rfl rfl)
theorem dX1_setEdge_38 : decode cX1_setEdge 38 = .ok (.imul, 1) := dk_104 (dk_at dksX1_setEdge_1 14 rfl rfl)
theorem dX1_setEdge_39 : decode cX1_setEdge 39 = .ok (.iload_n 2, 1) := dk_28 (dk_at dksX1_setEdge_1 15 rfl rfl)
theorem dX1_setEdge_40 : decode cX1_setEdge 40 = .ok (.iadd, 1) := dk_96 (dk_at dksX1_setEdge_1 16 rfl rfl)
theorem dX1_setEdge_41 : decode cX1_setEdge 41 = .ok (.iload_n 3, 1) := dk_29 (dk_at dksX1_setEdge_1 17 rfl rfl)
theorem dX1_setEdge_42 : decode cX1_setEdge 42 = .ok (.iastore, 1) := dk_79 (dk_at dksX1_setEdge_1 18 rfl rfl)
theorem dX1_setEdge_43 : decode cX1_setEdge 43 = .ok (.iload 4, 2) := dk_21 4 (dk_at dksX1_setEdge_1 19 rfl rfl)
theorem dX1_setEdge_45 : decode cX1_setEdge 45 = .ok (.ireturn, 1) := dk_172 (dk_at dksX1_setEdge_1 21 rfl rfl)
abbrev cX1_of : ByteArray := prog_20_method_4_code
def yX1_of : MethodName := ⟨RX1, "of", "(II)I"⟩
def dkwX1_of_0 : List UInt8 := [42, 180, 0, 7, 16, 7, 27, 104, 28, 96, 46, 172]
abbrev dktX1_of_0 : List UInt8 := dkwX1_of_0 ++ []
theorem dksX1_of_0 : cX1_of.data.toList.drop 0 = dktX1_of_0 := by decide +kernel
theorem dX1_of_0 : decode cX1_of 0 = .ok (.aload_n 0, 1) := dk_42 (dk_at dksX1_of_0 0 rfl rfl)
theorem dX1_of_1 : decode cX1_of 1 = .ok (.getfield 7, 3) := dk_180 0 7 (dk_at dksX1_of_0 1 rfl rfl)
theorem dX1_of_4 : decode cX1_of 4 = .ok (.bipush 7, 2) := dk_16 7 (dk_at dksX1_of_0 4 rfl rfl)
theorem dX1_of_6 : decode cX1_of 6 = .ok (.iload_n 1, 1) := dk_27 (dk_at dksX1_of_0 6 rfl rfl)
theorem dX1_of_7 : decode cX1_of 7 = .ok (.imul, 1) := dk_104 (dk_at dksX1_of_0 7 rfl rfl)
theorem dX1_of_8 : decode cX1_of 8 = .ok (.iload_n 2, 1) := dk_28 (dk_at dksX1_of_0 8 rfl rfl)
theorem dX1_of_9 : decode cX1_of 9 = .ok (.iadd, 1) := dk_96 (dk_at dksX1_of_0 9 rfl rfl)
theorem dX1_of_10 : decode cX1_of 10 = .ok (.iaload, 1) := dk_46 (dk_at dksX1_of_0 10 rfl rfl)
theorem dX1_of_11 : decode cX1_of 11 = .ok (.ireturn, 1) := dk_172 (dk_at dksX1_of_0 11 rfl rfl)
abbrev cX1_setRate : ByteArray := prog_20_method_12_code
def yX1_setRate : MethodName := ⟨RX1, "setRate", "(III)I"⟩
def dkwX1_setRate_3 : List UInt8 := [180, 0, 7, 16, 7, 27, 104, 16, 6, 96, 29, 79, 21, 4, 172]
abbrev dktX1_setRate_3 : List UInt8 := dkwX1_setRate_3 ++ []
def dkwX1_setRate_2 : List UInt8 := [104, 42, 27, 16, 6, 182, 0, 80, 96, 54, 4, 42, 180, 0, 7, 16, 7, 27, 104, 8, 96, 28, 79, 42]
abbrev dktX1_setRate_2 : List UInt8 := dkwX1_setRate_2 ++ dktX1_setRate_3
def dkwX1_setRate_1 : List UInt8 := [20, 0, 84, 184, 0, 48, 154, 0, 6, 18, 72, 172, 42, 182, 0, 74, 16, 100, 42, 27, 8, 182, 0, 80]
abbrev dktX1_setRate_1 : List UInt8 := dkwX1_setRate_1 ++ dktX1_setRate_2
def dkwX1_setRate_0 : List UInt8 := [42, 27, 182, 0, 77, 153, 0, 27, 28, 133, 10, 20, 0, 84, 184, 0, 48, 153, 0, 15, 29, 133, 10]
abbrev dktX1_setRate_0 : List UInt8 := dkwX1_setRate_0 ++ dktX1_setRate_1
theorem dksX1_setRate_0 : cX1_setRate.data.toList.drop 0 = dktX1_setRate_0 := by decide +kernel
theorem dksX1_setRate_1 : cX1_setRate.data.toList.drop 23 = dktX1_setRate_1 := dk_seg dksX1_setRate_0 23 rfl rfl
theorem dksX1_setRate_2 : cX1_setRate.data.toList.drop 47 = dktX1_setRate_2 := dk_seg dksX1_setRate_1 24 rfl rfl
theorem dksX1_setRate_3 : cX1_setRate.data.toList.drop 71 = dktX1_setRate_3 := dk_seg dksX1_setRate_2 24 rfl rfl
theorem dX1_setRate_0 : decode cX1_setRate 0 = .ok (.aload_n 0, 1) := dk_42 (dk_at dksX1_setRate_0 0 rfl rfl)
theorem dX1_setRate_1 : decode cX1_setRate 1 = .ok (.iload_n 1, 1) := dk_27 (dk_at dksX1_setRate_0 1 rfl rfl)
theorem dX1_setRate_2 : decode cX1_setRate 2 = .ok (.invokevirtual 77, 3) := dk_182 0 77 (dk_at dksX1_setRate_0 2 rfl rfl)
theorem dX1_setRate_5 : decode cX1_setRate 5 = .ok (.ifCond .eq 27, 3) := dk_153 0 27 (dk_at dksX1_setRate_0 5 rfl rfl)
theorem dX1_setRate_8 : decode cX1_setRate 8 = .ok (.iload_n 2, 1) := dk_28 (dk_at dksX1_setRate_0 8 rfl rfl)
theorem dX1_setRate_9 : decode cX1_setRate 9 = .ok (.i2l, 1) := dk_133 (dk_at dksX1_setRate_0 9 rfl rfl)
theorem dX1_setRate_10 : decode cX1_setRate 10 = .ok (.lconst 1, 1) := dk_10 (dk_at dksX1_setRate_0 10 rfl rfl)
theorem dX1_setRate_11 : decode cX1_setRate 11 = .ok (.ldc2_w 84, 3) := dk_20 0 84 (dk_at dksX1_setRate_0 11 rfl rfl)
theorem dX1_setRate_14 : decode cX1_setRate 14 = .ok (.invokestatic 48, 3) := dk_184 0 48 (dk_at dksX1_setRate_0 14 rfl rfl)
theorem dX1_setRate_17 : decode cX1_setRate 17 = .ok (.ifCond .eq 15, 3) := dk_153 0 15 (dk_at dksX1_setRate_0 17 rfl rfl)
theorem dX1_setRate_20 : decode cX1_setRate 20 = .ok (.iload_n 3, 1) := dk_29 (dk_at dksX1_setRate_0 20 rfl rfl)
theorem dX1_setRate_21 : decode cX1_setRate 21 = .ok (.i2l, 1) := dk_133 (dk_at dksX1_setRate_0 21 rfl rfl)
theorem dX1_setRate_22 : decode cX1_setRate 22 = .ok (.lconst 1, 1) := dk_10 (dk_at dksX1_setRate_0 22 rfl rfl)
theorem dX1_setRate_23 : decode cX1_setRate 23 = .ok (.ldc2_w 84, 3) := dk_20 0 84 (dk_at dksX1_setRate_1 0 rfl rfl)
theorem dX1_setRate_26 : decode cX1_setRate 26 = .ok (.invokestatic 48, 3) := dk_184 0 48 (dk_at dksX1_setRate_1 3 rfl rfl)
theorem dX1_setRate_29 : decode cX1_setRate 29 = .ok (.ifCond .ne 6, 3) := dk_154 0 6 (dk_at dksX1_setRate_1 6 rfl rfl)
theorem dX1_setRate_32 : decode cX1_setRate 32 = .ok (.ldc 72, 2) := dk_18 72 (dk_at dksX1_setRate_1 9 rfl rfl)
theorem dX1_setRate_34 : decode cX1_setRate 34 = .ok (.ireturn, 1) := dk_172 (dk_at dksX1_setRate_1 11 rfl rfl)
theorem dX1_setRate_35 : decode cX1_setRate 35 = .ok (.aload_n 0, 1) := dk_42 (dk_at dksX1_setRate_1 12 rfl rfl)
theorem dX1_setRate_36 : decode cX1_setRate 36 = .ok (.invokevirtual 74, 3) := dk_182 0 74 (dk_at dksX1_setRate_1 13 rfl rfl)
theorem dX1_setRate_39 : decode cX1_setRate 39 = .ok (.bipush 100, 2) := dk_16 100 (dk_at dksX1_setRate_1 16 rfl rfl)
theorem dX1_setRate_41 : decode cX1_setRate 41 = .ok (.aload_n 0, 1) := dk_42 (dk_at dksX1_setRate_1 18 rfl rfl)
theorem dX1_setRate_42 : decode cX1_setRate 42 = .ok (.iload_n 1, 1) := dk_27 (dk_at dksX1_setRate_1 19 rfl rfl)
theorem dX1_setRate_43 : decode cX1_setRate 43 = .ok (.iconst 5, 1) := dk_8 (dk_at dksX1_setRate_1 20 rfl rfl)
theorem dX1_setRate_44 : decode cX1_setRate 44 = .ok (.invokevirtual 80, 3) := dk_182 0 80 (dk_at dksX1_setRate_1 21 rfl rfl)
theorem dX1_setRate_47 : decode cX1_setRate 47 = .ok (.imul, 1) := dk_104 (dk_at dksX1_setRate_2 0 rfl rfl)
theorem dX1_setRate_48 : decode cX1_setRate 48 = .ok (.aload_n 0, 1) := dk_42 (dk_at dksX1_setRate_2 1 rfl rfl)
theorem dX1_setRate_49 : decode cX1_setRate 49 = .ok (.iload_n 1, 1) := dk_27 (dk_at dksX1_setRate_2 2 rfl rfl)
theorem dX1_setRate_50 : decode cX1_setRate 50 = .ok (.bipush 6, 2) := dk_16 6 (dk_at dksX1_setRate_2 3 rfl rfl)
theorem dX1_setRate_52 : decode cX1_setRate 52 = .ok (.invokevirtual 80, 3) := dk_182 0 80 (dk_at dksX1_setRate_2 5 rfl rfl)
theorem dX1_setRate_55 : decode cX1_setRate 55 = .ok (.iadd, 1) := dk_96 (dk_at dksX1_setRate_2 8 rfl rfl)
theorem dX1_setRate_56 : decode cX1_setRate 56 = .ok (.istore 4, 2) := dk_54 4 (dk_at dksX1_setRate_2 9 rfl rfl)
theorem dX1_setRate_58 : decode cX1_setRate 58 = .ok (.aload_n 0, 1) := dk_42 (dk_at dksX1_setRate_2 11 rfl rfl)
theorem dX1_setRate_59 : decode cX1_setRate 59 = .ok (.getfield 7, 3) := dk_180 0 7 (dk_at dksX1_setRate_2 12 rfl rfl)
theorem dX1_setRate_62 : decode cX1_setRate 62 = .ok (.bipush 7, 2) := dk_16 7 (dk_at dksX1_setRate_2 15 rfl rfl)
theorem dX1_setRate_64 : decode cX1_setRate 64 = .ok (.iload_n 1, 1) := dk_27 (dk_at dksX1_setRate_2 17 rfl rfl)
theorem dX1_setRate_65 : decode cX1_setRate 65 = .ok (.imul, 1) := dk_104 (dk_at dksX1_setRate_2 18 rfl rfl)
theorem dX1_setRate_66 : decode cX1_setRate 66 = .ok (.iconst 5, 1) := dk_8 (dk_at dksX1_setRate_2 19 rfl rfl)
theorem dX1_setRate_67 : decode cX1_setRate 67 = .ok (.iadd, 1) := dk_96 (dk_at dksX1_setRate_2 20 rfl rfl)
theorem dX1_setRate_68 : decode cX1_setRate 68 = .ok (.iload_n 2, 1) := dk_28 (dk_at dksX1_setRate_2 21 rfl rfl)
theorem dX1_setRate_69 : decode cX1_setRate 69 = .ok (.iastore, 1) := dk_79 (dk_at dksX1_setRate_2 22 rfl rfl)
theorem dX1_setRate_70 : decode cX1_setRate 70 = .ok (.aload_n 0, 1) := dk_42 (dk_at dksX1_setRate_2 23 rfl rfl)
theorem dX1_setRate_71 : decode cX1_setRate 71 = .ok (.getfield 7, 3) := dk_180 0 7 (dk_at dksX1_setRate_3 0 rfl rfl)
theorem dX1_setRate_74 : decode cX1_setRate 74 = .ok (.bipush 7, 2) := dk_16 7 (dk_at dksX1_setRate_3 3 rfl rfl)
theorem dX1_setRate_76 : decode cX1_setRate 76 = .ok (.iload_n 1, 1) := dk_27 (dk_at dksX1_setRate_3 5 rfl rfl)
theorem dX1_setRate_77 : decode cX1_setRate 77 = .ok (.imul, 1) := dk_104 (dk_at dksX1_setRate_3 6 rfl rfl)
theorem dX1_setRate_78 : decode cX1_setRate 78 = .ok (.bipush 6, 2) := dk_16 6 (dk_at dksX1_setRate_3 7 rfl rfl)
theorem dX1_setRate_80 : decode cX1_setRate 80 = .ok (.iadd, 1) := dk_96 (dk_at dksX1_setRate_3 9 rfl rfl)
theorem dX1_setRate_81 : decode cX1_setRate 81 = .ok (.iload_n 3, 1) := dk_29 (dk_at dksX1_setRate_3 10 rfl rfl)
theorem dX1_setRate_82 : decode cX1_setRate 82 = .ok (.iastore, 1) := dk_79 (dk_at dksX1_setRate_3 11 rfl rfl)
theorem dX1_setRate_83 : decode cX1_setRate 83 = .ok (.iload 4, 2) := dk_21 4 (dk_at dksX1_setRate_3 12 rfl rfl)
theorem dX1_setRate_85 : decode cX1_setRate 85 = .ok (.ireturn, 1) := dk_172 (dk_at dksX1_setRate_3 14 rfl rfl)
abbrev cX1_edge : ByteArray := prog_20_method_13_code
def yX1_edge : MethodName := ⟨RX1, "edge", "(II)I"⟩
def dkwX1_edge_1 : List UInt8 := [182, 0, 80, 167, 0, 5, 18, 72, 172]
abbrev dktX1_edge_1 : List UInt8 := dkwX1_edge_1 ++ []
def dkwX1_edge_0 : List UInt8 := [42, 27, 182, 0, 77, 153, 0, 24, 28, 133, 9, 20, 0, 86, 184, 0, 48, 153, 0, 12, 42, 27, 28]
abbrev dktX1_edge_0 : List UInt8 := dkwX1_edge_0 ++ dktX1_edge_1
theorem dksX1_edge_0 : cX1_edge.data.toList.drop 0 = dktX1_edge_0 := by decide +kernel
theorem dksX1_edge_1 : cX1_edge.data.toList.drop 23 = dktX1_edge_1 := dk_seg dksX1_edge_0 23 rfl rfl
theorem dX1_edge_0 : decode cX1_edge 0 = .ok (.aload_n 0, 1) := dk_42 (dk_at dksX1_edge_0 0 rfl rfl)
theorem dX1_edge_1 : decode cX1_edge 1 = .ok (.iload_n 1, 1) := dk_27 (dk_at dksX1_edge_0 1 rfl rfl)
theorem dX1_edge_2 : decode cX1_edge 2 = .ok (.invokevirtual 77, 3) := dk_182 0 77 (dk_at dksX1_edge_0 2 rfl rfl)
theorem dX1_edge_5 : decode cX1_edge 5 = .ok (.ifCond .eq 24, 3) := dk_153 0 24 (dk_at dksX1_edge_0 5 rfl rfl)
theorem dX1_edge_8 : decode cX1_edge 8 = .ok (.iload_n 2, 1) := dk_28 (dk_at dksX1_edge_0 8 rfl rfl)
theorem dX1_edge_9 : decode cX1_edge 9 = .ok (.i2l, 1) := dk_133 (dk_at dksX1_edge_0 9 rfl rfl)
theorem dX1_edge_10 : decode cX1_edge 10 = .ok (.lconst 0, 1) := dk_9 (dk_at dksX1_edge_0 10 rfl rfl)
theorem dX1_edge_11 : decode cX1_edge 11 = .ok (.ldc2_w 86, 3) := dk_20 0 86 (dk_at dksX1_edge_0 11 rfl rfl)
theorem dX1_edge_14 : decode cX1_edge 14 = .ok (.invokestatic 48, 3) := dk_184 0 48 (dk_at dksX1_edge_0 14 rfl rfl)
theorem dX1_edge_17 : decode cX1_edge 17 = .ok (.ifCond .eq 12, 3) := dk_153 0 12 (dk_at dksX1_edge_0 17 rfl rfl)
theorem dX1_edge_20 : decode cX1_edge 20 = .ok (.aload_n 0, 1) := dk_42 (dk_at dksX1_edge_0 20 rfl rfl)
theorem dX1_edge_21 : decode cX1_edge 21 = .ok (.iload_n 1, 1) := dk_27 (dk_at dksX1_edge_0 21 rfl rfl)
theorem dX1_edge_22 : decode cX1_edge 22 = .ok (.iload_n 2, 1) := dk_28 (dk_at dksX1_edge_0 22 rfl rfl)
theorem dX1_edge_23 : decode cX1_edge 23 = .ok (.invokevirtual 80, 3) := dk_182 0 80 (dk_at dksX1_edge_1 0 rfl rfl)
theorem dX1_edge_26 : decode cX1_edge 26 = .ok (.goto 5, 3) := dk_167 0 5 (dk_at dksX1_edge_1 3 rfl rfl)
theorem dX1_edge_29 : decode cX1_edge 29 = .ok (.ldc 72, 2) := dk_18 72 (dk_at dksX1_edge_1 6 rfl rfl)
theorem dX1_edge_31 : decode cX1_edge 31 = .ok (.ireturn, 1) := dk_172 (dk_at dksX1_edge_1 8 rfl rfl)
abbrev cX1_clear : ByteArray := prog_20_method_14_code
def yX1_clear : MethodName := ⟨RX1, "clear", "()I"⟩
def dkwX1_clear_0 : List UInt8 := [42, 182, 0, 74, 42, 180, 0, 7, 16, 112, 46, 60, 42, 180, 0, 7, 16, 112, 3, 79, 27, 172]
abbrev dktX1_clear_0 : List UInt8 := dkwX1_clear_0 ++ []
theorem dksX1_clear_0 : cX1_clear.data.toList.drop 0 = dktX1_clear_0 := by decide +kernel
theorem dX1_clear_0 : decode cX1_clear 0 = .ok (.aload_n 0, 1) := dk_42 (dk_at dksX1_clear_0 0 rfl rfl)
theorem dX1_clear_1 : decode cX1_clear 1 = .ok (.invokevirtual 74, 3) := dk_182 0 74 (dk_at dksX1_clear_0 1 rfl rfl)
theorem dX1_clear_4 : decode cX1_clear 4 = .ok (.aload_n 0, 1) := dk_42 (dk_at dksX1_clear_0 4 rfl rfl)
theorem dX1_clear_5 : decode cX1_clear 5 = .ok (.getfield 7, 3) := dk_180 0 7 (dk_at dksX1_clear_0 5 rfl rfl)
theorem dX1_clear_8 : decode cX1_clear 8 = .ok (.bipush 112, 2) := dk_16 112 (dk_at dksX1_clear_0 8 rfl rfl)
theorem dX1_clear_10 : decode cX1_clear 10 = .ok (.iaload, 1) := dk_46 (dk_at dksX1_clear_0 10 rfl rfl)
theorem dX1_clear_11 : decode cX1_clear 11 = .ok (.istore_n 1, 1) := dk_60 (dk_at dksX1_clear_0 11 rfl rfl)
theorem dX1_clear_12 : decode cX1_clear 12 = .ok (.aload_n 0, 1) := dk_42 (dk_at dksX1_clear_0 12 rfl rfl)
theorem dX1_clear_13 : decode cX1_clear 13 = .ok (.getfield 7, 3) := dk_180 0 7 (dk_at dksX1_clear_0 13 rfl rfl)
theorem dX1_clear_16 : decode cX1_clear 16 = .ok (.bipush 112, 2) := dk_16 112 (dk_at dksX1_clear_0 16 rfl rfl)
theorem dX1_clear_18 : decode cX1_clear 18 = .ok (.iconst 0, 1) := dk_3 (dk_at dksX1_clear_0 18 rfl rfl)
theorem dX1_clear_19 : decode cX1_clear 19 = .ok (.iastore, 1) := dk_79 (dk_at dksX1_clear_0 19 rfl rfl)
theorem dX1_clear_20 : decode cX1_clear 20 = .ok (.iload_n 1, 1) := dk_27 (dk_at dksX1_clear_0 20 rfl rfl)
theorem dX1_clear_21 : decode cX1_clear 21 = .ok (.ireturn, 1) := dk_172 (dk_at dksX1_clear_0 21 rfl rfl)
abbrev cX1_type : ByteArray := prog_20_method_15_code
def yX1_type : MethodName := ⟨RX1, "type", "(I)I"⟩
def dkwX1_type_2 : List UInt8 := [181, 0, 90, 42, 180, 0, 90, 172]
abbrev dktX1_type_2 : List UInt8 := dkwX1_type_2 ++ []
def dkwX1_type_1 : List UInt8 := [160, 0, 6, 18, 73, 172, 42, 180, 0, 19, 42, 180, 0, 90, 27, 79, 42, 89, 180, 0, 90, 4, 96]
abbrev dktX1_type_1 : List UInt8 := dkwX1_type_1 ++ dktX1_type_2
def dkwX1_type_0 : List UInt8 := [27, 133, 9, 20, 0, 88, 184, 0, 48, 154, 0, 6, 18, 72, 172, 42, 180, 0, 90, 17, 0, 150]
abbrev dktX1_type_0 : List UInt8 := dkwX1_type_0 ++ dktX1_type_1
theorem dksX1_type_0 : cX1_type.data.toList.drop 0 = dktX1_type_0 := by decide +kernel
theorem dksX1_type_1 : cX1_type.data.toList.drop 22 = dktX1_type_1 := dk_seg dksX1_type_0 22 rfl rfl
theorem dksX1_type_2 : cX1_type.data.toList.drop 45 = dktX1_type_2 := dk_seg dksX1_type_1 23 rfl rfl
theorem dX1_type_0 : decode cX1_type 0 = .ok (.iload_n 1, 1) := dk_27 (dk_at dksX1_type_0 0 rfl rfl)
theorem dX1_type_1 : decode cX1_type 1 = .ok (.i2l, 1) := dk_133 (dk_at dksX1_type_0 1 rfl rfl)
theorem dX1_type_2 : decode cX1_type 2 = .ok (.lconst 0, 1) := dk_9 (dk_at dksX1_type_0 2 rfl rfl)
theorem dX1_type_3 : decode cX1_type 3 = .ok (.ldc2_w 88, 3) := dk_20 0 88 (dk_at dksX1_type_0 3 rfl rfl)
theorem dX1_type_6 : decode cX1_type 6 = .ok (.invokestatic 48, 3) := dk_184 0 48 (dk_at dksX1_type_0 6 rfl rfl)
theorem dX1_type_9 : decode cX1_type 9 = .ok (.ifCond .ne 6, 3) := dk_154 0 6 (dk_at dksX1_type_0 9 rfl rfl)
theorem dX1_type_12 : decode cX1_type 12 = .ok (.ldc 72, 2) := dk_18 72 (dk_at dksX1_type_0 12 rfl rfl)
theorem dX1_type_14 : decode cX1_type 14 = .ok (.ireturn, 1) := dk_172 (dk_at dksX1_type_0 14 rfl rfl)
theorem dX1_type_15 : decode cX1_type 15 = .ok (.aload_n 0, 1) := dk_42 (dk_at dksX1_type_0 15 rfl rfl)
theorem dX1_type_16 : decode cX1_type 16 = .ok (.getfield 90, 3) := dk_180 0 90 (dk_at dksX1_type_0 16 rfl rfl)
theorem dX1_type_19 : decode cX1_type 19 = .ok (.sipush 150, 3) := dk_17 0 150 (dk_at dksX1_type_0 19 rfl rfl)
theorem dX1_type_22 : decode cX1_type 22 = .ok (.if_icmp .ne 6, 3) := dk_160 0 6 (dk_at dksX1_type_1 0 rfl rfl)
theorem dX1_type_25 : decode cX1_type 25 = .ok (.ldc 73, 2) := dk_18 73 (dk_at dksX1_type_1 3 rfl rfl)
theorem dX1_type_27 : decode cX1_type 27 = .ok (.ireturn, 1) := dk_172 (dk_at dksX1_type_1 5 rfl rfl)
theorem dX1_type_28 : decode cX1_type 28 = .ok (.aload_n 0, 1) := dk_42 (dk_at dksX1_type_1 6 rfl rfl)
theorem dX1_type_29 : decode cX1_type 29 = .ok (.getfield 19, 3) := dk_180 0 19 (dk_at dksX1_type_1 7 rfl rfl)
theorem dX1_type_32 : decode cX1_type 32 = .ok (.aload_n 0, 1) := dk_42 (dk_at dksX1_type_1 10 rfl rfl)
theorem dX1_type_33 : decode cX1_type 33 = .ok (.getfield 90, 3) := dk_180 0 90 (dk_at dksX1_type_1 11 rfl rfl)
theorem dX1_type_36 : decode cX1_type 36 = .ok (.iload_n 1, 1) := dk_27 (dk_at dksX1_type_1 14 rfl rfl)
theorem dX1_type_37 : decode cX1_type 37 = .ok (.iastore, 1) := dk_79 (dk_at dksX1_type_1 15 rfl rfl)
theorem dX1_type_38 : decode cX1_type 38 = .ok (.aload_n 0, 1) := dk_42 (dk_at dksX1_type_1 16 rfl rfl)
theorem dX1_type_39 : decode cX1_type 39 = .ok (.dup, 1) := dk_89 (dk_at dksX1_type_1 17 rfl rfl)
theorem dX1_type_40 : decode cX1_type 40 = .ok (.getfield 90, 3) := dk_180 0 90 (dk_at dksX1_type_1 18 rfl rfl)
theorem dX1_type_43 : decode cX1_type 43 = .ok (.iconst 1, 1) := dk_4 (dk_at dksX1_type_1 21 rfl rfl)
theorem dX1_type_44 : decode cX1_type 44 = .ok (.iadd, 1) := dk_96 (dk_at dksX1_type_1 22 rfl rfl)
theorem dX1_type_45 : decode cX1_type 45 = .ok (.putfield 90, 3) := dk_181 0 90 (dk_at dksX1_type_2 0 rfl rfl)
theorem dX1_type_48 : decode cX1_type 48 = .ok (.aload_n 0, 1) := dk_42 (dk_at dksX1_type_2 3 rfl rfl)
theorem dX1_type_49 : decode cX1_type 49 = .ok (.getfield 90, 3) := dk_180 0 90 (dk_at dksX1_type_2 4 rfl rfl)
theorem dX1_type_52 : decode cX1_type 52 = .ok (.ireturn, 1) := dk_172 (dk_at dksX1_type_2 7 rfl rfl)
abbrev cX1_clearText : ByteArray := prog_20_method_16_code
def yX1_clearText : MethodName := ⟨RX1, "clearText", "()I"⟩
def dkwX1_clearText_0 : List UInt8 := [42, 180, 0, 90, 60, 42, 3, 181, 0, 90, 27, 172]
abbrev dktX1_clearText_0 : List UInt8 := dkwX1_clearText_0 ++ []
theorem dksX1_clearText_0 : cX1_clearText.data.toList.drop 0 = dktX1_clearText_0 := by decide +kernel
theorem dX1_clearText_0 : decode cX1_clearText 0 = .ok (.aload_n 0, 1) := dk_42 (dk_at dksX1_clearText_0 0 rfl rfl)
theorem dX1_clearText_1 : decode cX1_clearText 1 = .ok (.getfield 90, 3) := dk_180 0 90 (dk_at dksX1_clearText_0 1 rfl rfl)
theorem dX1_clearText_4 : decode cX1_clearText 4 = .ok (.istore_n 1, 1) := dk_60 (dk_at dksX1_clearText_0 4 rfl rfl)
theorem dX1_clearText_5 : decode cX1_clearText 5 = .ok (.aload_n 0, 1) := dk_42 (dk_at dksX1_clearText_0 5 rfl rfl)
theorem dX1_clearText_6 : decode cX1_clearText 6 = .ok (.iconst 0, 1) := dk_3 (dk_at dksX1_clearText_0 6 rfl rfl)
theorem dX1_clearText_7 : decode cX1_clearText 7 = .ok (.putfield 90, 3) := dk_181 0 90 (dk_at dksX1_clearText_0 7 rfl rfl)
theorem dX1_clearText_10 : decode cX1_clearText 10 = .ok (.iload_n 1, 1) := dk_27 (dk_at dksX1_clearText_0 10 rfl rfl)
theorem dX1_clearText_11 : decode cX1_clearText 11 = .ok (.ireturn, 1) := dk_172 (dk_at dksX1_clearText_0 11 rfl rfl)
abbrev cX1_fault : ByteArray := prog_20_method_24_code
def yX1_fault : MethodName := ⟨RX1, "fault", "()I"⟩
def dkwX1_fault_2 : List UInt8 := [180, 0, 100, 172]
abbrev dktX1_fault_2 : List UInt8 := dkwX1_fault_2 ++ []
def dkwX1_fault_1 : List UInt8 := [18, 25, 160, 0, 21, 42, 180, 0, 93, 42, 180, 0, 90, 162, 0, 10, 42, 182, 0, 126, 167, 255, 232, 42]
abbrev dktX1_fault_1 : List UInt8 := dkwX1_fault_1 ++ dktX1_fault_2
def dkwX1_fault_0 : List UInt8 := [42, 3, 181, 0, 93, 42, 3, 181, 0, 114, 42, 18, 25, 181, 0, 100, 42, 182, 0, 103, 42, 180, 0, 100]
abbrev dktX1_fault_0 : List UInt8 := dkwX1_fault_0 ++ dktX1_fault_1
theorem dksX1_fault_0 : cX1_fault.data.toList.drop 0 = dktX1_fault_0 := by decide +kernel
theorem dksX1_fault_1 : cX1_fault.data.toList.drop 24 = dktX1_fault_1 := dk_seg dksX1_fault_0 24 rfl rfl
theorem dksX1_fault_2 : cX1_fault.data.toList.drop 48 = dktX1_fault_2 := dk_seg dksX1_fault_1 24 rfl rfl
theorem dX1_fault_0 : decode cX1_fault 0 = .ok (.aload_n 0, 1) := dk_42 (dk_at dksX1_fault_0 0 rfl rfl)
theorem dX1_fault_1 : decode cX1_fault 1 = .ok (.iconst 0, 1) := dk_3 (dk_at dksX1_fault_0 1 rfl rfl)
theorem dX1_fault_2 : decode cX1_fault 2 = .ok (.putfield 93, 3) := dk_181 0 93 (dk_at dksX1_fault_0 2 rfl rfl)
theorem dX1_fault_5 : decode cX1_fault 5 = .ok (.aload_n 0, 1) := dk_42 (dk_at dksX1_fault_0 5 rfl rfl)
theorem dX1_fault_6 : decode cX1_fault 6 = .ok (.iconst 0, 1) := dk_3 (dk_at dksX1_fault_0 6 rfl rfl)
theorem dX1_fault_7 : decode cX1_fault 7 = .ok (.putfield 114, 3) := dk_181 0 114 (dk_at dksX1_fault_0 7 rfl rfl)
theorem dX1_fault_10 : decode cX1_fault 10 = .ok (.aload_n 0, 1) := dk_42 (dk_at dksX1_fault_0 10 rfl rfl)
theorem dX1_fault_11 : decode cX1_fault 11 = .ok (.ldc 25, 2) := dk_18 25 (dk_at dksX1_fault_0 11 rfl rfl)
theorem dX1_fault_13 : decode cX1_fault 13 = .ok (.putfield 100, 3) := dk_181 0 100 (dk_at dksX1_fault_0 13 rfl rfl)
theorem dX1_fault_16 : decode cX1_fault 16 = .ok (.aload_n 0, 1) := dk_42 (dk_at dksX1_fault_0 16 rfl rfl)
theorem dX1_fault_17 : decode cX1_fault 17 = .ok (.invokevirtual 103, 3) := dk_182 0 103 (dk_at dksX1_fault_0 17 rfl rfl)
theorem dX1_fault_20 : decode cX1_fault 20 = .ok (.aload_n 0, 1) := dk_42 (dk_at dksX1_fault_0 20 rfl rfl)
theorem dX1_fault_21 : decode cX1_fault 21 = .ok (.getfield 100, 3) := dk_180 0 100 (dk_at dksX1_fault_0 21 rfl rfl)
theorem dX1_fault_24 : decode cX1_fault 24 = .ok (.ldc 25, 2) := dk_18 25 (dk_at dksX1_fault_1 0 rfl rfl)
theorem dX1_fault_26 : decode cX1_fault 26 = .ok (.if_icmp .ne 21, 3) := dk_160 0 21 (dk_at dksX1_fault_1 2 rfl rfl)
theorem dX1_fault_29 : decode cX1_fault 29 = .ok (.aload_n 0, 1) := dk_42 (dk_at dksX1_fault_1 5 rfl rfl)
theorem dX1_fault_30 : decode cX1_fault 30 = .ok (.getfield 93, 3) := dk_180 0 93 (dk_at dksX1_fault_1 6 rfl rfl)
theorem dX1_fault_33 : decode cX1_fault 33 = .ok (.aload_n 0, 1) := dk_42 (dk_at dksX1_fault_1 9 rfl rfl)
theorem dX1_fault_34 : decode cX1_fault 34 = .ok (.getfield 90, 3) := dk_180 0 90 (dk_at dksX1_fault_1 10 rfl rfl)
theorem dX1_fault_37 : decode cX1_fault 37 = .ok (.if_icmp .ge 10, 3) := dk_162 0 10 (dk_at dksX1_fault_1 13 rfl rfl)
theorem dX1_fault_40 : decode cX1_fault 40 = .ok (.aload_n 0, 1) := dk_42 (dk_at dksX1_fault_1 16 rfl rfl)
theorem dX1_fault_41 : decode cX1_fault 41 = .ok (.invokevirtual 126, 3) := dk_182 0 126 (dk_at dksX1_fault_1 17 rfl rfl)
theorem dX1_fault_44 : decode cX1_fault 44 = .ok (.goto (-24), 3) := dk_167 255 232 (dk_at dksX1_fault_1 20 rfl rfl)
theorem dX1_fault_47 : decode cX1_fault 47 = .ok (.aload_n 0, 1) := dk_42 (dk_at dksX1_fault_1 23 rfl rfl)
theorem dX1_fault_48 : decode cX1_fault 48 = .ok (.getfield 100, 3) := dk_180 0 100 (dk_at dksX1_fault_2 0 rfl rfl)
theorem dX1_fault_51 : decode cX1_fault 51 = .ok (.ireturn, 1) := dk_172 (dk_at dksX1_fault_2 3 rfl rfl)
abbrev cX1_blanks : ByteArray := prog_20_method_18_code
def yX1_blanks : MethodName := ⟨RX1, "blanks", "()V"⟩
def dkwX1_blanks_0 : List UInt8 := [42, 182, 0, 96, 16, 32, 160, 0, 16, 42, 89, 180, 0, 93, 4, 96, 181, 0, 93, 167, 255, 237, 177]
abbrev dktX1_blanks_0 : List UInt8 := dkwX1_blanks_0 ++ []
theorem dksX1_blanks_0 : cX1_blanks.data.toList.drop 0 = dktX1_blanks_0 := by decide +kernel
theorem dX1_blanks_0 : decode cX1_blanks 0 = .ok (.aload_n 0, 1) := dk_42 (dk_at dksX1_blanks_0 0 rfl rfl)
theorem dX1_blanks_1 : decode cX1_blanks 1 = .ok (.invokevirtual 96, 3) := dk_182 0 96 (dk_at dksX1_blanks_0 1 rfl rfl)
theorem dX1_blanks_4 : decode cX1_blanks 4 = .ok (.bipush 32, 2) := dk_16 32 (dk_at dksX1_blanks_0 4 rfl rfl)
theorem dX1_blanks_6 : decode cX1_blanks 6 = .ok (.if_icmp .ne 16, 3) := dk_160 0 16 (dk_at dksX1_blanks_0 6 rfl rfl)
theorem dX1_blanks_9 : decode cX1_blanks 9 = .ok (.aload_n 0, 1) := dk_42 (dk_at dksX1_blanks_0 9 rfl rfl)
theorem dX1_blanks_10 : decode cX1_blanks 10 = .ok (.dup, 1) := dk_89 (dk_at dksX1_blanks_0 10 rfl rfl)
theorem dX1_blanks_11 : decode cX1_blanks 11 = .ok (.getfield 93, 3) := dk_180 0 93 (dk_at dksX1_blanks_0 11 rfl rfl)
theorem dX1_blanks_14 : decode cX1_blanks 14 = .ok (.iconst 1, 1) := dk_4 (dk_at dksX1_blanks_0 14 rfl rfl)
theorem dX1_blanks_15 : decode cX1_blanks 15 = .ok (.iadd, 1) := dk_96 (dk_at dksX1_blanks_0 15 rfl rfl)
theorem dX1_blanks_16 : decode cX1_blanks 16 = .ok (.putfield 93, 3) := dk_181 0 93 (dk_at dksX1_blanks_0 16 rfl rfl)
theorem dX1_blanks_19 : decode cX1_blanks 19 = .ok (.goto (-19), 3) := dk_167 255 237 (dk_at dksX1_blanks_0 19 rfl rfl)
theorem dX1_blanks_22 : decode cX1_blanks 22 = .ok (.return_, 1) := dk_177 (dk_at dksX1_blanks_0 22 rfl rfl)
abbrev cX1_next : ByteArray := prog_20_method_17_code
def yX1_next : MethodName := ⟨RX1, "next", "()I"⟩
def dkwX1_next_1 : List UInt8 := [172]
abbrev dktX1_next_1 : List UInt8 := dkwX1_next_1 ++ []
def dkwX1_next_0 : List UInt8 := [42, 180, 0, 93, 42, 180, 0, 90, 162, 0, 15, 42, 180, 0, 19, 42, 180, 0, 93, 46, 167, 0, 4, 2]
abbrev dktX1_next_0 : List UInt8 := dkwX1_next_0 ++ dktX1_next_1
theorem dksX1_next_0 : cX1_next.data.toList.drop 0 = dktX1_next_0 := by decide +kernel
theorem dksX1_next_1 : cX1_next.data.toList.drop 24 = dktX1_next_1 := dk_seg dksX1_next_0 24 rfl rfl
theorem dX1_next_0 : decode cX1_next 0 = .ok (.aload_n 0, 1) := dk_42 (dk_at dksX1_next_0 0 rfl rfl)
theorem dX1_next_1 : decode cX1_next 1 = .ok (.getfield 93, 3) := dk_180 0 93 (dk_at dksX1_next_0 1 rfl rfl)
theorem dX1_next_4 : decode cX1_next 4 = .ok (.aload_n 0, 1) := dk_42 (dk_at dksX1_next_0 4 rfl rfl)
theorem dX1_next_5 : decode cX1_next 5 = .ok (.getfield 90, 3) := dk_180 0 90 (dk_at dksX1_next_0 5 rfl rfl)
theorem dX1_next_8 : decode cX1_next 8 = .ok (.if_icmp .ge 15, 3) := dk_162 0 15 (dk_at dksX1_next_0 8 rfl rfl)
theorem dX1_next_11 : decode cX1_next 11 = .ok (.aload_n 0, 1) := dk_42 (dk_at dksX1_next_0 11 rfl rfl)
theorem dX1_next_12 : decode cX1_next 12 = .ok (.getfield 19, 3) := dk_180 0 19 (dk_at dksX1_next_0 12 rfl rfl)
theorem dX1_next_15 : decode cX1_next 15 = .ok (.aload_n 0, 1) := dk_42 (dk_at dksX1_next_0 15 rfl rfl)
theorem dX1_next_16 : decode cX1_next 16 = .ok (.getfield 93, 3) := dk_180 0 93 (dk_at dksX1_next_0 16 rfl rfl)
theorem dX1_next_19 : decode cX1_next 19 = .ok (.iaload, 1) := dk_46 (dk_at dksX1_next_0 19 rfl rfl)
theorem dX1_next_20 : decode cX1_next 20 = .ok (.goto 4, 3) := dk_167 0 4 (dk_at dksX1_next_0 20 rfl rfl)
theorem dX1_next_23 : decode cX1_next 23 = .ok (.iconst (-1), 1) := dk_2 (dk_at dksX1_next_0 23 rfl rfl)
theorem dX1_next_24 : decode cX1_next 24 = .ok (.ireturn, 1) := dk_172 (dk_at dksX1_next_1 0 rfl rfl)
abbrev cX1_readsEdge : ByteArray := prog_20_method_23_code
def yX1_readsEdge : MethodName := ⟨RX1, "readsEdge", "()V"⟩
def dkwX1_readsEdge_12 : List UInt8 := [180, 0, 114, 4, 96, 181, 0, 114, 177]
abbrev dktX1_readsEdge_12 : List UInt8 := dkwX1_readsEdge_12 ++ []
def dkwX1_readsEdge_11 : List UInt8 := [167, 0, 4, 4, 79, 42, 16, 59, 182, 0, 120, 154, 0, 11, 42, 42, 180, 0, 93, 182, 0, 106, 42, 89]
abbrev dktX1_readsEdge_11 : List UInt8 := dkwX1_readsEdge_11 ++ dktX1_readsEdge_12
def dkwX1_readsEdge_10 : List UInt8 := [182, 0, 106, 42, 180, 0, 34, 27, 16, 6, 96, 21, 4, 153, 0, 13, 42, 4, 16, 30, 182, 0, 123]
abbrev dktX1_readsEdge_10 : List UInt8 := dkwX1_readsEdge_10 ++ dktX1_readsEdge_11
def dkwX1_readsEdge_9 : List UInt8 := [167, 0, 4, 4, 79, 21, 4, 153, 0, 20, 42, 16, 47, 182, 0, 120, 154, 0, 11, 42, 42, 180, 0, 93]
abbrev dktX1_readsEdge_9 : List UInt8 := dkwX1_readsEdge_9 ++ dktX1_readsEdge_10
def dkwX1_readsEdge_8 : List UInt8 := [182, 0, 120, 54, 4, 42, 180, 0, 34, 27, 8, 96, 21, 4, 153, 0, 13, 42, 4, 16, 30, 182, 0, 123]
abbrev dktX1_readsEdge_8 : List UInt8 := dkwX1_readsEdge_8 ++ dktX1_readsEdge_9
def dkwX1_readsEdge_7 : List UInt8 := [42, 180, 0, 34, 27, 6, 96, 21, 4, 153, 0, 9, 21, 5, 116, 167, 0, 5, 21, 5, 79, 42, 16, 114]
abbrev dktX1_readsEdge_7 : List UInt8 := dkwX1_readsEdge_7 ++ dktX1_readsEdge_8
def dkwX1_readsEdge_6 : List UInt8 := [153, 0, 45, 42, 16, 45, 182, 0, 120, 54, 4, 42, 16, 48, 16, 57, 182, 0, 117, 16, 48, 100, 54, 5]
abbrev dktX1_readsEdge_6 : List UInt8 := dkwX1_readsEdge_6 ++ dktX1_readsEdge_7
def dkwX1_readsEdge_5 : List UInt8 := [16, 48, 100, 167, 0, 4, 4, 79, 42, 180, 0, 34, 27, 6, 96, 3, 79, 42, 16, 115, 182, 0, 120]
abbrev dktX1_readsEdge_5 : List UInt8 := dkwX1_readsEdge_5 ++ dktX1_readsEdge_6
def dkwX1_readsEdge_4 : List UInt8 := [42, 180, 0, 34, 27, 7, 96, 42, 16, 116, 182, 0, 120, 153, 0, 17, 42, 16, 49, 16, 57, 182, 0, 117]
abbrev dktX1_readsEdge_4 : List UInt8 := dkwX1_readsEdge_4 ++ dktX1_readsEdge_5
def dkwX1_readsEdge_3 : List UInt8 := [16, 99, 182, 0, 123, 62, 42, 180, 0, 34, 27, 5, 96, 28, 153, 0, 8, 29, 116, 167, 0, 4, 29, 79]
abbrev dktX1_readsEdge_3 : List UInt8 := dkwX1_readsEdge_3 ++ dktX1_readsEdge_4
def dkwX1_readsEdge_2 : List UInt8 := [4, 96, 42, 16, 97, 16, 104, 182, 0, 117, 16, 97, 100, 79, 42, 16, 45, 182, 0, 120, 61, 42, 3]
abbrev dktX1_readsEdge_2 : List UInt8 := dkwX1_readsEdge_2 ++ dktX1_readsEdge_3
def dkwX1_readsEdge_1 : List UInt8 := [104, 60, 42, 180, 0, 34, 27, 42, 16, 97, 16, 104, 182, 0, 117, 16, 97, 100, 79, 42, 180, 0, 34, 27]
abbrev dktX1_readsEdge_1 : List UInt8 := dkwX1_readsEdge_1 ++ dktX1_readsEdge_2
def dkwX1_readsEdge_0 : List UInt8 := [42, 180, 0, 114, 16, 16, 160, 0, 12, 42, 42, 180, 0, 93, 182, 0, 106, 177, 16, 7, 42, 180, 0, 114]
abbrev dktX1_readsEdge_0 : List UInt8 := dkwX1_readsEdge_0 ++ dktX1_readsEdge_1
theorem dksX1_readsEdge_0 : cX1_readsEdge.data.toList.drop 0 = dktX1_readsEdge_0 := by decide +kernel
theorem dksX1_readsEdge_1 : cX1_readsEdge.data.toList.drop 24 = dktX1_readsEdge_1 := dk_seg dksX1_readsEdge_0 24 rfl rfl
theorem dksX1_readsEdge_2 : cX1_readsEdge.data.toList.drop 48 = dktX1_readsEdge_2 := dk_seg dksX1_readsEdge_1 24 rfl rfl
theorem dksX1_readsEdge_3 : cX1_readsEdge.data.toList.drop 71 = dktX1_readsEdge_3 := dk_seg dksX1_readsEdge_2 23 rfl rfl
theorem dksX1_readsEdge_4 : cX1_readsEdge.data.toList.drop 95 = dktX1_readsEdge_4 := dk_seg dksX1_readsEdge_3 24 rfl rfl
theorem dksX1_readsEdge_5 : cX1_readsEdge.data.toList.drop 119 = dktX1_readsEdge_5 := dk_seg dksX1_readsEdge_4 24 rfl rfl
theorem dksX1_readsEdge_6 : cX1_readsEdge.data.toList.drop 142 = dktX1_readsEdge_6 := dk_seg dksX1_readsEdge_5 23 rfl rfl
theorem dksX1_readsEdge_7 : cX1_readsEdge.data.toList.drop 166 = dktX1_readsEdge_7 := dk_seg dksX1_readsEdge_6 24 rfl rfl
theorem dksX1_readsEdge_8 : cX1_readsEdge.data.toList.drop 190 = dktX1_readsEdge_8 := dk_seg dksX1_readsEdge_7 24 rfl rfl
theorem dksX1_readsEdge_9 : cX1_readsEdge.data.toList.drop 214 = dktX1_readsEdge_9 := dk_seg dksX1_readsEdge_8 24 rfl rfl
theorem dksX1_readsEdge_10 : cX1_readsEdge.data.toList.drop 238 = dktX1_readsEdge_10 := dk_seg dksX1_readsEdge_9 24 rfl rfl
theorem dksX1_readsEdge_11 : cX1_readsEdge.data.toList.drop 261 = dktX1_readsEdge_11 := dk_seg dksX1_readsEdge_10 23 rfl rfl
theorem dksX1_readsEdge_12 : cX1_readsEdge.data.toList.drop 285 = dktX1_readsEdge_12 := dk_seg dksX1_readsEdge_11 24 rfl rfl
theorem dX1_readsEdge_0 : decode cX1_readsEdge 0 = .ok (.aload_n 0, 1) := dk_42 (dk_at dksX1_readsEdge_0 0 rfl rfl)
theorem dX1_readsEdge_1 : decode cX1_readsEdge 1 = .ok (.getfield 114, 3) := dk_180 0 114 (dk_at dksX1_readsEdge_0 1 rfl rfl)
theorem dX1_readsEdge_4 : decode cX1_readsEdge 4 = .ok (.bipush 16, 2) := dk_16 16 (dk_at dksX1_readsEdge_0 4 rfl rfl)
theorem dX1_readsEdge_6 : decode cX1_readsEdge 6 = .ok (.if_icmp .ne 12, 3) := dk_160 0 12 (dk_at dksX1_readsEdge_0 6 rfl rfl)
theorem dX1_readsEdge_9 : decode cX1_readsEdge 9 = .ok (.aload_n 0, 1) := dk_42 (dk_at dksX1_readsEdge_0 9 rfl rfl)
theorem dX1_readsEdge_10 : decode cX1_readsEdge 10 = .ok (.aload_n 0, 1) := dk_42 (dk_at dksX1_readsEdge_0 10 rfl rfl)
theorem dX1_readsEdge_11 : decode cX1_readsEdge 11 = .ok (.getfield 93, 3) := dk_180 0 93 (dk_at dksX1_readsEdge_0 11 rfl rfl)
theorem dX1_readsEdge_14 : decode cX1_readsEdge 14 = .ok (.invokevirtual 106, 3) := dk_182 0 106 (dk_at dksX1_readsEdge_0 14 rfl rfl)
theorem dX1_readsEdge_17 : decode cX1_readsEdge 17 = .ok (.return_, 1) := dk_177 (dk_at dksX1_readsEdge_0 17 rfl rfl)
theorem dX1_readsEdge_18 : decode cX1_readsEdge 18 = .ok (.bipush 7, 2) := dk_16 7 (dk_at dksX1_readsEdge_0 18 rfl rfl)
theorem dX1_readsEdge_20 : decode cX1_readsEdge 20 = .ok (.aload_n 0, 1) := dk_42 (dk_at dksX1_readsEdge_0 20 rfl rfl)
theorem dX1_readsEdge_21 : decode cX1_readsEdge 21 = .ok (.getfield 114, 3) := dk_180 0 114 (dk_at dksX1_readsEdge_0 21 rfl rfl)
theorem dX1_readsEdge_24 : decode cX1_readsEdge 24 = .ok (.imul, 1) := dk_104 (dk_at dksX1_readsEdge_1 0 rfl rfl)
theorem dX1_readsEdge_25 : decode cX1_readsEdge 25 = .ok (.istore_n 1, 1) := dk_60 (dk_at dksX1_readsEdge_1 1 rfl rfl)
theorem dX1_readsEdge_26 : decode cX1_readsEdge 26 = .ok (.aload_n 0, 1) := dk_42 (dk_at dksX1_readsEdge_1 2 rfl rfl)
theorem dX1_readsEdge_27 : decode cX1_readsEdge 27 = .ok (.getfield 34, 3) := dk_180 0 34 (dk_at dksX1_readsEdge_1 3 rfl rfl)
theorem dX1_readsEdge_30 : decode cX1_readsEdge 30 = .ok (.iload_n 1, 1) := dk_27 (dk_at dksX1_readsEdge_1 6 rfl rfl)
theorem dX1_readsEdge_31 : decode cX1_readsEdge 31 = .ok (.aload_n 0, 1) := dk_42 (dk_at dksX1_readsEdge_1 7 rfl rfl)
theorem dX1_readsEdge_32 : decode cX1_readsEdge 32 = .ok (.bipush 97, 2) := dk_16 97 (dk_at dksX1_readsEdge_1 8 rfl rfl)
theorem dX1_readsEdge_34 : decode cX1_readsEdge 34 = .ok (.bipush 104, 2) := dk_16 104 (dk_at dksX1_readsEdge_1 10 rfl rfl)
theorem dX1_readsEdge_36 : decode cX1_readsEdge 36 = .ok (.invokevirtual 117, 3) := dk_182 0 117 (dk_at dksX1_readsEdge_1 12 rfl rfl)
theorem dX1_readsEdge_39 : decode cX1_readsEdge 39 = .ok (.bipush 97, 2) := dk_16 97 (dk_at dksX1_readsEdge_1 15 rfl rfl)
theorem dX1_readsEdge_41 : decode cX1_readsEdge 41 = .ok (.isub, 1) := dk_100 (dk_at dksX1_readsEdge_1 17 rfl rfl)
theorem dX1_readsEdge_42 : decode cX1_readsEdge 42 = .ok (.iastore, 1) := dk_79 (dk_at dksX1_readsEdge_1 18 rfl rfl)
theorem dX1_readsEdge_43 : decode cX1_readsEdge 43 = .ok (.aload_n 0, 1) := dk_42 (dk_at dksX1_readsEdge_1 19 rfl rfl)
theorem dX1_readsEdge_44 : decode cX1_readsEdge 44 = .ok (.getfield 34, 3) := dk_180 0 34 (dk_at dksX1_readsEdge_1 20 rfl rfl)
theorem dX1_readsEdge_47 : decode cX1_readsEdge 47 = .ok (.iload_n 1, 1) := dk_27 (dk_at dksX1_readsEdge_1 23 rfl rfl)
theorem dX1_readsEdge_48 : decode cX1_readsEdge 48 = .ok (.iconst 1, 1) := dk_4 (dk_at dksX1_readsEdge_2 0 rfl rfl)
theorem dX1_readsEdge_49 : decode cX1_readsEdge 49 = .ok (.iadd, 1) := dk_96 (dk_at dksX1_readsEdge_2 1 rfl rfl)
theorem dX1_readsEdge_50 : decode cX1_readsEdge 50 = .ok (.aload_n 0, 1) := dk_42 (dk_at dksX1_readsEdge_2 2 rfl rfl)
theorem dX1_readsEdge_51 : decode cX1_readsEdge 51 = .ok (.bipush 97, 2) := dk_16 97 (dk_at dksX1_readsEdge_2 3 rfl rfl)
theorem dX1_readsEdge_53 : decode cX1_readsEdge 53 = .ok (.bipush 104, 2) := dk_16 104 (dk_at dksX1_readsEdge_2 5 rfl rfl)
theorem dX1_readsEdge_55 : decode cX1_readsEdge 55 = .ok (.invokevirtual 117, 3) := dk_182 0 117 (dk_at dksX1_readsEdge_2 7 rfl rfl)
theorem dX1_readsEdge_58 : decode cX1_readsEdge 58 = .ok (.bipush 97, 2) := dk_16 97 (dk_at dksX1_readsEdge_2 10 rfl rfl)
theorem dX1_readsEdge_60 : decode cX1_readsEdge 60 = .ok (.isub, 1) := dk_100 (dk_at dksX1_readsEdge_2 12 rfl rfl)
theorem dX1_readsEdge_61 : decode cX1_readsEdge 61 = .ok (.iastore, 1) := dk_79 (dk_at dksX1_readsEdge_2 13 rfl rfl)
theorem dX1_readsEdge_62 : decode cX1_readsEdge 62 = .ok (.aload_n 0, 1) := dk_42 (dk_at dksX1_readsEdge_2 14 rfl rfl)
theorem dX1_readsEdge_63 : decode cX1_readsEdge 63 = .ok (.bipush 45, 2) := dk_16 45 (dk_at dksX1_readsEdge_2 15 rfl rfl)
theorem dX1_readsEdge_65 : decode cX1_readsEdge 65 = .ok (.invokevirtual 120, 3) := dk_182 0 120 (dk_at dksX1_readsEdge_2 17 rfl rfl)
theorem dX1_readsEdge_68 : decode cX1_readsEdge 68 = .ok (.istore_n 2, 1) := dk_61 (dk_at dksX1_readsEdge_2 20 rfl rfl)
theorem dX1_readsEdge_69 : decode cX1_readsEdge 69 = .ok (.aload_n 0, 1) := dk_42 (dk_at dksX1_readsEdge_2 21 rfl rfl)
theorem dX1_readsEdge_70 : decode cX1_readsEdge 70 = .ok (.iconst 0, 1) := dk_3 (dk_at dksX1_readsEdge_2 22 rfl rfl)
theorem dX1_readsEdge_71 : decode cX1_readsEdge 71 = .ok (.bipush 99, 2) := dk_16 99 (dk_at dksX1_readsEdge_3 0 rfl rfl)
theorem dX1_readsEdge_73 : decode cX1_readsEdge 73 = .ok (.invokevirtual 123, 3) := dk_182 0 123 (dk_at dksX1_readsEdge_3 2 rfl rfl)
theorem dX1_readsEdge_76 : decode cX1_readsEdge 76 = .ok (.istore_n 3, 1) := dk_62 (dk_at dksX1_readsEdge_3 5 rfl rfl)
theorem dX1_readsEdge_77 : decode cX1_readsEdge 77 = .ok (.aload_n 0, 1) := dk_42 (dk_at dksX1_readsEdge_3 6 rfl rfl)
theorem dX1_readsEdge_78 : decode cX1_readsEdge 78 = .ok (.getfield 34, 3) := dk_180 0 34 (dk_at dksX1_readsEdge_3 7 rfl rfl)
theorem dX1_readsEdge_81 : decode cX1_readsEdge 81 = .ok (.iload_n 1, 1) := dk_27 (dk_at dksX1_readsEdge_3 10 rfl rfl)
theorem dX1_readsEdge_82 : decode cX1_readsEdge 82 = .ok (.iconst 2, 1) := dk_5 (dk_at dksX1_readsEdge_3 11 rfl rfl)
theorem dX1_readsEdge_83 : decode cX1_readsEdge 83 = .ok (.iadd, 1) := dk_96 (dk_at dksX1_readsEdge_3 12 rfl rfl)
theorem dX1_readsEdge_84 : decode cX1_readsEdge 84 = .ok (.iload_n 2, 1) := dk_28 (dk_at dksX1_readsEdge_3 13 rfl rfl)
theorem dX1_readsEdge_85 : decode cX1_readsEdge 85 = .ok (.ifCond .eq 8, 3) := dk_153 0 8 (dk_at dksX1_readsEdge_3 14 rfl rfl)
theorem dX1_readsEdge_88 : decode cX1_readsEdge 88 = .ok (.iload_n 3, 1) := dk_29 (dk_at dksX1_readsEdge_3 17 rfl rfl)
theorem dX1_readsEdge_89 : decode cX1_readsEdge 89 = .ok (.ineg, 1) := dk_116 (dk_at dksX1_readsEdge_3 18 rfl rfl)
theorem dX1_readsEdge_90 : decode cX1_readsEdge 90 = .ok (.goto 4, 3) := dk_167 0 4 (dk_at dksX1_readsEdge_3 19 rfl rfl)
theorem dX1_readsEdge_93 : decode cX1_readsEdge 93 = .ok (.iload_n 3, 1) := dk_29 (dk_at dksX1_readsEdge_3 22 rfl rfl)
theorem dX1_readsEdge_94 : decode cX1_readsEdge 94 = .ok (.iastore, 1) := dk_79 (dk_at dksX1_readsEdge_3 23 rfl rfl)
theorem dX1_readsEdge_95 : decode cX1_readsEdge 95 = .ok (.aload_n 0, 1) := dk_42 (dk_at dksX1_readsEdge_4 0 rfl rfl)
theorem dX1_readsEdge_96 : decode cX1_readsEdge 96 = .ok (.getfield 34, 3) := dk_180 0 34 (dk_at dksX1_readsEdge_4 1 rfl rfl)
theorem dX1_readsEdge_99 : decode cX1_readsEdge 99 = .ok (.iload_n 1, 1) := dk_27 (dk_at dksX1_readsEdge_4 4 rfl rfl)
theorem dX1_readsEdge_100 : decode cX1_readsEdge 100 = .ok (.iconst 4, 1) := dk_7 (dk_at dksX1_readsEdge_4 5 rfl rfl)
theorem dX1_readsEdge_101 : decode cX1_readsEdge 101 = .ok (.iadd, 1) := dk_96 (dk_at dksX1_readsEdge_4 6 rfl rfl)
theorem dX1_readsEdge_102 : decode cX1_readsEdge 102 = .ok (.aload_n 0, 1) := dk_42 (dk_at dksX1_readsEdge_4 7 rfl rfl)
theorem dX1_readsEdge_103 : decode cX1_readsEdge 103 = .ok (.bipush 116, 2) := dk_16 116 (dk_at dksX1_readsEdge_4 8 rfl rfl)
theorem dX1_readsEdge_105 : decode cX1_readsEdge 105 = .ok (.invokevirtual 120, 3) := dk_182 0 120 (dk_at dksX1_readsEdge_4 10 rfl rfl)
theorem dX1_readsEdge_108 : decode cX1_readsEdge 108 = .ok (.ifCond .eq 17, 3) := dk_153 0 17 (dk_at dksX1_readsEdge_4 13 rfl rfl)
theorem dX1_readsEdge_111 : decode cX1_readsEdge 111 = .ok (.aload_n 0, 1) := dk_42 (dk_at dksX1_readsEdge_4 16 rfl rfl)
theorem dX1_readsEdge_112 : decode cX1_readsEdge 112 = .ok (.bipush 49, 2) := dk_16 49 (dk_at dksX1_readsEdge_4 17 rfl rfl)
theorem dX1_readsEdge_114 : decode cX1_readsEdge 114 = .ok (.bipush 57, 2) := dk_16 57 (dk_at dksX1_readsEdge_4 19 rfl rfl)
theorem dX1_readsEdge_116 : decode cX1_readsEdge 116 = .ok (.invokevirtual 117, 3) := dk_182 0 117 (dk_at dksX1_readsEdge_4 21 rfl rfl)
theorem dX1_readsEdge_119 : decode cX1_readsEdge 119 = .ok (.bipush 48, 2) := dk_16 48 (dk_at dksX1_readsEdge_5 0 rfl rfl)
theorem dX1_readsEdge_121 : decode cX1_readsEdge 121 = .ok (.isub, 1) := dk_100 (dk_at dksX1_readsEdge_5 2 rfl rfl)
theorem dX1_readsEdge_122 : decode cX1_readsEdge 122 = .ok (.goto 4, 3) := dk_167 0 4 (dk_at dksX1_readsEdge_5 3 rfl rfl)
theorem dX1_readsEdge_125 : decode cX1_readsEdge 125 = .ok (.iconst 1, 1) := dk_4 (dk_at dksX1_readsEdge_5 6 rfl rfl)
theorem dX1_readsEdge_126 : decode cX1_readsEdge 126 = .ok (.iastore, 1) := dk_79 (dk_at dksX1_readsEdge_5 7 rfl rfl)
theorem dX1_readsEdge_127 : decode cX1_readsEdge 127 = .ok (.aload_n 0, 1) := dk_42 (dk_at dksX1_readsEdge_5 8 rfl rfl)
theorem dX1_readsEdge_128 : decode cX1_readsEdge 128 = .ok (.getfield 34, 3) := dk_180 0 34 (dk_at dksX1_readsEdge_5 9 rfl rfl)
theorem dX1_readsEdge_131 : decode cX1_readsEdge 131 = .ok (.iload_n 1, 1) := dk_27 (dk_at dksX1_readsEdge_5 12 rfl rfl)
theorem dX1_readsEdge_132 : decode cX1_readsEdge 132 = .ok (.iconst 3, 1) := dk_6 (dk_at dksX1_readsEdge_5 13 rfl rfl)
theorem dX1_readsEdge_133 : decode cX1_readsEdge 133 = .ok (.iadd, 1) := dk_96 (dk_at dksX1_readsEdge_5 14 rfl rfl)
theorem dX1_readsEdge_134 : decode cX1_readsEdge 134 = .ok (.iconst 0, 1) := dk_3 (dk_at dksX1_readsEdge_5 15 rfl rfl)
theorem dX1_readsEdge_135 : decode cX1_readsEdge 135 = .ok (.iastore, 1) := dk_79 (dk_at dksX1_readsEdge_5 16 rfl rfl)
theorem dX1_readsEdge_136 : decode cX1_readsEdge 136 = .ok (.aload_n 0, 1) := dk_42 (dk_at dksX1_readsEdge_5 17 rfl rfl)
theorem dX1_readsEdge_137 : decode cX1_readsEdge 137 = .ok (.bipush 115, 2) := dk_16 115 (dk_at dksX1_readsEdge_5 18 rfl rfl)
theorem dX1_readsEdge_139 : decode cX1_readsEdge 139 = .ok (.invokevirtual 120, 3) := dk_182 0 120 (dk_at dksX1_readsEdge_5 20 rfl rfl)
theorem dX1_readsEdge_142 : decode cX1_readsEdge 142 = .ok (.ifCond .eq 45, 3) := dk_153 0 45 (dk_at dksX1_readsEdge_6 0 rfl rfl)
theorem dX1_readsEdge_145 : decode cX1_readsEdge 145 = .ok (.aload_n 0, 1) := dk_42 (dk_at dksX1_readsEdge_6 3 rfl rfl)
theorem dX1_readsEdge_146 : decode cX1_readsEdge 146 = .ok (.bipush 45, 2) := dk_16 45 (dk_at dksX1_readsEdge_6 4 rfl rfl)
theorem dX1_readsEdge_148 : decode cX1_readsEdge 148 = .ok (.invokevirtual 120, 3) := dk_182 0 120 (dk_at dksX1_readsEdge_6 6 rfl rfl)
theorem dX1_readsEdge_151 : decode cX1_readsEdge 151 = .ok (.istore 4, 2) := dk_54 4 (dk_at dksX1_readsEdge_6 9 rfl rfl)
theorem dX1_readsEdge_153 : decode cX1_readsEdge 153 = .ok (.aload_n 0, 1) := dk_42 (dk_at dksX1_readsEdge_6 11 rfl rfl)
theorem dX1_readsEdge_154 : decode cX1_readsEdge 154 = .ok (.bipush 48, 2) := dk_16 48 (dk_at dksX1_readsEdge_6 12 rfl rfl)
theorem dX1_readsEdge_156 : decode cX1_readsEdge 156 = .ok (.bipush 57, 2) := dk_16 57 (dk_at dksX1_readsEdge_6 14 rfl rfl)
theorem dX1_readsEdge_158 : decode cX1_readsEdge 158 = .ok (.invokevirtual 117, 3) := dk_182 0 117 (dk_at dksX1_readsEdge_6 16 rfl rfl)
theorem dX1_readsEdge_161 : decode cX1_readsEdge 161 = .ok (.bipush 48, 2) := dk_16 48 (dk_at dksX1_readsEdge_6 19 rfl rfl)
theorem dX1_readsEdge_163 : decode cX1_readsEdge 163 = .ok (.isub, 1) := dk_100 (dk_at dksX1_readsEdge_6 21 rfl rfl)
theorem dX1_readsEdge_164 : decode cX1_readsEdge 164 = .ok (.istore 5, 2) := dk_54 5 (dk_at dksX1_readsEdge_6 22 rfl rfl)
theorem dX1_readsEdge_166 : decode cX1_readsEdge 166 = .ok (.aload_n 0, 1) := dk_42 (dk_at dksX1_readsEdge_7 0 rfl rfl)
theorem dX1_readsEdge_167 : decode cX1_readsEdge 167 = .ok (.getfield 34, 3) := dk_180 0 34 (dk_at dksX1_readsEdge_7 1 rfl rfl)
theorem dX1_readsEdge_170 : decode cX1_readsEdge 170 = .ok (.iload_n 1, 1) := dk_27 (dk_at dksX1_readsEdge_7 4 rfl rfl)
theorem dX1_readsEdge_171 : decode cX1_readsEdge 171 = .ok (.iconst 3, 1) := dk_6 (dk_at dksX1_readsEdge_7 5 rfl rfl)
theorem dX1_readsEdge_172 : decode cX1_readsEdge 172 = .ok (.iadd, 1) := dk_96 (dk_at dksX1_readsEdge_7 6 rfl rfl)
theorem dX1_readsEdge_173 : decode cX1_readsEdge 173 = .ok (.iload 4, 2) := dk_21 4 (dk_at dksX1_readsEdge_7 7 rfl rfl)
theorem dX1_readsEdge_175 : decode cX1_readsEdge 175 = .ok (.ifCond .eq 9, 3) := dk_153 0 9 (dk_at dksX1_readsEdge_7 9 rfl rfl)
theorem dX1_readsEdge_178 : decode cX1_readsEdge 178 = .ok (.iload 5, 2) := dk_21 5 (dk_at dksX1_readsEdge_7 12 rfl rfl)
theorem dX1_readsEdge_180 : decode cX1_readsEdge 180 = .ok (.ineg, 1) := dk_116 (dk_at dksX1_readsEdge_7 14 rfl rfl)
theorem dX1_readsEdge_181 : decode cX1_readsEdge 181 = .ok (.goto 5, 3) := dk_167 0 5 (dk_at dksX1_readsEdge_7 15 rfl rfl)
theorem dX1_readsEdge_184 : decode cX1_readsEdge 184 = .ok (.iload 5, 2) := dk_21 5 (dk_at dksX1_readsEdge_7 18 rfl rfl)
theorem dX1_readsEdge_186 : decode cX1_readsEdge 186 = .ok (.iastore, 1) := dk_79 (dk_at dksX1_readsEdge_7 20 rfl rfl)
theorem dX1_readsEdge_187 : decode cX1_readsEdge 187 = .ok (.aload_n 0, 1) := dk_42 (dk_at dksX1_readsEdge_7 21 rfl rfl)
theorem dX1_readsEdge_188 : decode cX1_readsEdge 188 = .ok (.bipush 114, 2) := dk_16 114 (dk_at dksX1_readsEdge_7 22 rfl rfl)
theorem dX1_readsEdge_190 : decode cX1_readsEdge 190 = .ok (.invokevirtual 120, 3) := dk_182 0 120 (dk_at dksX1_readsEdge_8 0 rfl rfl)
theorem dX1_readsEdge_193 : decode cX1_readsEdge 193 = .ok (.istore 4, 2) := dk_54 4 (dk_at dksX1_readsEdge_8 3 rfl rfl)
theorem dX1_readsEdge_195 : decode cX1_readsEdge 195 = .ok (.aload_n 0, 1) := dk_42 (dk_at dksX1_readsEdge_8 5 rfl rfl)
theorem dX1_readsEdge_196 : decode cX1_readsEdge 196 = .ok (.getfield 34, 3) := dk_180 0 34 (dk_at dksX1_readsEdge_8 6 rfl rfl)
theorem dX1_readsEdge_199 : decode cX1_readsEdge 199 = .ok (.iload_n 1, 1) := dk_27 (dk_at dksX1_readsEdge_8 9 rfl rfl)
theorem dX1_readsEdge_200 : decode cX1_readsEdge 200 = .ok (.iconst 5, 1) := dk_8 (dk_at dksX1_readsEdge_8 10 rfl rfl)
theorem dX1_readsEdge_201 : decode cX1_readsEdge 201 = .ok (.iadd, 1) := dk_96 (dk_at dksX1_readsEdge_8 11 rfl rfl)
theorem dX1_readsEdge_202 : decode cX1_readsEdge 202 = .ok (.iload 4, 2) := dk_21 4 (dk_at dksX1_readsEdge_8 12 rfl rfl)
theorem dX1_readsEdge_204 : decode cX1_readsEdge 204 = .ok (.ifCond .eq 13, 3) := dk_153 0 13 (dk_at dksX1_readsEdge_8 14 rfl rfl)
theorem dX1_readsEdge_207 : decode cX1_readsEdge 207 = .ok (.aload_n 0, 1) := dk_42 (dk_at dksX1_readsEdge_8 17 rfl rfl)
theorem dX1_readsEdge_208 : decode cX1_readsEdge 208 = .ok (.iconst 1, 1) := dk_4 (dk_at dksX1_readsEdge_8 18 rfl rfl)
theorem dX1_readsEdge_209 : decode cX1_readsEdge 209 = .ok (.bipush 30, 2) := dk_16 30 (dk_at dksX1_readsEdge_8 19 rfl rfl)
theorem dX1_readsEdge_211 : decode cX1_readsEdge 211 = .ok (.invokevirtual 123, 3) := dk_182 0 123 (dk_at dksX1_readsEdge_8 21 rfl rfl)
theorem dX1_readsEdge_214 : decode cX1_readsEdge 214 = .ok (.goto 4, 3) := dk_167 0 4 (dk_at dksX1_readsEdge_9 0 rfl rfl)
theorem dX1_readsEdge_217 : decode cX1_readsEdge 217 = .ok (.iconst 1, 1) := dk_4 (dk_at dksX1_readsEdge_9 3 rfl rfl)
theorem dX1_readsEdge_218 : decode cX1_readsEdge 218 = .ok (.iastore, 1) := dk_79 (dk_at dksX1_readsEdge_9 4 rfl rfl)
theorem dX1_readsEdge_219 : decode cX1_readsEdge 219 = .ok (.iload 4, 2) := dk_21 4 (dk_at dksX1_readsEdge_9 5 rfl rfl)
theorem dX1_readsEdge_221 : decode cX1_readsEdge 221 = .ok (.ifCond .eq 20, 3) := dk_153 0 20 (dk_at dksX1_readsEdge_9 7 rfl rfl)
theorem dX1_readsEdge_224 : decode cX1_readsEdge 224 = .ok (.aload_n 0, 1) := dk_42 (dk_at dksX1_readsEdge_9 10 rfl rfl)
theorem dX1_readsEdge_225 : decode cX1_readsEdge 225 = .ok (.bipush 47, 2) := dk_16 47 (dk_at dksX1_readsEdge_9 11 rfl rfl)
theorem dX1_readsEdge_227 : decode cX1_readsEdge 227 = .ok (.invokevirtual 120, 3) := dk_182 0 120 (dk_at dksX1_readsEdge_9 13 rfl rfl)
theorem dX1_readsEdge_230 : decode cX1_readsEdge 230 = .ok (.ifCond .ne 11, 3) := dk_154 0 11 (dk_at dksX1_readsEdge_9 16 rfl rfl)
theorem dX1_readsEdge_233 : decode cX1_readsEdge 233 = .ok (.aload_n 0, 1) := dk_42 (dk_at dksX1_readsEdge_9 19 rfl rfl)
theorem dX1_readsEdge_234 : decode cX1_readsEdge 234 = .ok (.aload_n 0, 1) := dk_42 (dk_at dksX1_readsEdge_9 20 rfl rfl)
theorem dX1_readsEdge_235 : decode cX1_readsEdge 235 = .ok (.getfield 93, 3) := dk_180 0 93 (dk_at dksX1_readsEdge_9 21 rfl rfl)
theorem dX1_readsEdge_238 : decode cX1_readsEdge 238 = .ok (.invokevirtual 106, 3) := dk_182 0 106 (dk_at dksX1_readsEdge_10 0 rfl rfl)
theorem dX1_readsEdge_241 : decode cX1_readsEdge 241 = .ok (.aload_n 0, 1) := dk_42 (dk_at dksX1_readsEdge_10 3 rfl rfl)
theorem dX1_readsEdge_242 : decode cX1_readsEdge 242 = .ok (.getfield 34, 3) := dk_180 0 34 (dk_at dksX1_readsEdge_10 4 rfl rfl)
theorem dX1_readsEdge_245 : decode cX1_readsEdge 245 = .ok (.iload_n 1, 1) := dk_27 (dk_at dksX1_readsEdge_10 7 rfl rfl)
theorem dX1_readsEdge_246 : decode cX1_readsEdge 246 = .ok (.bipush 6, 2) := dk_16 6 (dk_at dksX1_readsEdge_10 8 rfl rfl)
theorem dX1_readsEdge_248 : decode cX1_readsEdge 248 = .ok (.iadd, 1) := dk_96 (dk_at dksX1_readsEdge_10 10 rfl rfl)
theorem dX1_readsEdge_249 : decode cX1_readsEdge 249 = .ok (.iload 4, 2) := dk_21 4 (dk_at dksX1_readsEdge_10 11 rfl rfl)
theorem dX1_readsEdge_251 : decode cX1_readsEdge 251 = .ok (.ifCond .eq 13, 3) := dk_153 0 13 (dk_at dksX1_readsEdge_10 13 rfl rfl)
theorem dX1_readsEdge_254 : decode cX1_readsEdge 254 = .ok (.aload_n 0, 1) := dk_42 (dk_at dksX1_readsEdge_10 16 rfl rfl)
theorem dX1_readsEdge_255 : decode cX1_readsEdge 255 = .ok (.iconst 1, 1) := dk_4 (dk_at dksX1_readsEdge_10 17 rfl rfl)
theorem dX1_readsEdge_256 : decode cX1_readsEdge 256 = .ok (.bipush 30, 2) := dk_16 30 (dk_at dksX1_readsEdge_10 18 rfl rfl)
theorem dX1_readsEdge_258 : decode cX1_readsEdge 258 = .ok (.invokevirtual 123, 3) := dk_182 0 123 (dk_at dksX1_readsEdge_10 20 rfl rfl)
theorem dX1_readsEdge_261 : decode cX1_readsEdge 261 = .ok (.goto 4, 3) := dk_167 0 4 (dk_at dksX1_readsEdge_11 0 rfl rfl)
theorem dX1_readsEdge_264 : decode cX1_readsEdge 264 = .ok (.iconst 1, 1) := dk_4 (dk_at dksX1_readsEdge_11 3 rfl rfl)
theorem dX1_readsEdge_265 : decode cX1_readsEdge 265 = .ok (.iastore, 1) := dk_79 (dk_at dksX1_readsEdge_11 4 rfl rfl)
theorem dX1_readsEdge_266 : decode cX1_readsEdge 266 = .ok (.aload_n 0, 1) := dk_42 (dk_at dksX1_readsEdge_11 5 rfl rfl)
theorem dX1_readsEdge_267 : decode cX1_readsEdge 267 = .ok (.bipush 59, 2) := dk_16 59 (dk_at dksX1_readsEdge_11 6 rfl rfl)
theorem dX1_readsEdge_269 : decode cX1_readsEdge 269 = .ok (.invokevirtual 120, 3) := dk_182 0 120 (dk_at dksX1_readsEdge_11 8 rfl rfl)
theorem dX1_readsEdge_272 : decode cX1_readsEdge 272 = .ok (.ifCond .ne 11, 3) := dk_154 0 11 (dk_at dksX1_readsEdge_11 11 rfl rfl)
theorem dX1_readsEdge_275 : decode cX1_readsEdge 275 = .ok (.aload_n 0, 1) := dk_42 (dk_at dksX1_readsEdge_11 14 rfl rfl)
theorem dX1_readsEdge_276 : decode cX1_readsEdge 276 = .ok (.aload_n 0, 1) := dk_42 (dk_at dksX1_readsEdge_11 15 rfl rfl)
theorem dX1_readsEdge_277 : decode cX1_readsEdge 277 = .ok (.getfield 93, 3) := dk_180 0 93 (dk_at dksX1_readsEdge_11 16 rfl rfl)
theorem dX1_readsEdge_280 : decode cX1_readsEdge 280 = .ok (.invokevirtual 106, 3) := dk_182 0 106 (dk_at dksX1_readsEdge_11 19 rfl rfl)
theorem dX1_readsEdge_283 : decode cX1_readsEdge 283 = .ok (.aload_n 0, 1) := dk_42 (dk_at dksX1_readsEdge_11 22 rfl rfl)
theorem dX1_readsEdge_284 : decode cX1_readsEdge 284 = .ok (.dup, 1) := dk_89 (dk_at dksX1_readsEdge_11 23 rfl rfl)
theorem dX1_readsEdge_285 : decode cX1_readsEdge 285 = .ok (.getfield 114, 3) := dk_180 0 114 (dk_at dksX1_readsEdge_12 0 rfl rfl)
theorem dX1_readsEdge_288 : decode cX1_readsEdge 288 = .ok (.iconst 1, 1) := dk_4 (dk_at dksX1_readsEdge_12 3 rfl rfl)
theorem dX1_readsEdge_289 : decode cX1_readsEdge 289 = .ok (.iadd, 1) := dk_96 (dk_at dksX1_readsEdge_12 4 rfl rfl)
theorem dX1_readsEdge_290 : decode cX1_readsEdge 290 = .ok (.putfield 114, 3) := dk_181 0 114 (dk_at dksX1_readsEdge_12 5 rfl rfl)
theorem dX1_readsEdge_293 : decode cX1_readsEdge 293 = .ok (.return_, 1) := dk_177 (dk_at dksX1_readsEdge_12 8 rfl rfl)
abbrev cX1_fails : ByteArray := prog_20_method_19_code
def yX1_fails : MethodName := ⟨RX1, "fails", "(I)V"⟩
def dkwX1_fails_0 : List UInt8 := [42, 42, 180, 0, 100, 18, 25, 160, 0, 7, 27, 167, 0, 7, 42, 180, 0, 100, 181, 0, 100, 177]
abbrev dktX1_fails_0 : List UInt8 := dkwX1_fails_0 ++ []
theorem dksX1_fails_0 : cX1_fails.data.toList.drop 0 = dktX1_fails_0 := by decide +kernel
theorem dX1_fails_0 : decode cX1_fails 0 = .ok (.aload_n 0, 1) := dk_42 (dk_at dksX1_fails_0 0 rfl rfl)
theorem dX1_fails_1 : decode cX1_fails 1 = .ok (.aload_n 0, 1) := dk_42 (dk_at dksX1_fails_0 1 rfl rfl)
theorem dX1_fails_2 : decode cX1_fails 2 = .ok (.getfield 100, 3) := dk_180 0 100 (dk_at dksX1_fails_0 2 rfl rfl)
theorem dX1_fails_5 : decode cX1_fails 5 = .ok (.ldc 25, 2) := dk_18 25 (dk_at dksX1_fails_0 5 rfl rfl)
theorem dX1_fails_7 : decode cX1_fails 7 = .ok (.if_icmp .ne 7, 3) := dk_160 0 7 (dk_at dksX1_fails_0 7 rfl rfl)
theorem dX1_fails_10 : decode cX1_fails 10 = .ok (.iload_n 1, 1) := dk_27 (dk_at dksX1_fails_0 10 rfl rfl)
theorem dX1_fails_11 : decode cX1_fails 11 = .ok (.goto 7, 3) := dk_167 0 7 (dk_at dksX1_fails_0 11 rfl rfl)
theorem dX1_fails_14 : decode cX1_fails 14 = .ok (.aload_n 0, 1) := dk_42 (dk_at dksX1_fails_0 14 rfl rfl)
theorem dX1_fails_15 : decode cX1_fails 15 = .ok (.getfield 100, 3) := dk_180 0 100 (dk_at dksX1_fails_0 15 rfl rfl)
theorem dX1_fails_18 : decode cX1_fails 18 = .ok (.putfield 100, 3) := dk_181 0 100 (dk_at dksX1_fails_0 18 rfl rfl)
theorem dX1_fails_21 : decode cX1_fails 21 = .ok (.return_, 1) := dk_177 (dk_at dksX1_fails_0 21 rfl rfl)
abbrev cX1_one : ByteArray := prog_20_method_21_code
def yX1_one : MethodName := ⟨RX1, "one", "(II)I"⟩
def dkwX1_one_2 : List UInt8 := [182, 0, 106, 27, 172]
abbrev dktX1_one_2 : List UInt8 := dkwX1_one_2 ++ []
def dkwX1_one_1 : List UInt8 := [153, 0, 19, 42, 89, 180, 0, 93, 4, 96, 181, 0, 93, 42, 182, 0, 103, 29, 172, 42, 42, 180, 0, 93]
abbrev dktX1_one_1 : List UInt8 := dkwX1_one_1 ++ dktX1_one_2
def dkwX1_one_0 : List UInt8 := [42, 182, 0, 96, 62, 42, 180, 0, 100, 18, 25, 160, 0, 31, 29, 133, 27, 133, 28, 133, 184, 0, 48]
abbrev dktX1_one_0 : List UInt8 := dkwX1_one_0 ++ dktX1_one_1
theorem dksX1_one_0 : cX1_one.data.toList.drop 0 = dktX1_one_0 := by decide +kernel
theorem dksX1_one_1 : cX1_one.data.toList.drop 23 = dktX1_one_1 := dk_seg dksX1_one_0 23 rfl rfl
theorem dksX1_one_2 : cX1_one.data.toList.drop 47 = dktX1_one_2 := dk_seg dksX1_one_1 24 rfl rfl
theorem dX1_one_0 : decode cX1_one 0 = .ok (.aload_n 0, 1) := dk_42 (dk_at dksX1_one_0 0 rfl rfl)
theorem dX1_one_1 : decode cX1_one 1 = .ok (.invokevirtual 96, 3) := dk_182 0 96 (dk_at dksX1_one_0 1 rfl rfl)
theorem dX1_one_4 : decode cX1_one 4 = .ok (.istore_n 3, 1) := dk_62 (dk_at dksX1_one_0 4 rfl rfl)
theorem dX1_one_5 : decode cX1_one 5 = .ok (.aload_n 0, 1) := dk_42 (dk_at dksX1_one_0 5 rfl rfl)
theorem dX1_one_6 : decode cX1_one 6 = .ok (.getfield 100, 3) := dk_180 0 100 (dk_at dksX1_one_0 6 rfl rfl)
theorem dX1_one_9 : decode cX1_one 9 = .ok (.ldc 25, 2) := dk_18 25 (dk_at dksX1_one_0 9 rfl rfl)
theorem dX1_one_11 : decode cX1_one 11 = .ok (.if_icmp .ne 31, 3) := dk_160 0 31 (dk_at dksX1_one_0 11 rfl rfl)
theorem dX1_one_14 : decode cX1_one 14 = .ok (.iload_n 3, 1) := dk_29 (dk_at dksX1_one_0 14 rfl rfl)
theorem dX1_one_15 : decode cX1_one 15 = .ok (.i2l, 1) := dk_133 (dk_at dksX1_one_0 15 rfl rfl)
theorem dX1_one_16 : decode cX1_one 16 = .ok (.iload_n 1, 1) := dk_27 (dk_at dksX1_one_0 16 rfl rfl)
theorem dX1_one_17 : decode cX1_one 17 = .ok (.i2l, 1) := dk_133 (dk_at dksX1_one_0 17 rfl rfl)
theorem dX1_one_18 : decode cX1_one 18 = .ok (.iload_n 2, 1) := dk_28 (dk_at dksX1_one_0 18 rfl rfl)
theorem dX1_one_19 : decode cX1_one 19 = .ok (.i2l, 1) := dk_133 (dk_at dksX1_one_0 19 rfl rfl)
theorem dX1_one_20 : decode cX1_one 20 = .ok (.invokestatic 48, 3) := dk_184 0 48 (dk_at dksX1_one_0 20 rfl rfl)
theorem dX1_one_23 : decode cX1_one 23 = .ok (.ifCond .eq 19, 3) := dk_153 0 19 (dk_at dksX1_one_1 0 rfl rfl)
theorem dX1_one_26 : decode cX1_one 26 = .ok (.aload_n 0, 1) := dk_42 (dk_at dksX1_one_1 3 rfl rfl)
theorem dX1_one_27 : decode cX1_one 27 = .ok (.dup, 1) := dk_89 (dk_at dksX1_one_1 4 rfl rfl)
theorem dX1_one_28 : decode cX1_one 28 = .ok (.getfield 93, 3) := dk_180 0 93 (dk_at dksX1_one_1 5 rfl rfl)
theorem dX1_one_31 : decode cX1_one 31 = .ok (.iconst 1, 1) := dk_4 (dk_at dksX1_one_1 8 rfl rfl)
theorem dX1_one_32 : decode cX1_one 32 = .ok (.iadd, 1) := dk_96 (dk_at dksX1_one_1 9 rfl rfl)
theorem dX1_one_33 : decode cX1_one 33 = .ok (.putfield 93, 3) := dk_181 0 93 (dk_at dksX1_one_1 10 rfl rfl)
theorem dX1_one_36 : decode cX1_one 36 = .ok (.aload_n 0, 1) := dk_42 (dk_at dksX1_one_1 13 rfl rfl)
theorem dX1_one_37 : decode cX1_one 37 = .ok (.invokevirtual 103, 3) := dk_182 0 103 (dk_at dksX1_one_1 14 rfl rfl)
theorem dX1_one_40 : decode cX1_one 40 = .ok (.iload_n 3, 1) := dk_29 (dk_at dksX1_one_1 17 rfl rfl)
theorem dX1_one_41 : decode cX1_one 41 = .ok (.ireturn, 1) := dk_172 (dk_at dksX1_one_1 18 rfl rfl)
theorem dX1_one_42 : decode cX1_one 42 = .ok (.aload_n 0, 1) := dk_42 (dk_at dksX1_one_1 19 rfl rfl)
theorem dX1_one_43 : decode cX1_one 43 = .ok (.aload_n 0, 1) := dk_42 (dk_at dksX1_one_1 20 rfl rfl)
theorem dX1_one_44 : decode cX1_one 44 = .ok (.getfield 93, 3) := dk_180 0 93 (dk_at dksX1_one_1 21 rfl rfl)
theorem dX1_one_47 : decode cX1_one 47 = .ok (.invokevirtual 106, 3) := dk_182 0 106 (dk_at dksX1_one_2 0 rfl rfl)
theorem dX1_one_50 : decode cX1_one 50 = .ok (.iload_n 1, 1) := dk_27 (dk_at dksX1_one_2 3 rfl rfl)
theorem dX1_one_51 : decode cX1_one 51 = .ok (.ireturn, 1) := dk_172 (dk_at dksX1_one_2 4 rfl rfl)
abbrev cX1_takes : ByteArray := prog_20_method_20_code
def yX1_takes : MethodName := ⟨RX1, "takes", "(I)Z"⟩
def dkwX1_takes_1 : List UInt8 := [153, 0, 17, 42, 89, 180, 0, 93, 4, 96, 181, 0, 93, 42, 182, 0, 103, 28, 172]
abbrev dktX1_takes_1 : List UInt8 := dkwX1_takes_1 ++ []
def dkwX1_takes_0 : List UInt8 := [42, 180, 0, 100, 18, 25, 160, 0, 15, 42, 182, 0, 96, 27, 160, 0, 7, 4, 167, 0, 4, 3, 61, 28]
abbrev dktX1_takes_0 : List UInt8 := dkwX1_takes_0 ++ dktX1_takes_1
theorem dksX1_takes_0 : cX1_takes.data.toList.drop 0 = dktX1_takes_0 := by decide +kernel
theorem dksX1_takes_1 : cX1_takes.data.toList.drop 24 = dktX1_takes_1 := dk_seg dksX1_takes_0 24 rfl rfl
theorem dX1_takes_0 : decode cX1_takes 0 = .ok (.aload_n 0, 1) := dk_42 (dk_at dksX1_takes_0 0 rfl rfl)
theorem dX1_takes_1 : decode cX1_takes 1 = .ok (.getfield 100, 3) := dk_180 0 100 (dk_at dksX1_takes_0 1 rfl rfl)
theorem dX1_takes_4 : decode cX1_takes 4 = .ok (.ldc 25, 2) := dk_18 25 (dk_at dksX1_takes_0 4 rfl rfl)
theorem dX1_takes_6 : decode cX1_takes 6 = .ok (.if_icmp .ne 15, 3) := dk_160 0 15 (dk_at dksX1_takes_0 6 rfl rfl)
theorem dX1_takes_9 : decode cX1_takes 9 = .ok (.aload_n 0, 1) := dk_42 (dk_at dksX1_takes_0 9 rfl rfl)
theorem dX1_takes_10 : decode cX1_takes 10 = .ok (.invokevirtual 96, 3) := dk_182 0 96 (dk_at dksX1_takes_0 10 rfl rfl)
theorem dX1_takes_13 : decode cX1_takes 13 = .ok (.iload_n 1, 1) := dk_27 (dk_at dksX1_takes_0 13 rfl rfl)
theorem dX1_takes_14 : decode cX1_takes 14 = .ok (.if_icmp .ne 7, 3) := dk_160 0 7 (dk_at dksX1_takes_0 14 rfl rfl)
theorem dX1_takes_17 : decode cX1_takes 17 = .ok (.iconst 1, 1) := dk_4 (dk_at dksX1_takes_0 17 rfl rfl)
theorem dX1_takes_18 : decode cX1_takes 18 = .ok (.goto 4, 3) := dk_167 0 4 (dk_at dksX1_takes_0 18 rfl rfl)
theorem dX1_takes_21 : decode cX1_takes 21 = .ok (.iconst 0, 1) := dk_3 (dk_at dksX1_takes_0 21 rfl rfl)
theorem dX1_takes_22 : decode cX1_takes 22 = .ok (.istore_n 2, 1) := dk_61 (dk_at dksX1_takes_0 22 rfl rfl)
theorem dX1_takes_23 : decode cX1_takes 23 = .ok (.iload_n 2, 1) := dk_28 (dk_at dksX1_takes_0 23 rfl rfl)
theorem dX1_takes_24 : decode cX1_takes 24 = .ok (.ifCond .eq 17, 3) := dk_153 0 17 (dk_at dksX1_takes_1 0 rfl rfl)
theorem dX1_takes_27 : decode cX1_takes 27 = .ok (.aload_n 0, 1) := dk_42 (dk_at dksX1_takes_1 3 rfl rfl)
theorem dX1_takes_28 : decode cX1_takes 28 = .ok (.dup, 1) := dk_89 (dk_at dksX1_takes_1 4 rfl rfl)
theorem dX1_takes_29 : decode cX1_takes 29 = .ok (.getfield 93, 3) := dk_180 0 93 (dk_at dksX1_takes_1 5 rfl rfl)
theorem dX1_takes_32 : decode cX1_takes 32 = .ok (.iconst 1, 1) := dk_4 (dk_at dksX1_takes_1 8 rfl rfl)
theorem dX1_takes_33 : decode cX1_takes 33 = .ok (.iadd, 1) := dk_96 (dk_at dksX1_takes_1 9 rfl rfl)
theorem dX1_takes_34 : decode cX1_takes 34 = .ok (.putfield 93, 3) := dk_181 0 93 (dk_at dksX1_takes_1 10 rfl rfl)
theorem dX1_takes_37 : decode cX1_takes 37 = .ok (.aload_n 0, 1) := dk_42 (dk_at dksX1_takes_1 13 rfl rfl)
theorem dX1_takes_38 : decode cX1_takes 38 = .ok (.invokevirtual 103, 3) := dk_182 0 103 (dk_at dksX1_takes_1 14 rfl rfl)
theorem dX1_takes_41 : decode cX1_takes 41 = .ok (.iload_n 2, 1) := dk_28 (dk_at dksX1_takes_1 17 rfl rfl)
theorem dX1_takes_42 : decode cX1_takes 42 = .ok (.ireturn, 1) := dk_172 (dk_at dksX1_takes_1 18 rfl rfl)
abbrev cX1_number : ByteArray := prog_20_method_22_code
def yX1_number : MethodName := ⟨RX1, "number", "(II)I"⟩
def dkwX1_number_5 : List UInt8 := [180, 0, 93, 182, 0, 106, 42, 182, 0, 103, 21, 4, 172]
abbrev dktX1_number_5 : List UInt8 := dkwX1_number_5 ++ []
def dkwX1_number_4 : List UInt8 := [182, 0, 106, 42, 182, 0, 96, 133, 20, 0, 110, 20, 0, 112, 184, 0, 48, 153, 0, 11, 42, 42]
abbrev dktX1_number_4 : List UInt8 := dkwX1_number_4 ++ dktX1_number_5
def dkwX1_number_3 : List UInt8 := [42, 180, 0, 93, 29, 159, 0, 16, 21, 4, 133, 27, 133, 28, 133, 184, 0, 48, 154, 0, 8, 42, 29]
abbrev dktX1_number_3 : List UInt8 := dkwX1_number_3 ++ dktX1_number_4
def dkwX1_number_2 : List UInt8 := [104, 42, 182, 0, 96, 96, 16, 48, 100, 54, 4, 42, 89, 180, 0, 93, 4, 96, 181, 0, 93, 167, 255, 195]
abbrev dktX1_number_2 : List UInt8 := dkwX1_number_2 ++ dktX1_number_3
def dkwX1_number_1 : List UInt8 := [162, 0, 48, 42, 182, 0, 96, 133, 20, 0, 110, 20, 0, 112, 184, 0, 48, 153, 0, 31, 16, 10, 21, 4]
abbrev dktX1_number_1 : List UInt8 := dkwX1_number_1 ++ dktX1_number_2
def dkwX1_number_0 : List UInt8 := [42, 180, 0, 93, 62, 3, 54, 4, 42, 180, 0, 100, 18, 25, 160, 0, 58, 42, 180, 0, 93, 29, 5, 96]
abbrev dktX1_number_0 : List UInt8 := dkwX1_number_0 ++ dktX1_number_1
theorem dksX1_number_0 : cX1_number.data.toList.drop 0 = dktX1_number_0 := by decide +kernel
theorem dksX1_number_1 : cX1_number.data.toList.drop 24 = dktX1_number_1 := dk_seg dksX1_number_0 24 rfl rfl
theorem dksX1_number_2 : cX1_number.data.toList.drop 48 = dktX1_number_2 := dk_seg dksX1_number_1 24 rfl rfl
theorem dksX1_number_3 : cX1_number.data.toList.drop 72 = dktX1_number_3 := dk_seg dksX1_number_2 24 rfl rfl
theorem dksX1_number_4 : cX1_number.data.toList.drop 95 = dktX1_number_4 := dk_seg dksX1_number_3 23 rfl rfl
theorem dksX1_number_5 : cX1_number.data.toList.drop 117 = dktX1_number_5 := dk_seg dksX1_number_4 22 rfl rfl
theorem dX1_number_0 : decode cX1_number 0 = .ok (.aload_n 0, 1) := dk_42 (dk_at dksX1_number_0 0 rfl rfl)
theorem dX1_number_1 : decode cX1_number 1 = .ok (.getfield 93, 3) := dk_180 0 93 (dk_at dksX1_number_0 1 rfl rfl)
theorem dX1_number_4 : decode cX1_number 4 = .ok (.istore_n 3, 1) := dk_62 (dk_at dksX1_number_0 4 rfl rfl)
theorem dX1_number_5 : decode cX1_number 5 = .ok (.iconst 0, 1) := dk_3 (dk_at dksX1_number_0 5 rfl rfl)
theorem dX1_number_6 : decode cX1_number 6 = .ok (.istore 4, 2) := dk_54 4 (dk_at dksX1_number_0 6 rfl rfl)
theorem dX1_number_8 : decode cX1_number 8 = .ok (.aload_n 0, 1) := dk_42 (dk_at dksX1_number_0 8 rfl rfl)
theorem dX1_number_9 : decode cX1_number 9 = .ok (.getfield 100, 3) := dk_180 0 100 (dk_at dksX1_number_0 9 rfl rfl)
theorem dX1_number_12 : decode cX1_number 12 = .ok (.ldc 25, 2) := dk_18 25 (dk_at dksX1_number_0 12 rfl rfl)
theorem dX1_number_14 : decode cX1_number 14 = .ok (.if_icmp .ne 58, 3) := dk_160 0 58 (dk_at dksX1_number_0 14 rfl rfl)
theorem dX1_number_17 : decode cX1_number 17 = .ok (.aload_n 0, 1) := dk_42 (dk_at dksX1_number_0 17 rfl rfl)
theorem dX1_number_18 : decode cX1_number 18 = .ok (.getfield 93, 3) := dk_180 0 93 (dk_at dksX1_number_0 18 rfl rfl)
theorem dX1_number_21 : decode cX1_number 21 = .ok (.iload_n 3, 1) := dk_29 (dk_at dksX1_number_0 21 rfl rfl)
theorem dX1_number_22 : decode cX1_number 22 = .ok (.iconst 2, 1) := dk_5 (dk_at dksX1_number_0 22 rfl rfl)
theorem dX1_number_23 : decode cX1_number 23 = .ok (.iadd, 1) := dk_96 (dk_at dksX1_number_0 23 rfl rfl)
theorem dX1_number_24 : decode cX1_number 24 = .ok (.if_icmp .ge 48, 3) := dk_162 0 48 (dk_at dksX1_number_1 0 rfl rfl)
theorem dX1_number_27 : decode cX1_number 27 = .ok (.aload_n 0, 1) := dk_42 (dk_at dksX1_number_1 3 rfl rfl)
theorem dX1_number_28 : decode cX1_number 28 = .ok (.invokevirtual 96, 3) := dk_182 0 96 (dk_at dksX1_number_1 4 rfl rfl)
theorem dX1_number_31 : decode cX1_number 31 = .ok (.i2l, 1) := dk_133 (dk_at dksX1_number_1 7 rfl rfl)
theorem dX1_number_32 : decode cX1_number 32 = .ok (.ldc2_w 110, 3) := dk_20 0 110 (dk_at dksX1_number_1 8 rfl rfl)
theorem dX1_number_35 : decode cX1_number 35 = .ok (.ldc2_w 112, 3) := dk_20 0 112 (dk_at dksX1_number_1 11 rfl rfl)
theorem dX1_number_38 : decode cX1_number 38 = .ok (.invokestatic 48, 3) := dk_184 0 48 (dk_at dksX1_number_1 14 rfl rfl)
theorem dX1_number_41 : decode cX1_number 41 = .ok (.ifCond .eq 31, 3) := dk_153 0 31 (dk_at dksX1_number_1 17 rfl rfl)
theorem dX1_number_44 : decode cX1_number 44 = .ok (.bipush 10, 2) := dk_16 10 (dk_at dksX1_number_1 20 rfl rfl)
theorem dX1_number_46 : decode cX1_number 46 = .ok (.iload 4, 2) := dk_21 4 (dk_at dksX1_number_1 22 rfl rfl)
theorem dX1_number_48 : decode cX1_number 48 = .ok (.imul, 1) := dk_104 (dk_at dksX1_number_2 0 rfl rfl)
theorem dX1_number_49 : decode cX1_number 49 = .ok (.aload_n 0, 1) := dk_42 (dk_at dksX1_number_2 1 rfl rfl)
theorem dX1_number_50 : decode cX1_number 50 = .ok (.invokevirtual 96, 3) := dk_182 0 96 (dk_at dksX1_number_2 2 rfl rfl)
theorem dX1_number_53 : decode cX1_number 53 = .ok (.iadd, 1) := dk_96 (dk_at dksX1_number_2 5 rfl rfl)
theorem dX1_number_54 : decode cX1_number 54 = .ok (.bipush 48, 2) := dk_16 48 (dk_at dksX1_number_2 6 rfl rfl)
theorem dX1_number_56 : decode cX1_number 56 = .ok (.isub, 1) := dk_100 (dk_at dksX1_number_2 8 rfl rfl)
theorem dX1_number_57 : decode cX1_number 57 = .ok (.istore 4, 2) := dk_54 4 (dk_at dksX1_number_2 9 rfl rfl)
theorem dX1_number_59 : decode cX1_number 59 = .ok (.aload_n 0, 1) := dk_42 (dk_at dksX1_number_2 11 rfl rfl)
theorem dX1_number_60 : decode cX1_number 60 = .ok (.dup, 1) := dk_89 (dk_at dksX1_number_2 12 rfl rfl)
theorem dX1_number_61 : decode cX1_number 61 = .ok (.getfield 93, 3) := dk_180 0 93 (dk_at dksX1_number_2 13 rfl rfl)
theorem dX1_number_64 : decode cX1_number 64 = .ok (.iconst 1, 1) := dk_4 (dk_at dksX1_number_2 16 rfl rfl)
theorem dX1_number_65 : decode cX1_number 65 = .ok (.iadd, 1) := dk_96 (dk_at dksX1_number_2 17 rfl rfl)
theorem dX1_number_66 : decode cX1_number 66 = .ok (.putfield 93, 3) := dk_181 0 93 (dk_at dksX1_number_2 18 rfl rfl)
theorem dX1_number_69 : decode cX1_number 69 = .ok (.goto (-61), 3) := dk_167 255 195 (dk_at dksX1_number_2 21 rfl rfl)
theorem dX1_number_72 : decode cX1_number 72 = .ok (.aload_n 0, 1) := dk_42 (dk_at dksX1_number_3 0 rfl rfl)
theorem dX1_number_73 : decode cX1_number 73 = .ok (.getfield 93, 3) := dk_180 0 93 (dk_at dksX1_number_3 1 rfl rfl)
theorem dX1_number_76 : decode cX1_number 76 = .ok (.iload_n 3, 1) := dk_29 (dk_at dksX1_number_3 4 rfl rfl)
theorem dX1_number_77 : decode cX1_number 77 = .ok (.if_icmp .eq 16, 3) := dk_159 0 16 (dk_at dksX1_number_3 5 rfl rfl)
theorem dX1_number_80 : decode cX1_number 80 = .ok (.iload 4, 2) := dk_21 4 (dk_at dksX1_number_3 8 rfl rfl)
theorem dX1_number_82 : decode cX1_number 82 = .ok (.i2l, 1) := dk_133 (dk_at dksX1_number_3 10 rfl rfl)
theorem dX1_number_83 : decode cX1_number 83 = .ok (.iload_n 1, 1) := dk_27 (dk_at dksX1_number_3 11 rfl rfl)
theorem dX1_number_84 : decode cX1_number 84 = .ok (.i2l, 1) := dk_133 (dk_at dksX1_number_3 12 rfl rfl)
theorem dX1_number_85 : decode cX1_number 85 = .ok (.iload_n 2, 1) := dk_28 (dk_at dksX1_number_3 13 rfl rfl)
theorem dX1_number_86 : decode cX1_number 86 = .ok (.i2l, 1) := dk_133 (dk_at dksX1_number_3 14 rfl rfl)
theorem dX1_number_87 : decode cX1_number 87 = .ok (.invokestatic 48, 3) := dk_184 0 48 (dk_at dksX1_number_3 15 rfl rfl)
theorem dX1_number_90 : decode cX1_number 90 = .ok (.ifCond .ne 8, 3) := dk_154 0 8 (dk_at dksX1_number_3 18 rfl rfl)
theorem dX1_number_93 : decode cX1_number 93 = .ok (.aload_n 0, 1) := dk_42 (dk_at dksX1_number_3 21 rfl rfl)
theorem dX1_number_94 : decode cX1_number 94 = .ok (.iload_n 3, 1) := dk_29 (dk_at dksX1_number_3 22 rfl rfl)
theorem dX1_number_95 : decode cX1_number 95 = .ok (.invokevirtual 106, 3) := dk_182 0 106 (dk_at dksX1_number_4 0 rfl rfl)
theorem dX1_number_98 : decode cX1_number 98 = .ok (.aload_n 0, 1) := dk_42 (dk_at dksX1_number_4 3 rfl rfl)
theorem dX1_number_99 : decode cX1_number 99 = .ok (.invokevirtual 96, 3) := dk_182 0 96 (dk_at dksX1_number_4 4 rfl rfl)
theorem dX1_number_102 : decode cX1_number 102 = .ok (.i2l, 1) := dk_133 (dk_at dksX1_number_4 7 rfl rfl)
theorem dX1_number_103 : decode cX1_number 103 = .ok (.ldc2_w 110, 3) := dk_20 0 110 (dk_at dksX1_number_4 8 rfl rfl)
theorem dX1_number_106 : decode cX1_number 106 = .ok (.ldc2_w 112, 3) := dk_20 0 112 (dk_at dksX1_number_4 11 rfl rfl)
theorem dX1_number_109 : decode cX1_number 109 = .ok (.invokestatic 48, 3) := dk_184 0 48 (dk_at dksX1_number_4 14 rfl rfl)
theorem dX1_number_112 : decode cX1_number 112 = .ok (.ifCond .eq 11, 3) := dk_153 0 11 (dk_at dksX1_number_4 17 rfl rfl)
theorem dX1_number_115 : decode cX1_number 115 = .ok (.aload_n 0, 1) := dk_42 (dk_at dksX1_number_4 20 rfl rfl)
theorem dX1_number_116 : decode cX1_number 116 = .ok (.aload_n 0, 1) := dk_42 (dk_at dksX1_number_4 21 rfl rfl)
theorem dX1_number_117 : decode cX1_number 117 = .ok (.getfield 93, 3) := dk_180 0 93 (dk_at dksX1_number_5 0 rfl rfl)
theorem dX1_number_120 : decode cX1_number 120 = .ok (.invokevirtual 106, 3) := dk_182 0 106 (dk_at dksX1_number_5 3 rfl rfl)
theorem dX1_number_123 : decode cX1_number 123 = .ok (.aload_n 0, 1) := dk_42 (dk_at dksX1_number_5 6 rfl rfl)
theorem dX1_number_124 : decode cX1_number 124 = .ok (.invokevirtual 103, 3) := dk_182 0 103 (dk_at dksX1_number_5 7 rfl rfl)
theorem dX1_number_127 : decode cX1_number 127 = .ok (.iload 4, 2) := dk_21 4 (dk_at dksX1_number_5 10 rfl rfl)
theorem dX1_number_129 : decode cX1_number 129 = .ok (.ireturn, 1) := dk_172 (dk_at dksX1_number_5 12 rfl rfl)
abbrev cX1_load : ByteArray := prog_20_method_25_code
def yX1_load : MethodName := ⟨RX1, "load", "()I"⟩
def dkwX1_load_2 : List UInt8 := [167, 255, 230, 42, 180, 0, 7, 16, 112, 42, 180, 0, 114, 79, 42, 3, 181, 0, 90, 42, 180, 0, 114, 172]
abbrev dktX1_load_2 : List UInt8 := dkwX1_load_2 ++ []
def dkwX1_load_1 : List UInt8 := [180, 0, 114, 104, 162, 0, 21, 42, 180, 0, 7, 27, 42, 180, 0, 34, 27, 46, 79, 132, 1, 1]
abbrev dktX1_load_1 : List UInt8 := dkwX1_load_1 ++ dktX1_load_2
def dkwX1_load_0 : List UInt8 := [42, 182, 0, 129, 18, 25, 159, 0, 6, 18, 63, 172, 42, 182, 0, 74, 3, 60, 27, 16, 7, 42]
abbrev dktX1_load_0 : List UInt8 := dkwX1_load_0 ++ dktX1_load_1
theorem dksX1_load_0 : cX1_load.data.toList.drop 0 = dktX1_load_0 := by decide +kernel
theorem dksX1_load_1 : cX1_load.data.toList.drop 22 = dktX1_load_1 := dk_seg dksX1_load_0 22 rfl rfl
theorem dksX1_load_2 : cX1_load.data.toList.drop 44 = dktX1_load_2 := dk_seg dksX1_load_1 22 rfl rfl
theorem dX1_load_0 : decode cX1_load 0 = .ok (.aload_n 0, 1) := dk_42 (dk_at dksX1_load_0 0 rfl rfl)
theorem dX1_load_1 : decode cX1_load 1 = .ok (.invokevirtual 129, 3) := dk_182 0 129 (dk_at dksX1_load_0 1 rfl rfl)
theorem dX1_load_4 : decode cX1_load 4 = .ok (.ldc 25, 2) := dk_18 25 (dk_at dksX1_load_0 4 rfl rfl)
theorem dX1_load_6 : decode cX1_load 6 = .ok (.if_icmp .eq 6, 3) := dk_159 0 6 (dk_at dksX1_load_0 6 rfl rfl)
theorem dX1_load_9 : decode cX1_load 9 = .ok (.ldc 63, 2) := dk_18 63 (dk_at dksX1_load_0 9 rfl rfl)
theorem dX1_load_11 : decode cX1_load 11 = .ok (.ireturn, 1) := dk_172 (dk_at dksX1_load_0 11 rfl rfl)
theorem dX1_load_12 : decode cX1_load 12 = .ok (.aload_n 0, 1) := dk_42 (dk_at dksX1_load_0 12 rfl rfl)
theorem dX1_load_13 : decode cX1_load 13 = .ok (.invokevirtual 74, 3) := dk_182 0 74 (dk_at dksX1_load_0 13 rfl rfl)
theorem dX1_load_16 : decode cX1_load 16 = .ok (.iconst 0, 1) := dk_3 (dk_at dksX1_load_0 16 rfl rfl)
theorem dX1_load_17 : decode cX1_load 17 = .ok (.istore_n 1, 1) := dk_60 (dk_at dksX1_load_0 17 rfl rfl)
theorem dX1_load_18 : decode cX1_load 18 = .ok (.iload_n 1, 1) := dk_27 (dk_at dksX1_load_0 18 rfl rfl)
theorem dX1_load_19 : decode cX1_load 19 = .ok (.bipush 7, 2) := dk_16 7 (dk_at dksX1_load_0 19 rfl rfl)
theorem dX1_load_21 : decode cX1_load 21 = .ok (.aload_n 0, 1) := dk_42 (dk_at dksX1_load_0 21 rfl rfl)
theorem dX1_load_22 : decode cX1_load 22 = .ok (.getfield 114, 3) := dk_180 0 114 (dk_at dksX1_load_1 0 rfl rfl)
theorem dX1_load_25 : decode cX1_load 25 = .ok (.imul, 1) := dk_104 (dk_at dksX1_load_1 3 rfl rfl)
theorem dX1_load_26 : decode cX1_load 26 = .ok (.if_icmp .ge 21, 3) := dk_162 0 21 (dk_at dksX1_load_1 4 rfl rfl)
theorem dX1_load_29 : decode cX1_load 29 = .ok (.aload_n 0, 1) := dk_42 (dk_at dksX1_load_1 7 rfl rfl)
theorem dX1_load_30 : decode cX1_load 30 = .ok (.getfield 7, 3) := dk_180 0 7 (dk_at dksX1_load_1 8 rfl rfl)
theorem dX1_load_33 : decode cX1_load 33 = .ok (.iload_n 1, 1) := dk_27 (dk_at dksX1_load_1 11 rfl rfl)
theorem dX1_load_34 : decode cX1_load 34 = .ok (.aload_n 0, 1) := dk_42 (dk_at dksX1_load_1 12 rfl rfl)
theorem dX1_load_35 : decode cX1_load 35 = .ok (.getfield 34, 3) := dk_180 0 34 (dk_at dksX1_load_1 13 rfl rfl)
theorem dX1_load_38 : decode cX1_load 38 = .ok (.iload_n 1, 1) := dk_27 (dk_at dksX1_load_1 16 rfl rfl)
theorem dX1_load_39 : decode cX1_load 39 = .ok (.iaload, 1) := dk_46 (dk_at dksX1_load_1 17 rfl rfl)
theorem dX1_load_40 : decode cX1_load 40 = .ok (.iastore, 1) := dk_79 (dk_at dksX1_load_1 18 rfl rfl)
theorem dX1_load_41 : decode cX1_load 41 = .ok (.iinc 1 1, 3) := dk_132 1 1 (dk_at dksX1_load_1 19 rfl rfl)
theorem dX1_load_44 : decode cX1_load 44 = .ok (.goto (-26), 3) := dk_167 255 230 (dk_at dksX1_load_2 0 rfl rfl)
theorem dX1_load_47 : decode cX1_load 47 = .ok (.aload_n 0, 1) := dk_42 (dk_at dksX1_load_2 3 rfl rfl)
theorem dX1_load_48 : decode cX1_load 48 = .ok (.getfield 7, 3) := dk_180 0 7 (dk_at dksX1_load_2 4 rfl rfl)
theorem dX1_load_51 : decode cX1_load 51 = .ok (.bipush 112, 2) := dk_16 112 (dk_at dksX1_load_2 7 rfl rfl)
theorem dX1_load_53 : decode cX1_load 53 = .ok (.aload_n 0, 1) := dk_42 (dk_at dksX1_load_2 9 rfl rfl)
theorem dX1_load_54 : decode cX1_load 54 = .ok (.getfield 114, 3) := dk_180 0 114 (dk_at dksX1_load_2 10 rfl rfl)
theorem dX1_load_57 : decode cX1_load 57 = .ok (.iastore, 1) := dk_79 (dk_at dksX1_load_2 13 rfl rfl)
theorem dX1_load_58 : decode cX1_load 58 = .ok (.aload_n 0, 1) := dk_42 (dk_at dksX1_load_2 14 rfl rfl)
theorem dX1_load_59 : decode cX1_load 59 = .ok (.iconst 0, 1) := dk_3 (dk_at dksX1_load_2 15 rfl rfl)
theorem dX1_load_60 : decode cX1_load 60 = .ok (.putfield 90, 3) := dk_181 0 90 (dk_at dksX1_load_2 16 rfl rfl)
theorem dX1_load_63 : decode cX1_load 63 = .ok (.aload_n 0, 1) := dk_42 (dk_at dksX1_load_2 19 rfl rfl)
theorem dX1_load_64 : decode cX1_load 64 = .ok (.getfield 114, 3) := dk_180 0 114 (dk_at dksX1_load_2 20 rfl rfl)
theorem dX1_load_67 : decode cX1_load 67 = .ok (.ireturn, 1) := dk_172 (dk_at dksX1_load_2 23 rfl rfl)
abbrev cX1_meanCycle : ByteArray := prog_20_method_39_code
def yX1_meanCycle : MethodName := ⟨RX1, "meanCycle", "()I"⟩
def dkwX1_meanCycle_0 : List UInt8 := [42, 3, 182, 0, 199, 42, 182, 0, 202, 172]
abbrev dktX1_meanCycle_0 : List UInt8 := dkwX1_meanCycle_0 ++ []
theorem dksX1_meanCycle_0 : cX1_meanCycle.data.toList.drop 0 = dktX1_meanCycle_0 := by decide +kernel
theorem dX1_meanCycle_0 : decode cX1_meanCycle 0 = .ok (.aload_n 0, 1) := dk_42 (dk_at dksX1_meanCycle_0 0 rfl rfl)
theorem dX1_meanCycle_1 : decode cX1_meanCycle 1 = .ok (.iconst 0, 1) := dk_3 (dk_at dksX1_meanCycle_0 1 rfl rfl)
theorem dX1_meanCycle_2 : decode cX1_meanCycle 2 = .ok (.invokevirtual 199, 3) := dk_182 0 199 (dk_at dksX1_meanCycle_0 2 rfl rfl)
theorem dX1_meanCycle_5 : decode cX1_meanCycle 5 = .ok (.aload_n 0, 1) := dk_42 (dk_at dksX1_meanCycle_0 5 rfl rfl)
theorem dX1_meanCycle_6 : decode cX1_meanCycle 6 = .ok (.invokevirtual 202, 3) := dk_182 0 202 (dk_at dksX1_meanCycle_0 6 rfl rfl)
theorem dX1_meanCycle_9 : decode cX1_meanCycle 9 = .ok (.ireturn, 1) := dk_172 (dk_at dksX1_meanCycle_0 9 rfl rfl)
abbrev cX1_searches : ByteArray := prog_20_method_38_code
def yX1_searches : MethodName := ⟨RX1, "searches", "(I)V"⟩
def dkwX1_searches_4 : List UInt8 := [132, 2, 1, 167, 255, 171, 177]
abbrev dktX1_searches_4 : List UInt8 := dkwX1_searches_4 ++ []
def dkwX1_searches_3 : List UInt8 := [133, 167, 0, 8, 42, 7, 182, 0, 196, 4, 182, 0, 192, 42, 3, 182, 0, 184, 62, 167, 255, 195]
abbrev dktX1_searches_3 : List UInt8 := dkwX1_searches_3 ++ dktX1_searches_4
def dkwX1_searches_2 : List UInt8 := [182, 0, 188, 2, 182, 0, 192, 167, 0, 30, 42, 42, 5, 182, 0, 196, 27, 154, 0, 11, 42, 180, 0, 131]
abbrev dktX1_searches_2 : List UInt8 := dkwX1_searches_2 ++ dktX1_searches_3
def dkwX1_searches_1 : List UInt8 := [182, 0, 184, 62, 29, 153, 0, 63, 27, 5, 160, 0, 22, 42, 42, 8, 182, 0, 188, 42, 16, 6]
abbrev dktX1_searches_1 : List UInt8 := dkwX1_searches_1 ++ dktX1_searches_2
def dkwX1_searches_0 : List UInt8 := [42, 18, 25, 181, 0, 153, 3, 61, 28, 16, 8, 162, 0, 85, 42, 28, 28, 182, 0, 180, 42, 4]
abbrev dktX1_searches_0 : List UInt8 := dkwX1_searches_0 ++ dktX1_searches_1
theorem dksX1_searches_0 : cX1_searches.data.toList.drop 0 = dktX1_searches_0 := by decide +kernel
theorem dksX1_searches_1 : cX1_searches.data.toList.drop 22 = dktX1_searches_1 := dk_seg dksX1_searches_0 22 rfl rfl
theorem dksX1_searches_2 : cX1_searches.data.toList.drop 44 = dktX1_searches_2 := dk_seg dksX1_searches_1 22 rfl rfl
theorem dksX1_searches_3 : cX1_searches.data.toList.drop 68 = dktX1_searches_3 := dk_seg dksX1_searches_2 24 rfl rfl
theorem dksX1_searches_4 : cX1_searches.data.toList.drop 90 = dktX1_searches_4 := dk_seg dksX1_searches_3 22 rfl rfl
theorem dX1_searches_0 : decode cX1_searches 0 = .ok (.aload_n 0, 1) := dk_42 (dk_at dksX1_searches_0 0 rfl rfl)
theorem dX1_searches_1 : decode cX1_searches 1 = .ok (.ldc 25, 2) := dk_18 25 (dk_at dksX1_searches_0 1 rfl rfl)
theorem dX1_searches_3 : decode cX1_searches 3 = .ok (.putfield 153, 3) := dk_181 0 153 (dk_at dksX1_searches_0 3 rfl rfl)
theorem dX1_searches_6 : decode cX1_searches 6 = .ok (.iconst 0, 1) := dk_3 (dk_at dksX1_searches_0 6 rfl rfl)
theorem dX1_searches_7 : decode cX1_searches 7 = .ok (.istore_n 2, 1) := dk_61 (dk_at dksX1_searches_0 7 rfl rfl)
theorem dX1_searches_8 : decode cX1_searches 8 = .ok (.iload_n 2, 1) := dk_28 (dk_at dksX1_searches_0 8 rfl rfl)
theorem dX1_searches_9 : decode cX1_searches 9 = .ok (.bipush 8, 2) := dk_16 8 (dk_at dksX1_searches_0 9 rfl rfl)
theorem dX1_searches_11 : decode cX1_searches 11 = .ok (.if_icmp .ge 85, 3) := dk_162 0 85 (dk_at dksX1_searches_0 11 rfl rfl)
theorem dX1_searches_14 : decode cX1_searches 14 = .ok (.aload_n 0, 1) := dk_42 (dk_at dksX1_searches_0 14 rfl rfl)
theorem dX1_searches_15 : decode cX1_searches 15 = .ok (.iload_n 2, 1) := dk_28 (dk_at dksX1_searches_0 15 rfl rfl)
theorem dX1_searches_16 : decode cX1_searches 16 = .ok (.iload_n 2, 1) := dk_28 (dk_at dksX1_searches_0 16 rfl rfl)
theorem dX1_searches_17 : decode cX1_searches 17 = .ok (.invokevirtual 180, 3) := dk_182 0 180 (dk_at dksX1_searches_0 17 rfl rfl)
theorem dX1_searches_20 : decode cX1_searches 20 = .ok (.aload_n 0, 1) := dk_42 (dk_at dksX1_searches_0 20 rfl rfl)
theorem dX1_searches_21 : decode cX1_searches 21 = .ok (.iconst 1, 1) := dk_4 (dk_at dksX1_searches_0 21 rfl rfl)
theorem dX1_searches_22 : decode cX1_searches 22 = .ok (.invokevirtual 184, 3) := dk_182 0 184 (dk_at dksX1_searches_1 0 rfl rfl)
theorem dX1_searches_25 : decode cX1_searches 25 = .ok (.istore_n 3, 1) := dk_62 (dk_at dksX1_searches_1 3 rfl rfl)
theorem dX1_searches_26 : decode cX1_searches 26 = .ok (.iload_n 3, 1) := dk_29 (dk_at dksX1_searches_1 4 rfl rfl)
theorem dX1_searches_27 : decode cX1_searches 27 = .ok (.ifCond .eq 63, 3) := dk_153 0 63 (dk_at dksX1_searches_1 5 rfl rfl)
theorem dX1_searches_30 : decode cX1_searches 30 = .ok (.iload_n 1, 1) := dk_27 (dk_at dksX1_searches_1 8 rfl rfl)
theorem dX1_searches_31 : decode cX1_searches 31 = .ok (.iconst 2, 1) := dk_5 (dk_at dksX1_searches_1 9 rfl rfl)
theorem dX1_searches_32 : decode cX1_searches 32 = .ok (.if_icmp .ne 22, 3) := dk_160 0 22 (dk_at dksX1_searches_1 10 rfl rfl)
theorem dX1_searches_35 : decode cX1_searches 35 = .ok (.aload_n 0, 1) := dk_42 (dk_at dksX1_searches_1 13 rfl rfl)
theorem dX1_searches_36 : decode cX1_searches 36 = .ok (.aload_n 0, 1) := dk_42 (dk_at dksX1_searches_1 14 rfl rfl)
theorem dX1_searches_37 : decode cX1_searches 37 = .ok (.iconst 5, 1) := dk_8 (dk_at dksX1_searches_1 15 rfl rfl)
theorem dX1_searches_38 : decode cX1_searches 38 = .ok (.invokevirtual 188, 3) := dk_182 0 188 (dk_at dksX1_searches_1 16 rfl rfl)
theorem dX1_searches_41 : decode cX1_searches 41 = .ok (.aload_n 0, 1) := dk_42 (dk_at dksX1_searches_1 19 rfl rfl)
theorem dX1_searches_42 : decode cX1_searches 42 = .ok (.bipush 6, 2) := dk_16 6 (dk_at dksX1_searches_1 20 rfl rfl)
theorem dX1_searches_44 : decode cX1_searches 44 = .ok (.invokevirtual 188, 3) := dk_182 0 188 (dk_at dksX1_searches_2 0 rfl rfl)
theorem dX1_searches_47 : decode cX1_searches 47 = .ok (.iconst (-1), 1) := dk_2 (dk_at dksX1_searches_2 3 rfl rfl)
theorem dX1_searches_48 : decode cX1_searches 48 = .ok (.invokevirtual 192, 3) := dk_182 0 192 (dk_at dksX1_searches_2 4 rfl rfl)
theorem dX1_searches_51 : decode cX1_searches 51 = .ok (.goto 30, 3) := dk_167 0 30 (dk_at dksX1_searches_2 7 rfl rfl)
theorem dX1_searches_54 : decode cX1_searches 54 = .ok (.aload_n 0, 1) := dk_42 (dk_at dksX1_searches_2 10 rfl rfl)
theorem dX1_searches_55 : decode cX1_searches 55 = .ok (.aload_n 0, 1) := dk_42 (dk_at dksX1_searches_2 11 rfl rfl)
theorem dX1_searches_56 : decode cX1_searches 56 = .ok (.iconst 2, 1) := dk_5 (dk_at dksX1_searches_2 12 rfl rfl)
theorem dX1_searches_57 : decode cX1_searches 57 = .ok (.invokevirtual 196, 3) := dk_182 0 196 (dk_at dksX1_searches_2 13 rfl rfl)
theorem dX1_searches_60 : decode cX1_searches 60 = .ok (.iload_n 1, 1) := dk_27 (dk_at dksX1_searches_2 16 rfl rfl)
theorem dX1_searches_61 : decode cX1_searches 61 = .ok (.ifCond .ne 11, 3) := dk_154 0 11 (dk_at dksX1_searches_2 17 rfl rfl)
theorem dX1_searches_64 : decode cX1_searches 64 = .ok (.aload_n 0, 1) := dk_42 (dk_at dksX1_searches_2 20 rfl rfl)
theorem dX1_searches_65 : decode cX1_searches 65 = .ok (.getfield 131, 3) := dk_180 0 131 (dk_at dksX1_searches_2 21 rfl rfl)
theorem dX1_searches_68 : decode cX1_searches 68 = .ok (.i2l, 1) := dk_133 (dk_at dksX1_searches_3 0 rfl rfl)
theorem dX1_searches_69 : decode cX1_searches 69 = .ok (.goto 8, 3) := dk_167 0 8 (dk_at dksX1_searches_3 1 rfl rfl)
theorem dX1_searches_72 : decode cX1_searches 72 = .ok (.aload_n 0, 1) := dk_42 (dk_at dksX1_searches_3 4 rfl rfl)
theorem dX1_searches_73 : decode cX1_searches 73 = .ok (.iconst 4, 1) := dk_7 (dk_at dksX1_searches_3 5 rfl rfl)
theorem dX1_searches_74 : decode cX1_searches 74 = .ok (.invokevirtual 196, 3) := dk_182 0 196 (dk_at dksX1_searches_3 6 rfl rfl)
theorem dX1_searches_77 : decode cX1_searches 77 = .ok (.iconst 1, 1) := dk_4 (dk_at dksX1_searches_3 9 rfl rfl)
theorem dX1_searches_78 : decode cX1_searches 78 = .ok (.invokevirtual 192, 3) := dk_182 0 192 (dk_at dksX1_searches_3 10 rfl rfl)
theorem dX1_searches_81 : decode cX1_searches 81 = .ok (.aload_n 0, 1) := dk_42 (dk_at dksX1_searches_3 13 rfl rfl)
theorem dX1_searches_82 : decode cX1_searches 82 = .ok (.iconst 0, 1) := dk_3 (dk_at dksX1_searches_3 14 rfl rfl)
theorem dX1_searches_83 : decode cX1_searches 83 = .ok (.invokevirtual 184, 3) := dk_182 0 184 (dk_at dksX1_searches_3 15 rfl rfl)
theorem dX1_searches_86 : decode cX1_searches 86 = .ok (.istore_n 3, 1) := dk_62 (dk_at dksX1_searches_3 18 rfl rfl)
theorem dX1_searches_87 : decode cX1_searches 87 = .ok (.goto (-61), 3) := dk_167 255 195 (dk_at dksX1_searches_3 19 rfl rfl)
theorem dX1_searches_90 : decode cX1_searches 90 = .ok (.iinc 2 1, 3) := dk_132 2 1 (dk_at dksX1_searches_4 0 rfl rfl)
theorem dX1_searches_93 : decode cX1_searches 93 = .ok (.goto (-85), 3) := dk_167 255 171 (dk_at dksX1_searches_4 3 rfl rfl)
theorem dX1_searches_96 : decode cX1_searches 96 = .ok (.return_, 1) := dk_177 (dk_at dksX1_searches_4 6 rfl rfl)
abbrev cX1_starts : ByteArray := prog_20_method_26_code
def yX1_starts : MethodName := ⟨RX1, "starts", "(II)V"⟩
def dkwX1_starts_1 : List UInt8 := [96, 120, 4, 100, 167, 0, 6, 4, 27, 120, 181, 0, 140, 177]
abbrev dktX1_starts_1 : List UInt8 := dkwX1_starts_1 ++ []
def dkwX1_starts_0 : List UInt8 := [42, 3, 181, 0, 131, 42, 27, 181, 0, 134, 42, 28, 181, 0, 137, 42, 27, 28, 160, 0, 13, 4, 27, 4]
abbrev dktX1_starts_0 : List UInt8 := dkwX1_starts_0 ++ dktX1_starts_1
theorem dksX1_starts_0 : cX1_starts.data.toList.drop 0 = dktX1_starts_0 := by decide +kernel
theorem dksX1_starts_1 : cX1_starts.data.toList.drop 24 = dktX1_starts_1 := dk_seg dksX1_starts_0 24 rfl rfl
theorem dX1_starts_0 : decode cX1_starts 0 = .ok (.aload_n 0, 1) := dk_42 (dk_at dksX1_starts_0 0 rfl rfl)
theorem dX1_starts_1 : decode cX1_starts 1 = .ok (.iconst 0, 1) := dk_3 (dk_at dksX1_starts_0 1 rfl rfl)
theorem dX1_starts_2 : decode cX1_starts 2 = .ok (.putfield 131, 3) := dk_181 0 131 (dk_at dksX1_starts_0 2 rfl rfl)
theorem dX1_starts_5 : decode cX1_starts 5 = .ok (.aload_n 0, 1) := dk_42 (dk_at dksX1_starts_0 5 rfl rfl)
theorem dX1_starts_6 : decode cX1_starts 6 = .ok (.iload_n 1, 1) := dk_27 (dk_at dksX1_starts_0 6 rfl rfl)
theorem dX1_starts_7 : decode cX1_starts 7 = .ok (.putfield 134, 3) := dk_181 0 134 (dk_at dksX1_starts_0 7 rfl rfl)
theorem dX1_starts_10 : decode cX1_starts 10 = .ok (.aload_n 0, 1) := dk_42 (dk_at dksX1_starts_0 10 rfl rfl)
theorem dX1_starts_11 : decode cX1_starts 11 = .ok (.iload_n 2, 1) := dk_28 (dk_at dksX1_starts_0 11 rfl rfl)
theorem dX1_starts_12 : decode cX1_starts 12 = .ok (.putfield 137, 3) := dk_181 0 137 (dk_at dksX1_starts_0 12 rfl rfl)
theorem dX1_starts_15 : decode cX1_starts 15 = .ok (.aload_n 0, 1) := dk_42 (dk_at dksX1_starts_0 15 rfl rfl)
theorem dX1_starts_16 : decode cX1_starts 16 = .ok (.iload_n 1, 1) := dk_27 (dk_at dksX1_starts_0 16 rfl rfl)
theorem dX1_starts_17 : decode cX1_starts 17 = .ok (.iload_n 2, 1) := dk_28 (dk_at dksX1_starts_0 17 rfl rfl)
theorem dX1_starts_18 : decode cX1_starts 18 = .ok (.if_icmp .ne 13, 3) := dk_160 0 13 (dk_at dksX1_starts_0 18 rfl rfl)
theorem dX1_starts_21 : decode cX1_starts 21 = .ok (.iconst 1, 1) := dk_4 (dk_at dksX1_starts_0 21 rfl rfl)
theorem dX1_starts_22 : decode cX1_starts 22 = .ok (.iload_n 1, 1) := dk_27 (dk_at dksX1_starts_0 22 rfl rfl)
theorem dX1_starts_23 : decode cX1_starts 23 = .ok (.iconst 1, 1) := dk_4 (dk_at dksX1_starts_0 23 rfl rfl)
theorem dX1_starts_24 : decode cX1_starts 24 = .ok (.iadd, 1) := dk_96 (dk_at dksX1_starts_1 0 rfl rfl)
theorem dX1_starts_25 : decode cX1_starts 25 = .ok (.ishl, 1) := dk_120 (dk_at dksX1_starts_1 1 rfl rfl)
theorem dX1_starts_26 : decode cX1_starts 26 = .ok (.iconst 1, 1) := dk_4 (dk_at dksX1_starts_1 2 rfl rfl)
theorem dX1_starts_27 : decode cX1_starts 27 = .ok (.isub, 1) := dk_100 (dk_at dksX1_starts_1 3 rfl rfl)
theorem dX1_starts_28 : decode cX1_starts 28 = .ok (.goto 6, 3) := dk_167 0 6 (dk_at dksX1_starts_1 4 rfl rfl)
theorem dX1_starts_31 : decode cX1_starts 31 = .ok (.iconst 1, 1) := dk_4 (dk_at dksX1_starts_1 7 rfl rfl)
theorem dX1_starts_32 : decode cX1_starts 32 = .ok (.iload_n 1, 1) := dk_27 (dk_at dksX1_starts_1 8 rfl rfl)
theorem dX1_starts_33 : decode cX1_starts 33 = .ok (.ishl, 1) := dk_120 (dk_at dksX1_starts_1 9 rfl rfl)
theorem dX1_starts_34 : decode cX1_starts 34 = .ok (.putfield 140, 3) := dk_181 0 140 (dk_at dksX1_starts_1 10 rfl rfl)
theorem dX1_starts_37 : decode cX1_starts 37 = .ok (.return_, 1) := dk_177 (dk_at dksX1_starts_1 13 rfl rfl)
abbrev cX1_goesOn : ByteArray := prog_20_method_29_code
def yX1_goesOn : MethodName := ⟨RX1, "goesOn", "(Z)Z"⟩
def dkwX1_goesOn_4 : List UInt8 := [180, 0, 37, 42, 180, 0, 131, 4, 100, 46, 4, 182, 0, 80, 42, 180, 0, 137, 160, 255, 147, 4, 172]
abbrev dktX1_goesOn_4 : List UInt8 := dkwX1_goesOn_4 ++ []
def dkwX1_goesOn_3 : List UInt8 := [182, 0, 80, 120, 2, 130, 126, 181, 0, 140, 42, 29, 182, 0, 146, 61, 3, 62, 28, 153, 255, 170, 42, 42]
abbrev dktX1_goesOn_3 : List UInt8 := dkwX1_goesOn_3 ++ dktX1_goesOn_4
def dkwX1_goesOn_2 : List UInt8 := [42, 21, 4, 4, 182, 0, 80, 42, 180, 0, 137, 160, 0, 7, 2, 167, 0, 14, 4, 42, 21, 4, 4]
abbrev dktX1_goesOn_2 : List UInt8 := dkwX1_goesOn_2 ++ dktX1_goesOn_3
def dkwX1_goesOn_1 : List UInt8 := [181, 0, 131, 42, 180, 0, 37, 42, 180, 0, 131, 46, 54, 4, 21, 4, 4, 96, 62, 42, 89, 180, 0, 140]
abbrev dktX1_goesOn_1 : List UInt8 := dkwX1_goesOn_1 ++ dktX1_goesOn_2
def dkwX1_goesOn_0 : List UInt8 := [27, 61, 3, 62, 28, 154, 0, 76, 42, 180, 0, 131, 154, 0, 5, 3, 172, 42, 89, 180, 0, 131, 4, 100]
abbrev dktX1_goesOn_0 : List UInt8 := dkwX1_goesOn_0 ++ dktX1_goesOn_1
theorem dksX1_goesOn_0 : cX1_goesOn.data.toList.drop 0 = dktX1_goesOn_0 := by decide +kernel
theorem dksX1_goesOn_1 : cX1_goesOn.data.toList.drop 24 = dktX1_goesOn_1 := dk_seg dksX1_goesOn_0 24 rfl rfl
theorem dksX1_goesOn_2 : cX1_goesOn.data.toList.drop 48 = dktX1_goesOn_2 := dk_seg dksX1_goesOn_1 24 rfl rfl
theorem dksX1_goesOn_3 : cX1_goesOn.data.toList.drop 71 = dktX1_goesOn_3 := dk_seg dksX1_goesOn_2 23 rfl rfl
theorem dksX1_goesOn_4 : cX1_goesOn.data.toList.drop 95 = dktX1_goesOn_4 := dk_seg dksX1_goesOn_3 24 rfl rfl
theorem dX1_goesOn_0 : decode cX1_goesOn 0 = .ok (.iload_n 1, 1) := dk_27 (dk_at dksX1_goesOn_0 0 rfl rfl)
theorem dX1_goesOn_1 : decode cX1_goesOn 1 = .ok (.istore_n 2, 1) := dk_61 (dk_at dksX1_goesOn_0 1 rfl rfl)
theorem dX1_goesOn_2 : decode cX1_goesOn 2 = .ok (.iconst 0, 1) := dk_3 (dk_at dksX1_goesOn_0 2 rfl rfl)
theorem dX1_goesOn_3 : decode cX1_goesOn 3 = .ok (.istore_n 3, 1) := dk_62 (dk_at dksX1_goesOn_0 3 rfl rfl)
theorem dX1_goesOn_4 : decode cX1_goesOn 4 = .ok (.iload_n 2, 1) := dk_28 (dk_at dksX1_goesOn_0 4 rfl rfl)
theorem dX1_goesOn_5 : decode cX1_goesOn 5 = .ok (.ifCond .ne 76, 3) := dk_154 0 76 (dk_at dksX1_goesOn_0 5 rfl rfl)
theorem dX1_goesOn_8 : decode cX1_goesOn 8 = .ok (.aload_n 0, 1) := dk_42 (dk_at dksX1_goesOn_0 8 rfl rfl)
theorem dX1_goesOn_9 : decode cX1_goesOn 9 = .ok (.getfield 131, 3) := dk_180 0 131 (dk_at dksX1_goesOn_0 9 rfl rfl)
theorem dX1_goesOn_12 : decode cX1_goesOn 12 = .ok (.ifCond .ne 5, 3) := dk_154 0 5 (dk_at dksX1_goesOn_0 12 rfl rfl)
theorem dX1_goesOn_15 : decode cX1_goesOn 15 = .ok (.iconst 0, 1) := dk_3 (dk_at dksX1_goesOn_0 15 rfl rfl)
theorem dX1_goesOn_16 : decode cX1_goesOn 16 = .ok (.ireturn, 1) := dk_172 (dk_at dksX1_goesOn_0 16 rfl rfl)
theorem dX1_goesOn_17 : decode cX1_goesOn 17 = .ok (.aload_n 0, 1) := dk_42 (dk_at dksX1_goesOn_0 17 rfl rfl)
theorem dX1_goesOn_18 : decode cX1_goesOn 18 = .ok (.dup, 1) := dk_89 (dk_at dksX1_goesOn_0 18 rfl rfl)
theorem dX1_goesOn_19 : decode cX1_goesOn 19 = .ok (.getfield 131, 3) := dk_180 0 131 (dk_at dksX1_goesOn_0 19 rfl rfl)
theorem dX1_goesOn_22 : decode cX1_goesOn 22 = .ok (.iconst 1, 1) := dk_4 (dk_at dksX1_goesOn_0 22 rfl rfl)
theorem dX1_goesOn_23 : decode cX1_goesOn 23 = .ok (.isub, 1) := dk_100 (dk_at dksX1_goesOn_0 23 rfl rfl)
theorem dX1_goesOn_24 : decode cX1_goesOn 24 = .ok (.putfield 131, 3) := dk_181 0 131 (dk_at dksX1_goesOn_1 0 rfl rfl)
theorem dX1_goesOn_27 : decode cX1_goesOn 27 = .ok (.aload_n 0, 1) := dk_42 (dk_at dksX1_goesOn_1 3 rfl rfl)
theorem dX1_goesOn_28 : decode cX1_goesOn 28 = .ok (.getfield 37, 3) := dk_180 0 37 (dk_at dksX1_goesOn_1 4 rfl rfl)
theorem dX1_goesOn_31 : decode cX1_goesOn 31 = .ok (.aload_n 0, 1) := dk_42 (dk_at dksX1_goesOn_1 7 rfl rfl)
theorem dX1_goesOn_32 : decode cX1_goesOn 32 = .ok (.getfield 131, 3) := dk_180 0 131 (dk_at dksX1_goesOn_1 8 rfl rfl)
theorem dX1_goesOn_35 : decode cX1_goesOn 35 = .ok (.iaload, 1) := dk_46 (dk_at dksX1_goesOn_1 11 rfl rfl)
theorem dX1_goesOn_36 : decode cX1_goesOn 36 = .ok (.istore 4, 2) := dk_54 4 (dk_at dksX1_goesOn_1 12 rfl rfl)
theorem dX1_goesOn_38 : decode cX1_goesOn 38 = .ok (.iload 4, 2) := dk_21 4 (dk_at dksX1_goesOn_1 14 rfl rfl)
theorem dX1_goesOn_40 : decode cX1_goesOn 40 = .ok (.iconst 1, 1) := dk_4 (dk_at dksX1_goesOn_1 16 rfl rfl)
theorem dX1_goesOn_41 : decode cX1_goesOn 41 = .ok (.iadd, 1) := dk_96 (dk_at dksX1_goesOn_1 17 rfl rfl)
theorem dX1_goesOn_42 : decode cX1_goesOn 42 = .ok (.istore_n 3, 1) := dk_62 (dk_at dksX1_goesOn_1 18 rfl rfl)
theorem dX1_goesOn_43 : decode cX1_goesOn 43 = .ok (.aload_n 0, 1) := dk_42 (dk_at dksX1_goesOn_1 19 rfl rfl)
theorem dX1_goesOn_44 : decode cX1_goesOn 44 = .ok (.dup, 1) := dk_89 (dk_at dksX1_goesOn_1 20 rfl rfl)
theorem dX1_goesOn_45 : decode cX1_goesOn 45 = .ok (.getfield 140, 3) := dk_180 0 140 (dk_at dksX1_goesOn_1 21 rfl rfl)
theorem dX1_goesOn_48 : decode cX1_goesOn 48 = .ok (.aload_n 0, 1) := dk_42 (dk_at dksX1_goesOn_2 0 rfl rfl)
theorem dX1_goesOn_49 : decode cX1_goesOn 49 = .ok (.iload 4, 2) := dk_21 4 (dk_at dksX1_goesOn_2 1 rfl rfl)
theorem dX1_goesOn_51 : decode cX1_goesOn 51 = .ok (.iconst 1, 1) := dk_4 (dk_at dksX1_goesOn_2 3 rfl rfl)
theorem dX1_goesOn_52 : decode cX1_goesOn 52 = .ok (.invokevirtual 80, 3) := dk_182 0 80 (dk_at dksX1_goesOn_2 4 rfl rfl)
theorem dX1_goesOn_55 : decode cX1_goesOn 55 = .ok (.aload_n 0, 1) := dk_42 (dk_at dksX1_goesOn_2 7 rfl rfl)
theorem dX1_goesOn_56 : decode cX1_goesOn 56 = .ok (.getfield 137, 3) := dk_180 0 137 (dk_at dksX1_goesOn_2 8 rfl rfl)
theorem dX1_goesOn_59 : decode cX1_goesOn 59 = .ok (.if_icmp .ne 7, 3) := dk_160 0 7 (dk_at dksX1_goesOn_2 11 rfl rfl)
theorem dX1_goesOn_62 : decode cX1_goesOn 62 = .ok (.iconst (-1), 1) := dk_2 (dk_at dksX1_goesOn_2 14 rfl rfl)
theorem dX1_goesOn_63 : decode cX1_goesOn 63 = .ok (.goto 14, 3) := dk_167 0 14 (dk_at dksX1_goesOn_2 15 rfl rfl)
theorem dX1_goesOn_66 : decode cX1_goesOn 66 = .ok (.iconst 1, 1) := dk_4 (dk_at dksX1_goesOn_2 18 rfl rfl)
theorem dX1_goesOn_67 : decode cX1_goesOn 67 = .ok (.aload_n 0, 1) := dk_42 (dk_at dksX1_goesOn_2 19 rfl rfl)
theorem dX1_goesOn_68 : decode cX1_goesOn 68 = .ok (.iload 4, 2) := dk_21 4 (dk_at dksX1_goesOn_2 20 rfl rfl)
theorem dX1_goesOn_70 : decode cX1_goesOn 70 = .ok (.iconst 1, 1) := dk_4 (dk_at dksX1_goesOn_2 22 rfl rfl)
theorem dX1_goesOn_71 : decode cX1_goesOn 71 = .ok (.invokevirtual 80, 3) := dk_182 0 80 (dk_at dksX1_goesOn_3 0 rfl rfl)
theorem dX1_goesOn_74 : decode cX1_goesOn 74 = .ok (.ishl, 1) := dk_120 (dk_at dksX1_goesOn_3 3 rfl rfl)
theorem dX1_goesOn_75 : decode cX1_goesOn 75 = .ok (.iconst (-1), 1) := dk_2 (dk_at dksX1_goesOn_3 4 rfl rfl)
theorem dX1_goesOn_76 : decode cX1_goesOn 76 = .ok (.ixor, 1) := dk_130 (dk_at dksX1_goesOn_3 5 rfl rfl)
theorem dX1_goesOn_77 : decode cX1_goesOn 77 = .ok (.iand, 1) := dk_126 (dk_at dksX1_goesOn_3 6 rfl rfl)
theorem dX1_goesOn_78 : decode cX1_goesOn 78 = .ok (.putfield 140, 3) := dk_181 0 140 (dk_at dksX1_goesOn_3 7 rfl rfl)
theorem dX1_goesOn_81 : decode cX1_goesOn 81 = .ok (.aload_n 0, 1) := dk_42 (dk_at dksX1_goesOn_3 10 rfl rfl)
theorem dX1_goesOn_82 : decode cX1_goesOn 82 = .ok (.iload_n 3, 1) := dk_29 (dk_at dksX1_goesOn_3 11 rfl rfl)
theorem dX1_goesOn_83 : decode cX1_goesOn 83 = .ok (.invokevirtual 146, 3) := dk_182 0 146 (dk_at dksX1_goesOn_3 12 rfl rfl)
theorem dX1_goesOn_86 : decode cX1_goesOn 86 = .ok (.istore_n 2, 1) := dk_61 (dk_at dksX1_goesOn_3 15 rfl rfl)
theorem dX1_goesOn_87 : decode cX1_goesOn 87 = .ok (.iconst 0, 1) := dk_3 (dk_at dksX1_goesOn_3 16 rfl rfl)
theorem dX1_goesOn_88 : decode cX1_goesOn 88 = .ok (.istore_n 3, 1) := dk_62 (dk_at dksX1_goesOn_3 17 rfl rfl)
theorem dX1_goesOn_89 : decode cX1_goesOn 89 = .ok (.iload_n 2, 1) := dk_28 (dk_at dksX1_goesOn_3 18 rfl rfl)
theorem dX1_goesOn_90 : decode cX1_goesOn 90 = .ok (.ifCond .eq (-86), 3) := dk_153 255 170 (dk_at dksX1_goesOn_3 19 rfl rfl)
theorem dX1_goesOn_93 : decode cX1_goesOn 93 = .ok (.aload_n 0, 1) := dk_42 (dk_at dksX1_goesOn_3 22 rfl rfl)
theorem dX1_goesOn_94 : decode cX1_goesOn 94 = .ok (.aload_n 0, 1) := dk_42 (dk_at dksX1_goesOn_3 23 rfl rfl)
theorem dX1_goesOn_95 : decode cX1_goesOn 95 = .ok (.getfield 37, 3) := dk_180 0 37 (dk_at dksX1_goesOn_4 0 rfl rfl)
theorem dX1_goesOn_98 : decode cX1_goesOn 98 = .ok (.aload_n 0, 1) := dk_42 (dk_at dksX1_goesOn_4 3 rfl rfl)
theorem dX1_goesOn_99 : decode cX1_goesOn 99 = .ok (.getfield 131, 3) := dk_180 0 131 (dk_at dksX1_goesOn_4 4 rfl rfl)
theorem dX1_goesOn_102 : decode cX1_goesOn 102 = .ok (.iconst 1, 1) := dk_4 (dk_at dksX1_goesOn_4 7 rfl rfl)
theorem dX1_goesOn_103 : decode cX1_goesOn 103 = .ok (.isub, 1) := dk_100 (dk_at dksX1_goesOn_4 8 rfl rfl)
theorem dX1_goesOn_104 : decode cX1_goesOn 104 = .ok (.iaload, 1) := dk_46 (dk_at dksX1_goesOn_4 9 rfl rfl)
theorem dX1_goesOn_105 : decode cX1_goesOn 105 = .ok (.iconst 1, 1) := dk_4 (dk_at dksX1_goesOn_4 10 rfl rfl)
theorem dX1_goesOn_106 : decode cX1_goesOn 106 = .ok (.invokevirtual 80, 3) := dk_182 0 80 (dk_at dksX1_goesOn_4 11 rfl rfl)
theorem dX1_goesOn_109 : decode cX1_goesOn 109 = .ok (.aload_n 0, 1) := dk_42 (dk_at dksX1_goesOn_4 14 rfl rfl)
theorem dX1_goesOn_110 : decode cX1_goesOn 110 = .ok (.getfield 137, 3) := dk_180 0 137 (dk_at dksX1_goesOn_4 15 rfl rfl)
theorem dX1_goesOn_113 : decode cX1_goesOn 113 = .ok (.if_icmp .ne (-109), 3) := dk_160 255 147 (dk_at dksX1_goesOn_4 18 rfl rfl)
theorem dX1_goesOn_116 : decode cX1_goesOn 116 = .ok (.iconst 1, 1) := dk_4 (dk_at dksX1_goesOn_4 21 rfl rfl)
theorem dX1_goesOn_117 : decode cX1_goesOn 117 = .ok (.ireturn, 1) := dk_172 (dk_at dksX1_goesOn_4 22 rfl rfl)
abbrev cX1_forth : ByteArray := prog_20_method_28_code
def yX1_forth : MethodName := ⟨RX1, "forth", "(I)Z"⟩
def dkwX1_forth_4 : List UInt8 := [167, 0, 7, 4, 21, 4, 120, 128, 181, 0, 140, 4, 172, 132, 3, 1, 167, 255, 155, 3, 172]
abbrev dktX1_forth_4 : List UInt8 := dkwX1_forth_4 ++ []
def dkwX1_forth_3 : List UInt8 := [180, 0, 131, 4, 96, 181, 0, 131, 42, 89, 180, 0, 140, 21, 4, 42, 180, 0, 137, 160, 0, 7, 3]
abbrev dktX1_forth_3 : List UInt8 := dkwX1_forth_3 ++ dktX1_forth_4
def dkwX1_forth_2 : List UInt8 := [180, 0, 140, 21, 4, 122, 4, 126, 154, 0, 51, 42, 180, 0, 37, 42, 180, 0, 131, 29, 79, 42, 89]
abbrev dktX1_forth_2 : List UInt8 := dkwX1_forth_2 ++ dktX1_forth_3
def dkwX1_forth_1 : List UInt8 := [54, 4, 42, 29, 3, 182, 0, 80, 28, 160, 0, 72, 21, 4, 42, 180, 0, 137, 159, 0, 15, 42]
abbrev dktX1_forth_1 : List UInt8 := dkwX1_forth_1 ++ dktX1_forth_2
def dkwX1_forth_0 : List UInt8 := [42, 182, 0, 143, 61, 27, 62, 29, 42, 180, 0, 7, 16, 112, 46, 162, 0, 96, 42, 29, 4, 182, 0, 80]
abbrev dktX1_forth_0 : List UInt8 := dkwX1_forth_0 ++ dktX1_forth_1
theorem dksX1_forth_0 : cX1_forth.data.toList.drop 0 = dktX1_forth_0 := by decide +kernel
theorem dksX1_forth_1 : cX1_forth.data.toList.drop 24 = dktX1_forth_1 := dk_seg dksX1_forth_0 24 rfl rfl
theorem dksX1_forth_2 : cX1_forth.data.toList.drop 46 = dktX1_forth_2 := dk_seg dksX1_forth_1 22 rfl rfl
theorem dksX1_forth_3 : cX1_forth.data.toList.drop 69 = dktX1_forth_3 := dk_seg dksX1_forth_2 23 rfl rfl
theorem dksX1_forth_4 : cX1_forth.data.toList.drop 92 = dktX1_forth_4 := dk_seg dksX1_forth_3 23 rfl rfl
theorem dX1_forth_0 : decode cX1_forth 0 = .ok (.aload_n 0, 1) := dk_42 (dk_at dksX1_forth_0 0 rfl rfl)
theorem dX1_forth_1 : decode cX1_forth 1 = .ok (.invokevirtual 143, 3) := dk_182 0 143 (dk_at dksX1_forth_0 1 rfl rfl)
theorem dX1_forth_4 : decode cX1_forth 4 = .ok (.istore_n 2, 1) := dk_61 (dk_at dksX1_forth_0 4 rfl rfl)
theorem dX1_forth_5 : decode cX1_forth 5 = .ok (.iload_n 1, 1) := dk_27 (dk_at dksX1_forth_0 5 rfl rfl)
theorem dX1_forth_6 : decode cX1_forth 6 = .ok (.istore_n 3, 1) := dk_62 (dk_at dksX1_forth_0 6 rfl rfl)
theorem dX1_forth_7 : decode cX1_forth 7 = .ok (.iload_n 3, 1) := dk_29 (dk_at dksX1_forth_0 7 rfl rfl)
theorem dX1_forth_8 : decode cX1_forth 8 = .ok (.aload_n 0, 1) := dk_42 (dk_at dksX1_forth_0 8 rfl rfl)
theorem dX1_forth_9 : decode cX1_forth 9 = .ok (.getfield 7, 3) := dk_180 0 7 (dk_at dksX1_forth_0 9 rfl rfl)
theorem dX1_forth_12 : decode cX1_forth 12 = .ok (.bipush 112, 2) := dk_16 112 (dk_at dksX1_forth_0 12 rfl rfl)
theorem dX1_forth_14 : decode cX1_forth 14 = .ok (.iaload, 1) := dk_46 (dk_at dksX1_forth_0 14 rfl rfl)
theorem dX1_forth_15 : decode cX1_forth 15 = .ok (.if_icmp .ge 96, 3) := dk_162 0 96 (dk_at dksX1_forth_0 15 rfl rfl)
theorem dX1_forth_18 : decode cX1_forth 18 = .ok (.aload_n 0, 1) := dk_42 (dk_at dksX1_forth_0 18 rfl rfl)
theorem dX1_forth_19 : decode cX1_forth 19 = .ok (.iload_n 3, 1) := dk_29 (dk_at dksX1_forth_0 19 rfl rfl)
theorem dX1_forth_20 : decode cX1_forth 20 = .ok (.iconst 1, 1) := dk_4 (dk_at dksX1_forth_0 20 rfl rfl)
theorem dX1_forth_21 : decode cX1_forth 21 = .ok (.invokevirtual 80, 3) := dk_182 0 80 (dk_at dksX1_forth_0 21 rfl rfl)
theorem dX1_forth_24 : decode cX1_forth 24 = .ok (.istore 4, 2) := dk_54 4 (dk_at dksX1_forth_1 0 rfl rfl)
theorem dX1_forth_26 : decode cX1_forth 26 = .ok (.aload_n 0, 1) := dk_42 (dk_at dksX1_forth_1 2 rfl rfl)
theorem dX1_forth_27 : decode cX1_forth 27 = .ok (.iload_n 3, 1) := dk_29 (dk_at dksX1_forth_1 3 rfl rfl)
theorem dX1_forth_28 : decode cX1_forth 28 = .ok (.iconst 0, 1) := dk_3 (dk_at dksX1_forth_1 4 rfl rfl)
theorem dX1_forth_29 : decode cX1_forth 29 = .ok (.invokevirtual 80, 3) := dk_182 0 80 (dk_at dksX1_forth_1 5 rfl rfl)
theorem dX1_forth_32 : decode cX1_forth 32 = .ok (.iload_n 2, 1) := dk_28 (dk_at dksX1_forth_1 8 rfl rfl)
theorem dX1_forth_33 : decode cX1_forth 33 = .ok (.if_icmp .ne 72, 3) := dk_160 0 72 (dk_at dksX1_forth_1 9 rfl rfl)
theorem dX1_forth_36 : decode cX1_forth 36 = .ok (.iload 4, 2) := dk_21 4 (dk_at dksX1_forth_1 12 rfl rfl)
theorem dX1_forth_38 : decode cX1_forth 38 = .ok (.aload_n 0, 1) := dk_42 (dk_at dksX1_forth_1 14 rfl rfl)
theorem dX1_forth_39 : decode cX1_forth 39 = .ok (.getfield 137, 3) := dk_180 0 137 (dk_at dksX1_forth_1 15 rfl rfl)
theorem dX1_forth_42 : decode cX1_forth 42 = .ok (.if_icmp .eq 15, 3) := dk_159 0 15 (dk_at dksX1_forth_1 18 rfl rfl)
theorem dX1_forth_45 : decode cX1_forth 45 = .ok (.aload_n 0, 1) := dk_42 (dk_at dksX1_forth_1 21 rfl rfl)
theorem dX1_forth_46 : decode cX1_forth 46 = .ok (.getfield 140, 3) := dk_180 0 140 (dk_at dksX1_forth_2 0 rfl rfl)
theorem dX1_forth_49 : decode cX1_forth 49 = .ok (.iload 4, 2) := dk_21 4 (dk_at dksX1_forth_2 3 rfl rfl)
theorem dX1_forth_51 : decode cX1_forth 51 = .ok (.ishr, 1) := dk_122 (dk_at dksX1_forth_2 5 rfl rfl)
theorem dX1_forth_52 : decode cX1_forth 52 = .ok (.iconst 1, 1) := dk_4 (dk_at dksX1_forth_2 6 rfl rfl)
theorem dX1_forth_53 : decode cX1_forth 53 = .ok (.iand, 1) := dk_126 (dk_at dksX1_forth_2 7 rfl rfl)
theorem dX1_forth_54 : decode cX1_forth 54 = .ok (.ifCond .ne 51, 3) := dk_154 0 51 (dk_at dksX1_forth_2 8 rfl rfl)
theorem dX1_forth_57 : decode cX1_forth 57 = .ok (.aload_n 0, 1) := dk_42 (dk_at dksX1_forth_2 11 rfl rfl)
theorem dX1_forth_58 : decode cX1_forth 58 = .ok (.getfield 37, 3) := dk_180 0 37 (dk_at dksX1_forth_2 12 rfl rfl)
theorem dX1_forth_61 : decode cX1_forth 61 = .ok (.aload_n 0, 1) := dk_42 (dk_at dksX1_forth_2 15 rfl rfl)
theorem dX1_forth_62 : decode cX1_forth 62 = .ok (.getfield 131, 3) := dk_180 0 131 (dk_at dksX1_forth_2 16 rfl rfl)
theorem dX1_forth_65 : decode cX1_forth 65 = .ok (.iload_n 3, 1) := dk_29 (dk_at dksX1_forth_2 19 rfl rfl)
theorem dX1_forth_66 : decode cX1_forth 66 = .ok (.iastore, 1) := dk_79 (dk_at dksX1_forth_2 20 rfl rfl)
theorem dX1_forth_67 : decode cX1_forth 67 = .ok (.aload_n 0, 1) := dk_42 (dk_at dksX1_forth_2 21 rfl rfl)
theorem dX1_forth_68 : decode cX1_forth 68 = .ok (.dup, 1) := dk_89 (dk_at dksX1_forth_2 22 rfl rfl)
theorem dX1_forth_69 : decode cX1_forth 69 = .ok (.getfield 131, 3) := dk_180 0 131 (dk_at dksX1_forth_3 0 rfl rfl)
theorem dX1_forth_72 : decode cX1_forth 72 = .ok (.iconst 1, 1) := dk_4 (dk_at dksX1_forth_3 3 rfl rfl)
theorem dX1_forth_73 : decode cX1_forth 73 = .ok (.iadd, 1) := dk_96 (dk_at dksX1_forth_3 4 rfl rfl)
theorem dX1_forth_74 : decode cX1_forth 74 = .ok (.putfield 131, 3) := dk_181 0 131 (dk_at dksX1_forth_3 5 rfl rfl)
theorem dX1_forth_77 : decode cX1_forth 77 = .ok (.aload_n 0, 1) := dk_42 (dk_at dksX1_forth_3 8 rfl rfl)
theorem dX1_forth_78 : decode cX1_forth 78 = .ok (.dup, 1) := dk_89 (dk_at dksX1_forth_3 9 rfl rfl)
theorem dX1_forth_79 : decode cX1_forth 79 = .ok (.getfield 140, 3) := dk_180 0 140 (dk_at dksX1_forth_3 10 rfl rfl)
theorem dX1_forth_82 : decode cX1_forth 82 = .ok (.iload 4, 2) := dk_21 4 (dk_at dksX1_forth_3 13 rfl rfl)
theorem dX1_forth_84 : decode cX1_forth 84 = .ok (.aload_n 0, 1) := dk_42 (dk_at dksX1_forth_3 15 rfl rfl)
theorem dX1_forth_85 : decode cX1_forth 85 = .ok (.getfield 137, 3) := dk_180 0 137 (dk_at dksX1_forth_3 16 rfl rfl)
theorem dX1_forth_88 : decode cX1_forth 88 = .ok (.if_icmp .ne 7, 3) := dk_160 0 7 (dk_at dksX1_forth_3 19 rfl rfl)
theorem dX1_forth_91 : decode cX1_forth 91 = .ok (.iconst 0, 1) := dk_3 (dk_at dksX1_forth_3 22 rfl rfl)
theorem dX1_forth_92 : decode cX1_forth 92 = .ok (.goto 7, 3) := dk_167 0 7 (dk_at dksX1_forth_4 0 rfl rfl)
theorem dX1_forth_95 : decode cX1_forth 95 = .ok (.iconst 1, 1) := dk_4 (dk_at dksX1_forth_4 3 rfl rfl)
theorem dX1_forth_96 : decode cX1_forth 96 = .ok (.iload 4, 2) := dk_21 4 (dk_at dksX1_forth_4 4 rfl rfl)
theorem dX1_forth_98 : decode cX1_forth 98 = .ok (.ishl, 1) := dk_120 (dk_at dksX1_forth_4 6 rfl rfl)
theorem dX1_forth_99 : decode cX1_forth 99 = .ok (.ior, 1) := dk_128 (dk_at dksX1_forth_4 7 rfl rfl)
theorem dX1_forth_100 : decode cX1_forth 100 = .ok (.putfield 140, 3) := dk_181 0 140 (dk_at dksX1_forth_4 8 rfl rfl)
theorem dX1_forth_103 : decode cX1_forth 103 = .ok (.iconst 1, 1) := dk_4 (dk_at dksX1_forth_4 11 rfl rfl)
theorem dX1_forth_104 : decode cX1_forth 104 = .ok (.ireturn, 1) := dk_172 (dk_at dksX1_forth_4 12 rfl rfl)
theorem dX1_forth_105 : decode cX1_forth 105 = .ok (.iinc 3 1, 3) := dk_132 3 1 (dk_at dksX1_forth_4 13 rfl rfl)
theorem dX1_forth_108 : decode cX1_forth 108 = .ok (.goto (-101), 3) := dk_167 255 155 (dk_at dksX1_forth_4 16 rfl rfl)
theorem dX1_forth_111 : decode cX1_forth 111 = .ok (.iconst 0, 1) := dk_3 (dk_at dksX1_forth_4 19 rfl rfl)
theorem dX1_forth_112 : decode cX1_forth 112 = .ok (.ireturn, 1) := dk_172 (dk_at dksX1_forth_4 20 rfl rfl)
abbrev cX1_here : ByteArray := prog_20_method_27_code
def yX1_here : MethodName := ⟨RX1, "here", "()I"⟩
def dkwX1_here_1 : List UInt8 := [100, 46, 4, 182, 0, 80, 172]
abbrev dktX1_here_1 : List UInt8 := dkwX1_here_1 ++ []
def dkwX1_here_0 : List UInt8 := [42, 180, 0, 131, 154, 0, 10, 42, 180, 0, 134, 167, 0, 19, 42, 42, 180, 0, 37, 42, 180, 0, 131, 4]
abbrev dktX1_here_0 : List UInt8 := dkwX1_here_0 ++ dktX1_here_1
theorem dksX1_here_0 : cX1_here.data.toList.drop 0 = dktX1_here_0 := by decide +kernel
theorem dksX1_here_1 : cX1_here.data.toList.drop 24 = dktX1_here_1 := dk_seg dksX1_here_0 24 rfl rfl
theorem dX1_here_0 : decode cX1_here 0 = .ok (.aload_n 0, 1) := dk_42 (dk_at dksX1_here_0 0 rfl rfl)
theorem dX1_here_1 : decode cX1_here 1 = .ok (.getfield 131, 3) := dk_180 0 131 (dk_at dksX1_here_0 1 rfl rfl)
theorem dX1_here_4 : decode cX1_here 4 = .ok (.ifCond .ne 10, 3) := dk_154 0 10 (dk_at dksX1_here_0 4 rfl rfl)
theorem dX1_here_7 : decode cX1_here 7 = .ok (.aload_n 0, 1) := dk_42 (dk_at dksX1_here_0 7 rfl rfl)
theorem dX1_here_8 : decode cX1_here 8 = .ok (.getfield 134, 3) := dk_180 0 134 (dk_at dksX1_here_0 8 rfl rfl)
theorem dX1_here_11 : decode cX1_here 11 = .ok (.goto 19, 3) := dk_167 0 19 (dk_at dksX1_here_0 11 rfl rfl)
theorem dX1_here_14 : decode cX1_here 14 = .ok (.aload_n 0, 1) := dk_42 (dk_at dksX1_here_0 14 rfl rfl)
theorem dX1_here_15 : decode cX1_here 15 = .ok (.aload_n 0, 1) := dk_42 (dk_at dksX1_here_0 15 rfl rfl)
theorem dX1_here_16 : decode cX1_here 16 = .ok (.getfield 37, 3) := dk_180 0 37 (dk_at dksX1_here_0 16 rfl rfl)
theorem dX1_here_19 : decode cX1_here 19 = .ok (.aload_n 0, 1) := dk_42 (dk_at dksX1_here_0 19 rfl rfl)
theorem dX1_here_20 : decode cX1_here 20 = .ok (.getfield 131, 3) := dk_180 0 131 (dk_at dksX1_here_0 20 rfl rfl)
theorem dX1_here_23 : decode cX1_here 23 = .ok (.iconst 1, 1) := dk_4 (dk_at dksX1_here_0 23 rfl rfl)
theorem dX1_here_24 : decode cX1_here 24 = .ok (.isub, 1) := dk_100 (dk_at dksX1_here_1 0 rfl rfl)
theorem dX1_here_25 : decode cX1_here 25 = .ok (.iaload, 1) := dk_46 (dk_at dksX1_here_1 1 rfl rfl)
theorem dX1_here_26 : decode cX1_here 26 = .ok (.iconst 1, 1) := dk_4 (dk_at dksX1_here_1 2 rfl rfl)
theorem dX1_here_27 : decode cX1_here 27 = .ok (.invokevirtual 80, 3) := dk_182 0 80 (dk_at dksX1_here_1 3 rfl rfl)
theorem dX1_here_30 : decode cX1_here 30 = .ok (.ireturn, 1) := dk_172 (dk_at dksX1_here_1 6 rfl rfl)
abbrev cX1_product : ByteArray := prog_20_method_31_code
def yX1_product : MethodName := ⟨RX1, "product", "(I)J"⟩
def dkwX1_product_1 : List UInt8 := [182, 0, 80, 133, 105, 65, 132, 4, 1, 167, 255, 228, 32, 173]
abbrev dktX1_product_1 : List UInt8 := dkwX1_product_1 ++ []
def dkwX1_product_0 : List UInt8 := [10, 65, 3, 54, 4, 21, 4, 42, 180, 0, 131, 162, 0, 25, 32, 42, 42, 180, 0, 37, 21, 4, 46, 27]
abbrev dktX1_product_0 : List UInt8 := dkwX1_product_0 ++ dktX1_product_1
theorem dksX1_product_0 : cX1_product.data.toList.drop 0 = dktX1_product_0 := by decide +kernel
theorem dksX1_product_1 : cX1_product.data.toList.drop 24 = dktX1_product_1 := dk_seg dksX1_product_0 24 rfl rfl
theorem dX1_product_0 : decode cX1_product 0 = .ok (.lconst 1, 1) := dk_10 (dk_at dksX1_product_0 0 rfl rfl)
theorem dX1_product_1 : decode cX1_product 1 = .ok (.lstore_n 2, 1) := dk_65 (dk_at dksX1_product_0 1 rfl rfl)
theorem dX1_product_2 : decode cX1_product 2 = .ok (.iconst 0, 1) := dk_3 (dk_at dksX1_product_0 2 rfl rfl)
theorem dX1_product_3 : decode cX1_product 3 = .ok (.istore 4, 2) := dk_54 4 (dk_at dksX1_product_0 3 rfl rfl)
theorem dX1_product_5 : decode cX1_product 5 = .ok (.iload 4, 2) := dk_21 4 (dk_at dksX1_product_0 5 rfl rfl)
theorem dX1_product_7 : decode cX1_product 7 = .ok (.aload_n 0, 1) := dk_42 (dk_at dksX1_product_0 7 rfl rfl)
theorem dX1_product_8 : decode cX1_product 8 = .ok (.getfield 131, 3) := dk_180 0 131 (dk_at dksX1_product_0 8 rfl rfl)
theorem dX1_product_11 : decode cX1_product 11 = .ok (.if_icmp .ge 25, 3) := dk_162 0 25 (dk_at dksX1_product_0 11 rfl rfl)
theorem dX1_product_14 : decode cX1_product 14 = .ok (.lload_n 2, 1) := dk_32 (dk_at dksX1_product_0 14 rfl rfl)
theorem dX1_product_15 : decode cX1_product 15 = .ok (.aload_n 0, 1) := dk_42 (dk_at dksX1_product_0 15 rfl rfl)
theorem dX1_product_16 : decode cX1_product 16 = .ok (.aload_n 0, 1) := dk_42 (dk_at dksX1_product_0 16 rfl rfl)
theorem dX1_product_17 : decode cX1_product 17 = .ok (.getfield 37, 3) := dk_180 0 37 (dk_at dksX1_product_0 17 rfl rfl)
theorem dX1_product_20 : decode cX1_product 20 = .ok (.iload 4, 2) := dk_21 4 (dk_at dksX1_product_0 20 rfl rfl)
theorem dX1_product_22 : decode cX1_product 22 = .ok (.iaload, 1) := dk_46 (dk_at dksX1_product_0 22 rfl rfl)
theorem dX1_product_23 : decode cX1_product 23 = .ok (.iload_n 1, 1) := dk_27 (dk_at dksX1_product_0 23 rfl rfl)
theorem dX1_product_24 : decode cX1_product 24 = .ok (.invokevirtual 80, 3) := dk_182 0 80 (dk_at dksX1_product_1 0 rfl rfl)
theorem dX1_product_27 : decode cX1_product 27 = .ok (.i2l, 1) := dk_133 (dk_at dksX1_product_1 3 rfl rfl)
theorem dX1_product_28 : decode cX1_product 28 = .ok (.lmul, 1) := dk_105 (dk_at dksX1_product_1 4 rfl rfl)
theorem dX1_product_29 : decode cX1_product 29 = .ok (.lstore_n 2, 1) := dk_65 (dk_at dksX1_product_1 5 rfl rfl)
theorem dX1_product_30 : decode cX1_product 30 = .ok (.iinc 4 1, 3) := dk_132 4 1 (dk_at dksX1_product_1 6 rfl rfl)
theorem dX1_product_33 : decode cX1_product 33 = .ok (.goto (-28), 3) := dk_167 255 228 (dk_at dksX1_product_1 9 rfl rfl)
theorem dX1_product_36 : decode cX1_product 36 = .ok (.lload_n 2, 1) := dk_32 (dk_at dksX1_product_1 12 rfl rfl)
theorem dX1_product_37 : decode cX1_product 37 = .ok (.lreturn, 1) := dk_173 (dk_at dksX1_product_1 13 rfl rfl)
abbrev cX1_weighs : ByteArray := prog_20_method_36_code
def yX1_weighs : MethodName := ⟨RX1, "weighs", "(JJI)V"⟩
def dkwX1_weighs_5 : List UInt8 := [21, 8, 42, 180, 0, 37, 21, 8, 46, 79, 132, 8, 1, 167, 255, 230, 177]
abbrev dktX1_weighs_5 : List UInt8 := dkwX1_weighs_5 ++ []
def dkwX1_weighs_4 : List UInt8 := [181, 0, 156, 42, 33, 181, 0, 160, 3, 54, 8, 21, 8, 42, 180, 0, 131, 162, 0, 23, 42, 180, 0, 40]
abbrev dktX1_weighs_4 : List UInt8 := dkwX1_weighs_4 ++ dktX1_weighs_5
def dkwX1_weighs_3 : List UInt8 := [4, 167, 0, 4, 3, 54, 7, 21, 7, 153, 0, 53, 42, 42, 180, 0, 131, 181, 0, 153, 42, 31]
abbrev dktX1_weighs_3 : List UInt8 := dkwX1_weighs_3 ++ dktX1_weighs_4
def dkwX1_weighs_2 : List UInt8 := [180, 0, 153, 161, 0, 21, 42, 180, 0, 131, 42, 180, 0, 153, 160, 0, 14, 42, 182, 0, 167, 153, 0, 7]
abbrev dktX1_weighs_2 : List UInt8 := dkwX1_weighs_2 ++ dktX1_weighs_3
def dkwX1_weighs_1 : List UInt8 := [180, 0, 160, 184, 0, 163, 104, 54, 6, 21, 6, 155, 0, 37, 21, 6, 154, 0, 36, 42, 180, 0, 131, 42]
abbrev dktX1_weighs_1 : List UInt8 := dkwX1_weighs_1 ++ dktX1_weighs_2
def dkwX1_weighs_0 : List UInt8 := [42, 180, 0, 153, 18, 25, 160, 0, 7, 2, 167, 0, 19, 21, 5, 31, 33, 42, 180, 0, 156, 42]
abbrev dktX1_weighs_0 : List UInt8 := dkwX1_weighs_0 ++ dktX1_weighs_1
theorem dksX1_weighs_0 : cX1_weighs.data.toList.drop 0 = dktX1_weighs_0 := by decide +kernel
theorem dksX1_weighs_1 : cX1_weighs.data.toList.drop 22 = dktX1_weighs_1 := dk_seg dksX1_weighs_0 22 rfl rfl
theorem dksX1_weighs_2 : cX1_weighs.data.toList.drop 46 = dktX1_weighs_2 := dk_seg dksX1_weighs_1 24 rfl rfl
theorem dksX1_weighs_3 : cX1_weighs.data.toList.drop 70 = dktX1_weighs_3 := dk_seg dksX1_weighs_2 24 rfl rfl
theorem dksX1_weighs_4 : cX1_weighs.data.toList.drop 92 = dktX1_weighs_4 := dk_seg dksX1_weighs_3 22 rfl rfl
theorem dksX1_weighs_5 : cX1_weighs.data.toList.drop 116 = dktX1_weighs_5 := dk_seg dksX1_weighs_4 24 rfl rfl
theorem dX1_weighs_0 : decode cX1_weighs 0 = .ok (.aload_n 0, 1) := dk_42 (dk_at dksX1_weighs_0 0 rfl rfl)
theorem dX1_weighs_1 : decode cX1_weighs 1 = .ok (.getfield 153, 3) := dk_180 0 153 (dk_at dksX1_weighs_0 1 rfl rfl)
theorem dX1_weighs_4 : decode cX1_weighs 4 = .ok (.ldc 25, 2) := dk_18 25 (dk_at dksX1_weighs_0 4 rfl rfl)
theorem dX1_weighs_6 : decode cX1_weighs 6 = .ok (.if_icmp .ne 7, 3) := dk_160 0 7 (dk_at dksX1_weighs_0 6 rfl rfl)
theorem dX1_weighs_9 : decode cX1_weighs 9 = .ok (.iconst (-1), 1) := dk_2 (dk_at dksX1_weighs_0 9 rfl rfl)
theorem dX1_weighs_10 : decode cX1_weighs 10 = .ok (.goto 19, 3) := dk_167 0 19 (dk_at dksX1_weighs_0 10 rfl rfl)
theorem dX1_weighs_13 : decode cX1_weighs 13 = .ok (.iload 5, 2) := dk_21 5 (dk_at dksX1_weighs_0 13 rfl rfl)
theorem dX1_weighs_15 : decode cX1_weighs 15 = .ok (.lload_n 1, 1) := dk_31 (dk_at dksX1_weighs_0 15 rfl rfl)
theorem dX1_weighs_16 : decode cX1_weighs 16 = .ok (.lload_n 3, 1) := dk_33 (dk_at dksX1_weighs_0 16 rfl rfl)
theorem dX1_weighs_17 : decode cX1_weighs 17 = .ok (.aload_n 0, 1) := dk_42 (dk_at dksX1_weighs_0 17 rfl rfl)
theorem dX1_weighs_18 : decode cX1_weighs 18 = .ok (.getfield 156, 3) := dk_180 0 156 (dk_at dksX1_weighs_0 18 rfl rfl)
theorem dX1_weighs_21 : decode cX1_weighs 21 = .ok (.aload_n 0, 1) := dk_42 (dk_at dksX1_weighs_0 21 rfl rfl)
theorem dX1_weighs_22 : decode cX1_weighs 22 = .ok (.getfield 160, 3) := dk_180 0 160 (dk_at dksX1_weighs_1 0 rfl rfl)
theorem dX1_weighs_25 : decode cX1_weighs 25 = .ok (.invokestatic 163, 3) := dk_184 0 163 (dk_at dksX1_weighs_1 3 rfl rfl)
theorem dX1_weighs_28 : decode cX1_weighs 28 = .ok (.imul, 1) := dk_104 (dk_at dksX1_weighs_1 6 rfl rfl)
theorem dX1_weighs_29 : decode cX1_weighs 29 = .ok (.istore 6, 2) := dk_54 6 (dk_at dksX1_weighs_1 7 rfl rfl)
theorem dX1_weighs_31 : decode cX1_weighs 31 = .ok (.iload 6, 2) := dk_21 6 (dk_at dksX1_weighs_1 9 rfl rfl)
theorem dX1_weighs_33 : decode cX1_weighs 33 = .ok (.ifCond .lt 37, 3) := dk_155 0 37 (dk_at dksX1_weighs_1 11 rfl rfl)
theorem dX1_weighs_36 : decode cX1_weighs 36 = .ok (.iload 6, 2) := dk_21 6 (dk_at dksX1_weighs_1 14 rfl rfl)
theorem dX1_weighs_38 : decode cX1_weighs 38 = .ok (.ifCond .ne 36, 3) := dk_154 0 36 (dk_at dksX1_weighs_1 16 rfl rfl)
theorem dX1_weighs_41 : decode cX1_weighs 41 = .ok (.aload_n 0, 1) := dk_42 (dk_at dksX1_weighs_1 19 rfl rfl)
theorem dX1_weighs_42 : decode cX1_weighs 42 = .ok (.getfield 131, 3) := dk_180 0 131 (dk_at dksX1_weighs_1 20 rfl rfl)
theorem dX1_weighs_45 : decode cX1_weighs 45 = .ok (.aload_n 0, 1) := dk_42 (dk_at dksX1_weighs_1 23 rfl rfl)
theorem dX1_weighs_46 : decode cX1_weighs 46 = .ok (.getfield 153, 3) := dk_180 0 153 (dk_at dksX1_weighs_2 0 rfl rfl)
theorem dX1_weighs_49 : decode cX1_weighs 49 = .ok (.if_icmp .lt 21, 3) := dk_161 0 21 (dk_at dksX1_weighs_2 3 rfl rfl)
theorem dX1_weighs_52 : decode cX1_weighs 52 = .ok (.aload_n 0, 1) := dk_42 (dk_at dksX1_weighs_2 6 rfl rfl)
theorem dX1_weighs_53 : decode cX1_weighs 53 = .ok (.getfield 131, 3) := dk_180 0 131 (dk_at dksX1_weighs_2 7 rfl rfl)
theorem dX1_weighs_56 : decode cX1_weighs 56 = .ok (.aload_n 0, 1) := dk_42 (dk_at dksX1_weighs_2 10 rfl rfl)
theorem dX1_weighs_57 : decode cX1_weighs 57 = .ok (.getfield 153, 3) := dk_180 0 153 (dk_at dksX1_weighs_2 11 rfl rfl)
theorem dX1_weighs_60 : decode cX1_weighs 60 = .ok (.if_icmp .ne 14, 3) := dk_160 0 14 (dk_at dksX1_weighs_2 14 rfl rfl)
theorem dX1_weighs_63 : decode cX1_weighs 63 = .ok (.aload_n 0, 1) := dk_42 (dk_at dksX1_weighs_2 17 rfl rfl)
theorem dX1_weighs_64 : decode cX1_weighs 64 = .ok (.invokevirtual 167, 3) := dk_182 0 167 (dk_at dksX1_weighs_2 18 rfl rfl)
theorem dX1_weighs_67 : decode cX1_weighs 67 = .ok (.ifCond .eq 7, 3) := dk_153 0 7 (dk_at dksX1_weighs_2 21 rfl rfl)
theorem dX1_weighs_70 : decode cX1_weighs 70 = .ok (.iconst 1, 1) := dk_4 (dk_at dksX1_weighs_3 0 rfl rfl)
theorem dX1_weighs_71 : decode cX1_weighs 71 = .ok (.goto 4, 3) := dk_167 0 4 (dk_at dksX1_weighs_3 1 rfl rfl)
theorem dX1_weighs_74 : decode cX1_weighs 74 = .ok (.iconst 0, 1) := dk_3 (dk_at dksX1_weighs_3 4 rfl rfl)
theorem dX1_weighs_75 : decode cX1_weighs 75 = .ok (.istore 7, 2) := dk_54 7 (dk_at dksX1_weighs_3 5 rfl rfl)
theorem dX1_weighs_77 : decode cX1_weighs 77 = .ok (.iload 7, 2) := dk_21 7 (dk_at dksX1_weighs_3 7 rfl rfl)
theorem dX1_weighs_79 : decode cX1_weighs 79 = .ok (.ifCond .eq 53, 3) := dk_153 0 53 (dk_at dksX1_weighs_3 9 rfl rfl)
theorem dX1_weighs_82 : decode cX1_weighs 82 = .ok (.aload_n 0, 1) := dk_42 (dk_at dksX1_weighs_3 12 rfl rfl)
theorem dX1_weighs_83 : decode cX1_weighs 83 = .ok (.aload_n 0, 1) := dk_42 (dk_at dksX1_weighs_3 13 rfl rfl)
theorem dX1_weighs_84 : decode cX1_weighs 84 = .ok (.getfield 131, 3) := dk_180 0 131 (dk_at dksX1_weighs_3 14 rfl rfl)
theorem dX1_weighs_87 : decode cX1_weighs 87 = .ok (.putfield 153, 3) := dk_181 0 153 (dk_at dksX1_weighs_3 17 rfl rfl)
theorem dX1_weighs_90 : decode cX1_weighs 90 = .ok (.aload_n 0, 1) := dk_42 (dk_at dksX1_weighs_3 20 rfl rfl)
theorem dX1_weighs_91 : decode cX1_weighs 91 = .ok (.lload_n 1, 1) := dk_31 (dk_at dksX1_weighs_3 21 rfl rfl)
theorem dX1_weighs_92 : decode cX1_weighs 92 = .ok (.putfield 156, 3) := dk_181 0 156 (dk_at dksX1_weighs_4 0 rfl rfl)
theorem dX1_weighs_95 : decode cX1_weighs 95 = .ok (.aload_n 0, 1) := dk_42 (dk_at dksX1_weighs_4 3 rfl rfl)
theorem dX1_weighs_96 : decode cX1_weighs 96 = .ok (.lload_n 3, 1) := dk_33 (dk_at dksX1_weighs_4 4 rfl rfl)
theorem dX1_weighs_97 : decode cX1_weighs 97 = .ok (.putfield 160, 3) := dk_181 0 160 (dk_at dksX1_weighs_4 5 rfl rfl)
theorem dX1_weighs_100 : decode cX1_weighs 100 = .ok (.iconst 0, 1) := dk_3 (dk_at dksX1_weighs_4 8 rfl rfl)
theorem dX1_weighs_101 : decode cX1_weighs 101 = .ok (.istore 8, 2) := dk_54 8 (dk_at dksX1_weighs_4 9 rfl rfl)
theorem dX1_weighs_103 : decode cX1_weighs 103 = .ok (.iload 8, 2) := dk_21 8 (dk_at dksX1_weighs_4 11 rfl rfl)
theorem dX1_weighs_105 : decode cX1_weighs 105 = .ok (.aload_n 0, 1) := dk_42 (dk_at dksX1_weighs_4 13 rfl rfl)
theorem dX1_weighs_106 : decode cX1_weighs 106 = .ok (.getfield 131, 3) := dk_180 0 131 (dk_at dksX1_weighs_4 14 rfl rfl)
theorem dX1_weighs_109 : decode cX1_weighs 109 = .ok (.if_icmp .ge 23, 3) := dk_162 0 23 (dk_at dksX1_weighs_4 17 rfl rfl)
theorem dX1_weighs_112 : decode cX1_weighs 112 = .ok (.aload_n 0, 1) := dk_42 (dk_at dksX1_weighs_4 20 rfl rfl)
theorem dX1_weighs_113 : decode cX1_weighs 113 = .ok (.getfield 40, 3) := dk_180 0 40 (dk_at dksX1_weighs_4 21 rfl rfl)
theorem dX1_weighs_116 : decode cX1_weighs 116 = .ok (.iload 8, 2) := dk_21 8 (dk_at dksX1_weighs_5 0 rfl rfl)
theorem dX1_weighs_118 : decode cX1_weighs 118 = .ok (.aload_n 0, 1) := dk_42 (dk_at dksX1_weighs_5 2 rfl rfl)
theorem dX1_weighs_119 : decode cX1_weighs 119 = .ok (.getfield 37, 3) := dk_180 0 37 (dk_at dksX1_weighs_5 3 rfl rfl)
theorem dX1_weighs_122 : decode cX1_weighs 122 = .ok (.iload 8, 2) := dk_21 8 (dk_at dksX1_weighs_5 6 rfl rfl)
theorem dX1_weighs_124 : decode cX1_weighs 124 = .ok (.iaload, 1) := dk_46 (dk_at dksX1_weighs_5 8 rfl rfl)
theorem dX1_weighs_125 : decode cX1_weighs 125 = .ok (.iastore, 1) := dk_79 (dk_at dksX1_weighs_5 9 rfl rfl)
theorem dX1_weighs_126 : decode cX1_weighs 126 = .ok (.iinc 8 1, 3) := dk_132 8 1 (dk_at dksX1_weighs_5 10 rfl rfl)
theorem dX1_weighs_129 : decode cX1_weighs 129 = .ok (.goto (-26), 3) := dk_167 255 230 (dk_at dksX1_weighs_5 13 rfl rfl)
theorem dX1_weighs_132 : decode cX1_weighs 132 = .ok (.return_, 1) := dk_177 (dk_at dksX1_weighs_5 16 rfl rfl)
abbrev cX1_compares : ByteArray := prog_20_method_34_code
def yX1_compares : MethodName := ⟨RX1, "compares", "(JJJJ)I"⟩
def dkwX1_compares_6 : List UInt8 := [167, 255, 130]
abbrev dktX1_compares_6 : List UInt8 := dkwX1_compares_6 ++ []
def dkwX1_compares_5 : List UInt8 := [21, 16, 172, 22, 10, 55, 8, 22, 21, 55, 10, 22, 14, 55, 12, 22, 23, 55, 14, 21, 16, 116, 54, 16]
abbrev dktX1_compares_5 : List UInt8 := dkwX1_compares_5 ++ dktX1_compares_6
def dkwX1_compares_4 : List UInt8 := [22, 23, 148, 154, 0, 7, 3, 167, 0, 18, 22, 21, 9, 148, 154, 0, 9, 21, 16, 116, 167, 0, 5]
abbrev dktX1_compares_4 : List UInt8 := dkwX1_compares_4 ++ dktX1_compares_5
def dkwX1_compares_3 : List UInt8 := [22, 19, 22, 14, 105, 101, 55, 23, 22, 21, 9, 148, 153, 0, 10, 22, 23, 9, 148, 154, 0, 31, 22, 21]
abbrev dktX1_compares_3 : List UInt8 := dkwX1_compares_3 ++ dktX1_compares_4
def dkwX1_compares_2 : List UInt8 := [156, 0, 9, 21, 16, 116, 167, 0, 5, 21, 16, 172, 22, 8, 22, 17, 22, 10, 105, 101, 55, 21, 22, 12]
abbrev dktX1_compares_2 : List UInt8 := dkwX1_compares_2 ++ dktX1_compares_3
def dkwX1_compares_1 : List UInt8 := [55, 17, 22, 12, 22, 14, 184, 0, 149, 55, 19, 22, 17, 22, 19, 148, 153, 0, 20, 22, 17, 22, 19, 148]
abbrev dktX1_compares_1 : List UInt8 := dkwX1_compares_1 ++ dktX1_compares_2
def dkwX1_compares_0 : List UInt8 := [30, 55, 8, 32, 55, 10, 22, 4, 55, 12, 22, 6, 55, 14, 4, 54, 16, 22, 8, 22, 10, 184, 0, 149]
abbrev dktX1_compares_0 : List UInt8 := dkwX1_compares_0 ++ dktX1_compares_1
theorem dksX1_compares_0 : cX1_compares.data.toList.drop 0 = dktX1_compares_0 := by decide +kernel
theorem dksX1_compares_1 : cX1_compares.data.toList.drop 24 = dktX1_compares_1 := dk_seg dksX1_compares_0 24 rfl rfl
theorem dksX1_compares_2 : cX1_compares.data.toList.drop 48 = dktX1_compares_2 := dk_seg dksX1_compares_1 24 rfl rfl
theorem dksX1_compares_3 : cX1_compares.data.toList.drop 72 = dktX1_compares_3 := dk_seg dksX1_compares_2 24 rfl rfl
theorem dksX1_compares_4 : cX1_compares.data.toList.drop 96 = dktX1_compares_4 := dk_seg dksX1_compares_3 24 rfl rfl
theorem dksX1_compares_5 : cX1_compares.data.toList.drop 119 = dktX1_compares_5 := dk_seg dksX1_compares_4 23 rfl rfl
theorem dksX1_compares_6 : cX1_compares.data.toList.drop 143 = dktX1_compares_6 := dk_seg dksX1_compares_5 24 rfl rfl
theorem dX1_compares_0 : decode cX1_compares 0 = .ok (.lload_n 0, 1) := dk_30 (dk_at dksX1_compares_0 0 rfl rfl)
theorem dX1_compares_1 : decode cX1_compares 1 = .ok (.lstore 8, 2) := dk_55 8 (dk_at dksX1_compares_0 1 rfl rfl)
theorem dX1_compares_3 : decode cX1_compares 3 = .ok (.lload_n 2, 1) := dk_32 (dk_at dksX1_compares_0 3 rfl rfl)
theorem dX1_compares_4 : decode cX1_compares 4 = .ok (.lstore 10, 2) := dk_55 10 (dk_at dksX1_compares_0 4 rfl rfl)
theorem dX1_compares_6 : decode cX1_compares 6 = .ok (.lload 4, 2) := dk_22 4 (dk_at dksX1_compares_0 6 rfl rfl)
theorem dX1_compares_8 : decode cX1_compares 8 = .ok (.lstore 12, 2) := dk_55 12 (dk_at dksX1_compares_0 8 rfl rfl)
theorem dX1_compares_10 : decode cX1_compares 10 = .ok (.lload 6, 2) := dk_22 6 (dk_at dksX1_compares_0 10 rfl rfl)
theorem dX1_compares_12 : decode cX1_compares 12 = .ok (.lstore 14, 2) := dk_55 14 (dk_at dksX1_compares_0 12 rfl rfl)
theorem dX1_compares_14 : decode cX1_compares 14 = .ok (.iconst 1, 1) := dk_4 (dk_at dksX1_compares_0 14 rfl rfl)
theorem dX1_compares_15 : decode cX1_compares 15 = .ok (.istore 16, 2) := dk_54 16 (dk_at dksX1_compares_0 15 rfl rfl)
theorem dX1_compares_17 : decode cX1_compares 17 = .ok (.lload 8, 2) := dk_22 8 (dk_at dksX1_compares_0 17 rfl rfl)
theorem dX1_compares_19 : decode cX1_compares 19 = .ok (.lload 10, 2) := dk_22 10 (dk_at dksX1_compares_0 19 rfl rfl)
theorem dX1_compares_21 : decode cX1_compares 21 = .ok (.invokestatic 149, 3) := dk_184 0 149 (dk_at dksX1_compares_0 21 rfl rfl)
theorem dX1_compares_24 : decode cX1_compares 24 = .ok (.lstore 17, 2) := dk_55 17 (dk_at dksX1_compares_1 0 rfl rfl)
theorem dX1_compares_26 : decode cX1_compares 26 = .ok (.lload 12, 2) := dk_22 12 (dk_at dksX1_compares_1 2 rfl rfl)
theorem dX1_compares_28 : decode cX1_compares 28 = .ok (.lload 14, 2) := dk_22 14 (dk_at dksX1_compares_1 4 rfl rfl)
theorem dX1_compares_30 : decode cX1_compares 30 = .ok (.invokestatic 149, 3) := dk_184 0 149 (dk_at dksX1_compares_1 6 rfl rfl)
theorem dX1_compares_33 : decode cX1_compares 33 = .ok (.lstore 19, 2) := dk_55 19 (dk_at dksX1_compares_1 9 rfl rfl)
theorem dX1_compares_35 : decode cX1_compares 35 = .ok (.lload 17, 2) := dk_22 17 (dk_at dksX1_compares_1 11 rfl rfl)
theorem dX1_compares_37 : decode cX1_compares 37 = .ok (.lload 19, 2) := dk_22 19 (dk_at dksX1_compares_1 13 rfl rfl)
theorem dX1_compares_39 : decode cX1_compares 39 = .ok (.lcmp, 1) := dk_148 (dk_at dksX1_compares_1 15 rfl rfl)
theorem dX1_compares_40 : decode cX1_compares 40 = .ok (.ifCond .eq 20, 3) := dk_153 0 20 (dk_at dksX1_compares_1 16 rfl rfl)
theorem dX1_compares_43 : decode cX1_compares 43 = .ok (.lload 17, 2) := dk_22 17 (dk_at dksX1_compares_1 19 rfl rfl)
theorem dX1_compares_45 : decode cX1_compares 45 = .ok (.lload 19, 2) := dk_22 19 (dk_at dksX1_compares_1 21 rfl rfl)
theorem dX1_compares_47 : decode cX1_compares 47 = .ok (.lcmp, 1) := dk_148 (dk_at dksX1_compares_1 23 rfl rfl)
theorem dX1_compares_48 : decode cX1_compares 48 = .ok (.ifCond .ge 9, 3) := dk_156 0 9 (dk_at dksX1_compares_2 0 rfl rfl)
theorem dX1_compares_51 : decode cX1_compares 51 = .ok (.iload 16, 2) := dk_21 16 (dk_at dksX1_compares_2 3 rfl rfl)
theorem dX1_compares_53 : decode cX1_compares 53 = .ok (.ineg, 1) := dk_116 (dk_at dksX1_compares_2 5 rfl rfl)
theorem dX1_compares_54 : decode cX1_compares 54 = .ok (.goto 5, 3) := dk_167 0 5 (dk_at dksX1_compares_2 6 rfl rfl)
theorem dX1_compares_57 : decode cX1_compares 57 = .ok (.iload 16, 2) := dk_21 16 (dk_at dksX1_compares_2 9 rfl rfl)
theorem dX1_compares_59 : decode cX1_compares 59 = .ok (.ireturn, 1) := dk_172 (dk_at dksX1_compares_2 11 rfl rfl)
theorem dX1_compares_60 : decode cX1_compares 60 = .ok (.lload 8, 2) := dk_22 8 (dk_at dksX1_compares_2 12 rfl rfl)
theorem dX1_compares_62 : decode cX1_compares 62 = .ok (.lload 17, 2) := dk_22 17 (dk_at dksX1_compares_2 14 rfl rfl)
theorem dX1_compares_64 : decode cX1_compares 64 = .ok (.lload 10, 2) := dk_22 10 (dk_at dksX1_compares_2 16 rfl rfl)
theorem dX1_compares_66 : decode cX1_compares 66 = .ok (.lmul, 1) := dk_105 (dk_at dksX1_compares_2 18 rfl rfl)
theorem dX1_compares_67 : decode cX1_compares 67 = .ok (.lsub, 1) := dk_101 (dk_at dksX1_compares_2 19 rfl rfl)
theorem dX1_compares_68 : decode cX1_compares 68 = .ok (.lstore 21, 2) := dk_55 21 (dk_at dksX1_compares_2 20 rfl rfl)
theorem dX1_compares_70 : decode cX1_compares 70 = .ok (.lload 12, 2) := dk_22 12 (dk_at dksX1_compares_2 22 rfl rfl)
theorem dX1_compares_72 : decode cX1_compares 72 = .ok (.lload 19, 2) := dk_22 19 (dk_at dksX1_compares_3 0 rfl rfl)
theorem dX1_compares_74 : decode cX1_compares 74 = .ok (.lload 14, 2) := dk_22 14 (dk_at dksX1_compares_3 2 rfl rfl)
theorem dX1_compares_76 : decode cX1_compares 76 = .ok (.lmul, 1) := dk_105 (dk_at dksX1_compares_3 4 rfl rfl)
theorem dX1_compares_77 : decode cX1_compares 77 = .ok (.lsub, 1) := dk_101 (dk_at dksX1_compares_3 5 rfl rfl)
theorem dX1_compares_78 : decode cX1_compares 78 = .ok (.lstore 23, 2) := dk_55 23 (dk_at dksX1_compares_3 6 rfl rfl)
theorem dX1_compares_80 : decode cX1_compares 80 = .ok (.lload 21, 2) := dk_22 21 (dk_at dksX1_compares_3 8 rfl rfl)
theorem dX1_compares_82 : decode cX1_compares 82 = .ok (.lconst 0, 1) := dk_9 (dk_at dksX1_compares_3 10 rfl rfl)
theorem dX1_compares_83 : decode cX1_compares 83 = .ok (.lcmp, 1) := dk_148 (dk_at dksX1_compares_3 11 rfl rfl)
theorem dX1_compares_84 : decode cX1_compares 84 = .ok (.ifCond .eq 10, 3) := dk_153 0 10 (dk_at dksX1_compares_3 12 rfl rfl)
theorem dX1_compares_87 : decode cX1_compares 87 = .ok (.lload 23, 2) := dk_22 23 (dk_at dksX1_compares_3 15 rfl rfl)
theorem dX1_compares_89 : decode cX1_compares 89 = .ok (.lconst 0, 1) := dk_9 (dk_at dksX1_compares_3 17 rfl rfl)
theorem dX1_compares_90 : decode cX1_compares 90 = .ok (.lcmp, 1) := dk_148 (dk_at dksX1_compares_3 18 rfl rfl)
theorem dX1_compares_91 : decode cX1_compares 91 = .ok (.ifCond .ne 31, 3) := dk_154 0 31 (dk_at dksX1_compares_3 19 rfl rfl)
theorem dX1_compares_94 : decode cX1_compares 94 = .ok (.lload 21, 2) := dk_22 21 (dk_at dksX1_compares_3 22 rfl rfl)
theorem dX1_compares_96 : decode cX1_compares 96 = .ok (.lload 23, 2) := dk_22 23 (dk_at dksX1_compares_4 0 rfl rfl)
theorem dX1_compares_98 : decode cX1_compares 98 = .ok (.lcmp, 1) := dk_148 (dk_at dksX1_compares_4 2 rfl rfl)
theorem dX1_compares_99 : decode cX1_compares 99 = .ok (.ifCond .ne 7, 3) := dk_154 0 7 (dk_at dksX1_compares_4 3 rfl rfl)
theorem dX1_compares_102 : decode cX1_compares 102 = .ok (.iconst 0, 1) := dk_3 (dk_at dksX1_compares_4 6 rfl rfl)
theorem dX1_compares_103 : decode cX1_compares 103 = .ok (.goto 18, 3) := dk_167 0 18 (dk_at dksX1_compares_4 7 rfl rfl)
theorem dX1_compares_106 : decode cX1_compares 106 = .ok (.lload 21, 2) := dk_22 21 (dk_at dksX1_compares_4 10 rfl rfl)
theorem dX1_compares_108 : decode cX1_compares 108 = .ok (.lconst 0, 1) := dk_9 (dk_at dksX1_compares_4 12 rfl rfl)
theorem dX1_compares_109 : decode cX1_compares 109 = .ok (.lcmp, 1) := dk_148 (dk_at dksX1_compares_4 13 rfl rfl)
theorem dX1_compares_110 : decode cX1_compares 110 = .ok (.ifCond .ne 9, 3) := dk_154 0 9 (dk_at dksX1_compares_4 14 rfl rfl)
theorem dX1_compares_113 : decode cX1_compares 113 = .ok (.iload 16, 2) := dk_21 16 (dk_at dksX1_compares_4 17 rfl rfl)
theorem dX1_compares_115 : decode cX1_compares 115 = .ok (.ineg, 1) := dk_116 (dk_at dksX1_compares_4 19 rfl rfl)
theorem dX1_compares_116 : decode cX1_compares 116 = .ok (.goto 5, 3) := dk_167 0 5 (dk_at dksX1_compares_4 20 rfl rfl)
theorem dX1_compares_119 : decode cX1_compares 119 = .ok (.iload 16, 2) := dk_21 16 (dk_at dksX1_compares_5 0 rfl rfl)
theorem dX1_compares_121 : decode cX1_compares 121 = .ok (.ireturn, 1) := dk_172 (dk_at dksX1_compares_5 2 rfl rfl)
theorem dX1_compares_122 : decode cX1_compares 122 = .ok (.lload 10, 2) := dk_22 10 (dk_at dksX1_compares_5 3 rfl rfl)
theorem dX1_compares_124 : decode cX1_compares 124 = .ok (.lstore 8, 2) := dk_55 8 (dk_at dksX1_compares_5 5 rfl rfl)
theorem dX1_compares_126 : decode cX1_compares 126 = .ok (.lload 21, 2) := dk_22 21 (dk_at dksX1_compares_5 7 rfl rfl)
theorem dX1_compares_128 : decode cX1_compares 128 = .ok (.lstore 10, 2) := dk_55 10 (dk_at dksX1_compares_5 9 rfl rfl)
theorem dX1_compares_130 : decode cX1_compares 130 = .ok (.lload 14, 2) := dk_22 14 (dk_at dksX1_compares_5 11 rfl rfl)
theorem dX1_compares_132 : decode cX1_compares 132 = .ok (.lstore 12, 2) := dk_55 12 (dk_at dksX1_compares_5 13 rfl rfl)
theorem dX1_compares_134 : decode cX1_compares 134 = .ok (.lload 23, 2) := dk_22 23 (dk_at dksX1_compares_5 15 rfl rfl)
theorem dX1_compares_136 : decode cX1_compares 136 = .ok (.lstore 14, 2) := dk_55 14 (dk_at dksX1_compares_5 17 rfl rfl)
theorem dX1_compares_138 : decode cX1_compares 138 = .ok (.iload 16, 2) := dk_21 16 (dk_at dksX1_compares_5 19 rfl rfl)
theorem dX1_compares_140 : decode cX1_compares 140 = .ok (.ineg, 1) := dk_116 (dk_at dksX1_compares_5 21 rfl rfl)
theorem dX1_compares_141 : decode cX1_compares 141 = .ok (.istore 16, 2) := dk_54 16 (dk_at dksX1_compares_5 22 rfl rfl)
theorem dX1_compares_143 : decode cX1_compares 143 = .ok (.goto (-126), 3) := dk_167 255 130 (dk_at dksX1_compares_6 0 rfl rfl)
abbrev cX1_whole : ByteArray := prog_20_method_33_code
def yX1_whole : MethodName := ⟨RX1, "whole", "(JJ)J"⟩
def dkwX1_whole_0 : List UInt8 := [30, 32, 109, 55, 4, 30, 32, 113, 9, 148, 156, 0, 10, 22, 4, 10, 101, 167, 0, 5, 22, 4, 173]
abbrev dktX1_whole_0 : List UInt8 := dkwX1_whole_0 ++ []
theorem dksX1_whole_0 : cX1_whole.data.toList.drop 0 = dktX1_whole_0 := by decide +kernel
theorem dX1_whole_0 : decode cX1_whole 0 = .ok (.lload_n 0, 1) := dk_30 (dk_at dksX1_whole_0 0 rfl rfl)
theorem dX1_whole_1 : decode cX1_whole 1 = .ok (.lload_n 2, 1) := dk_32 (dk_at dksX1_whole_0 1 rfl rfl)
theorem dX1_whole_2 : decode cX1_whole 2 = .ok (.ldiv, 1) := dk_109 (dk_at dksX1_whole_0 2 rfl rfl)
theorem dX1_whole_3 : decode cX1_whole 3 = .ok (.lstore 4, 2) := dk_55 4 (dk_at dksX1_whole_0 3 rfl rfl)
theorem dX1_whole_5 : decode cX1_whole 5 = .ok (.lload_n 0, 1) := dk_30 (dk_at dksX1_whole_0 5 rfl rfl)
theorem dX1_whole_6 : decode cX1_whole 6 = .ok (.lload_n 2, 1) := dk_32 (dk_at dksX1_whole_0 6 rfl rfl)
theorem dX1_whole_7 : decode cX1_whole 7 = .ok (.lrem, 1) := dk_113 (dk_at dksX1_whole_0 7 rfl rfl)
theorem dX1_whole_8 : decode cX1_whole 8 = .ok (.lconst 0, 1) := dk_9 (dk_at dksX1_whole_0 8 rfl rfl)
theorem dX1_whole_9 : decode cX1_whole 9 = .ok (.lcmp, 1) := dk_148 (dk_at dksX1_whole_0 9 rfl rfl)
theorem dX1_whole_10 : decode cX1_whole 10 = .ok (.ifCond .ge 10, 3) := dk_156 0 10 (dk_at dksX1_whole_0 10 rfl rfl)
theorem dX1_whole_13 : decode cX1_whole 13 = .ok (.lload 4, 2) := dk_22 4 (dk_at dksX1_whole_0 13 rfl rfl)
theorem dX1_whole_15 : decode cX1_whole 15 = .ok (.lconst 1, 1) := dk_10 (dk_at dksX1_whole_0 15 rfl rfl)
theorem dX1_whole_16 : decode cX1_whole 16 = .ok (.lsub, 1) := dk_101 (dk_at dksX1_whole_0 16 rfl rfl)
theorem dX1_whole_17 : decode cX1_whole 17 = .ok (.goto 5, 3) := dk_167 0 5 (dk_at dksX1_whole_0 17 rfl rfl)
theorem dX1_whole_20 : decode cX1_whole 20 = .ok (.lload 4, 2) := dk_22 4 (dk_at dksX1_whole_0 20 rfl rfl)
theorem dX1_whole_22 : decode cX1_whole 22 = .ok (.lreturn, 1) := dk_173 (dk_at dksX1_whole_0 22 rfl rfl)
abbrev cX1_isBeforeBest : ByteArray := prog_20_method_35_code
def yX1_isBeforeBest : MethodName := ⟨RX1, "isBeforeBest", "()Z"⟩
def dkwX1_isBeforeBest_2 : List UInt8 := [132, 1, 1, 167, 255, 209, 3, 172]
abbrev dktX1_isBeforeBest_2 : List UInt8 := dkwX1_isBeforeBest_2 ++ []
def dkwX1_isBeforeBest_1 : List UInt8 := [159, 0, 24, 42, 180, 0, 37, 27, 46, 42, 180, 0, 40, 27, 46, 162, 0, 7, 4, 167, 0, 4, 3, 172]
abbrev dktX1_isBeforeBest_1 : List UInt8 := dkwX1_isBeforeBest_1 ++ dktX1_isBeforeBest_2
def dkwX1_isBeforeBest_0 : List UInt8 := [3, 60, 27, 42, 180, 0, 131, 162, 0, 45, 42, 180, 0, 37, 27, 46, 42, 180, 0, 40, 27, 46]
abbrev dktX1_isBeforeBest_0 : List UInt8 := dkwX1_isBeforeBest_0 ++ dktX1_isBeforeBest_1
theorem dksX1_isBeforeBest_0 : cX1_isBeforeBest.data.toList.drop 0 = dktX1_isBeforeBest_0 := by decide +kernel
theorem dksX1_isBeforeBest_1 : cX1_isBeforeBest.data.toList.drop 22 = dktX1_isBeforeBest_1 := dk_seg dksX1_isBeforeBest_0 22 rfl rfl
theorem dksX1_isBeforeBest_2 : cX1_isBeforeBest.data.toList.drop 46 = dktX1_isBeforeBest_2 := dk_seg dksX1_isBeforeBest_1 24 rfl rfl
theorem dX1_isBeforeBest_0 : decode cX1_isBeforeBest 0 = .ok (.iconst 0, 1) := dk_3 (dk_at dksX1_isBeforeBest_0 0 rfl rfl)
theorem dX1_isBeforeBest_1 : decode cX1_isBeforeBest 1 = .ok (.istore_n 1, 1) := dk_60 (dk_at dksX1_isBeforeBest_0 1 rfl rfl)
theorem dX1_isBeforeBest_2 : decode cX1_isBeforeBest 2 = .ok (.iload_n 1, 1) := dk_27 (dk_at dksX1_isBeforeBest_0 2 rfl rfl)
theorem dX1_isBeforeBest_3 : decode cX1_isBeforeBest 3 = .ok (.aload_n 0, 1) := dk_42 (dk_at dksX1_isBeforeBest_0 3 rfl rfl)
theorem dX1_isBeforeBest_4 : decode cX1_isBeforeBest 4 = .ok (.getfield 131, 3) := dk_180 0 131 (dk_at dksX1_isBeforeBest_0 4 rfl rfl)
theorem dX1_isBeforeBest_7 : decode cX1_isBeforeBest 7 = .ok (.if_icmp .ge 45, 3) := dk_162 0 45 (dk_at dksX1_isBeforeBest_0 7 rfl rfl)
theorem dX1_isBeforeBest_10 : decode cX1_isBeforeBest 10 = .ok (.aload_n 0, 1) := dk_42 (dk_at dksX1_isBeforeBest_0 10 rfl rfl)
theorem dX1_isBeforeBest_11 : decode cX1_isBeforeBest 11 = .ok (.getfield 37, 3) := dk_180 0 37 (dk_at dksX1_isBeforeBest_0 11 rfl rfl)
theorem dX1_isBeforeBest_14 : decode cX1_isBeforeBest 14 = .ok (.iload_n 1, 1) := dk_27 (dk_at dksX1_isBeforeBest_0 14 rfl rfl)
theorem dX1_isBeforeBest_15 : decode cX1_isBeforeBest 15 = .ok (.iaload, 1) := dk_46 (dk_at dksX1_isBeforeBest_0 15 rfl rfl)
theorem dX1_isBeforeBest_16 : decode cX1_isBeforeBest 16 = .ok (.aload_n 0, 1) := dk_42 (dk_at dksX1_isBeforeBest_0 16 rfl rfl)
theorem dX1_isBeforeBest_17 : decode cX1_isBeforeBest 17 = .ok (.getfield 40, 3) := dk_180 0 40 (dk_at dksX1_isBeforeBest_0 17 rfl rfl)
theorem dX1_isBeforeBest_20 : decode cX1_isBeforeBest 20 = .ok (.iload_n 1, 1) := dk_27 (dk_at dksX1_isBeforeBest_0 20 rfl rfl)
theorem dX1_isBeforeBest_21 : decode cX1_isBeforeBest 21 = .ok (.iaload, 1) := dk_46 (dk_at dksX1_isBeforeBest_0 21 rfl rfl)
theorem dX1_isBeforeBest_22 : decode cX1_isBeforeBest 22 = .ok (.if_icmp .eq 24, 3) := dk_159 0 24 (dk_at dksX1_isBeforeBest_1 0 rfl rfl)
theorem dX1_isBeforeBest_25 : decode cX1_isBeforeBest 25 = .ok (.aload_n 0, 1) := dk_42 (dk_at dksX1_isBeforeBest_1 3 rfl rfl)
theorem dX1_isBeforeBest_26 : decode cX1_isBeforeBest 26 = .ok (.getfield 37, 3) := dk_180 0 37 (dk_at dksX1_isBeforeBest_1 4 rfl rfl)
theorem dX1_isBeforeBest_29 : decode cX1_isBeforeBest 29 = .ok (.iload_n 1, 1) := dk_27 (dk_at dksX1_isBeforeBest_1 7 rfl rfl)
theorem dX1_isBeforeBest_30 : decode cX1_isBeforeBest 30 = .ok (.iaload, 1) := dk_46 (dk_at dksX1_isBeforeBest_1 8 rfl rfl)
theorem dX1_isBeforeBest_31 : decode cX1_isBeforeBest 31 = .ok (.aload_n 0, 1) := dk_42 (dk_at dksX1_isBeforeBest_1 9 rfl rfl)
theorem dX1_isBeforeBest_32 : decode cX1_isBeforeBest 32 = .ok (.getfield 40, 3) := dk_180 0 40 (dk_at dksX1_isBeforeBest_1 10 rfl rfl)
theorem dX1_isBeforeBest_35 : decode cX1_isBeforeBest 35 = .ok (.iload_n 1, 1) := dk_27 (dk_at dksX1_isBeforeBest_1 13 rfl rfl)
theorem dX1_isBeforeBest_36 : decode cX1_isBeforeBest 36 = .ok (.iaload, 1) := dk_46 (dk_at dksX1_isBeforeBest_1 14 rfl rfl)
theorem dX1_isBeforeBest_37 : decode cX1_isBeforeBest 37 = .ok (.if_icmp .ge 7, 3) := dk_162 0 7 (dk_at dksX1_isBeforeBest_1 15 rfl rfl)
theorem dX1_isBeforeBest_40 : decode cX1_isBeforeBest 40 = .ok (.iconst 1, 1) := dk_4 (dk_at dksX1_isBeforeBest_1 18 rfl rfl)
theorem dX1_isBeforeBest_41 : decode cX1_isBeforeBest 41 = .ok (.goto 4, 3) := dk_167 0 4 (dk_at dksX1_isBeforeBest_1 19 rfl rfl)
theorem dX1_isBeforeBest_44 : decode cX1_isBeforeBest 44 = .ok (.iconst 0, 1) := dk_3 (dk_at dksX1_isBeforeBest_1 22 rfl rfl)
theorem dX1_isBeforeBest_45 : decode cX1_isBeforeBest 45 = .ok (.ireturn, 1) := dk_172 (dk_at dksX1_isBeforeBest_1 23 rfl rfl)
theorem dX1_isBeforeBest_46 : decode cX1_isBeforeBest 46 = .ok (.iinc 1 1, 3) := dk_132 1 1 (dk_at dksX1_isBeforeBest_2 0 rfl rfl)
theorem dX1_isBeforeBest_49 : decode cX1_isBeforeBest 49 = .ok (.goto (-47), 3) := dk_167 255 209 (dk_at dksX1_isBeforeBest_2 3 rfl rfl)
theorem dX1_isBeforeBest_52 : decode cX1_isBeforeBest 52 = .ok (.iconst 0, 1) := dk_3 (dk_at dksX1_isBeforeBest_2 6 rfl rfl)
theorem dX1_isBeforeBest_53 : decode cX1_isBeforeBest 53 = .ok (.ireturn, 1) := dk_172 (dk_at dksX1_isBeforeBest_2 7 rfl rfl)
abbrev cX1_sum : ByteArray := prog_20_method_30_code
def yX1_sum : MethodName := ⟨RX1, "sum", "(I)J"⟩
def dkwX1_sum_1 : List UInt8 := [182, 0, 80, 133, 97, 65, 132, 4, 1, 167, 255, 228, 32, 173]
abbrev dktX1_sum_1 : List UInt8 := dkwX1_sum_1 ++ []
def dkwX1_sum_0 : List UInt8 := [9, 65, 3, 54, 4, 21, 4, 42, 180, 0, 131, 162, 0, 25, 32, 42, 42, 180, 0, 37, 21, 4, 46, 27]
abbrev dktX1_sum_0 : List UInt8 := dkwX1_sum_0 ++ dktX1_sum_1
theorem dksX1_sum_0 : cX1_sum.data.toList.drop 0 = dktX1_sum_0 := by decide +kernel
theorem dksX1_sum_1 : cX1_sum.data.toList.drop 24 = dktX1_sum_1 := dk_seg dksX1_sum_0 24 rfl rfl
theorem dX1_sum_0 : decode cX1_sum 0 = .ok (.lconst 0, 1) := dk_9 (dk_at dksX1_sum_0 0 rfl rfl)
theorem dX1_sum_1 : decode cX1_sum 1 = .ok (.lstore_n 2, 1) := dk_65 (dk_at dksX1_sum_0 1 rfl rfl)
theorem dX1_sum_2 : decode cX1_sum 2 = .ok (.iconst 0, 1) := dk_3 (dk_at dksX1_sum_0 2 rfl rfl)
theorem dX1_sum_3 : decode cX1_sum 3 = .ok (.istore 4, 2) := dk_54 4 (dk_at dksX1_sum_0 3 rfl rfl)
theorem dX1_sum_5 : decode cX1_sum 5 = .ok (.iload 4, 2) := dk_21 4 (dk_at dksX1_sum_0 5 rfl rfl)
theorem dX1_sum_7 : decode cX1_sum 7 = .ok (.aload_n 0, 1) := dk_42 (dk_at dksX1_sum_0 7 rfl rfl)
theorem dX1_sum_8 : decode cX1_sum 8 = .ok (.getfield 131, 3) := dk_180 0 131 (dk_at dksX1_sum_0 8 rfl rfl)
theorem dX1_sum_11 : decode cX1_sum 11 = .ok (.if_icmp .ge 25, 3) := dk_162 0 25 (dk_at dksX1_sum_0 11 rfl rfl)
theorem dX1_sum_14 : decode cX1_sum 14 = .ok (.lload_n 2, 1) := dk_32 (dk_at dksX1_sum_0 14 rfl rfl)
theorem dX1_sum_15 : decode cX1_sum 15 = .ok (.aload_n 0, 1) := dk_42 (dk_at dksX1_sum_0 15 rfl rfl)
theorem dX1_sum_16 : decode cX1_sum 16 = .ok (.aload_n 0, 1) := dk_42 (dk_at dksX1_sum_0 16 rfl rfl)
theorem dX1_sum_17 : decode cX1_sum 17 = .ok (.getfield 37, 3) := dk_180 0 37 (dk_at dksX1_sum_0 17 rfl rfl)
theorem dX1_sum_20 : decode cX1_sum 20 = .ok (.iload 4, 2) := dk_21 4 (dk_at dksX1_sum_0 20 rfl rfl)
theorem dX1_sum_22 : decode cX1_sum 22 = .ok (.iaload, 1) := dk_46 (dk_at dksX1_sum_0 22 rfl rfl)
theorem dX1_sum_23 : decode cX1_sum 23 = .ok (.iload_n 1, 1) := dk_27 (dk_at dksX1_sum_0 23 rfl rfl)
theorem dX1_sum_24 : decode cX1_sum 24 = .ok (.invokevirtual 80, 3) := dk_182 0 80 (dk_at dksX1_sum_1 0 rfl rfl)
theorem dX1_sum_27 : decode cX1_sum 27 = .ok (.i2l, 1) := dk_133 (dk_at dksX1_sum_1 3 rfl rfl)
theorem dX1_sum_28 : decode cX1_sum 28 = .ok (.ladd, 1) := dk_97 (dk_at dksX1_sum_1 4 rfl rfl)
theorem dX1_sum_29 : decode cX1_sum 29 = .ok (.lstore_n 2, 1) := dk_65 (dk_at dksX1_sum_1 5 rfl rfl)
theorem dX1_sum_30 : decode cX1_sum 30 = .ok (.iinc 4 1, 3) := dk_132 4 1 (dk_at dksX1_sum_1 6 rfl rfl)
theorem dX1_sum_33 : decode cX1_sum 33 = .ok (.goto (-28), 3) := dk_167 255 228 (dk_at dksX1_sum_1 9 rfl rfl)
theorem dX1_sum_36 : decode cX1_sum 36 = .ok (.lload_n 2, 1) := dk_32 (dk_at dksX1_sum_1 12 rfl rfl)
theorem dX1_sum_37 : decode cX1_sum 37 = .ok (.lreturn, 1) := dk_173 (dk_at dksX1_sum_1 13 rfl rfl)
abbrev cX1_finds : ByteArray := prog_20_method_37_code
def yX1_finds : MethodName := ⟨RX1, "finds", "()I"⟩
def dkwX1_finds_3 : List UInt8 := [180, 0, 40, 29, 46, 79, 132, 3, 1, 167, 255, 233, 42, 180, 0, 153, 172]
abbrev dktX1_finds_3 : List UInt8 := dkwX1_finds_3 ++ []
def dkwX1_finds_2 : List UInt8 := [180, 0, 153, 181, 0, 26, 3, 62, 29, 42, 180, 0, 153, 162, 0, 21, 42, 180, 0, 22, 29, 42]
abbrev dktX1_finds_2 : List UInt8 := dkwX1_finds_2 ++ dktX1_finds_3
def dkwX1_finds_1 : List UInt8 := [42, 42, 180, 0, 156, 31, 109, 181, 0, 174, 42, 42, 180, 0, 160, 31, 109, 181, 0, 177, 42, 42]
abbrev dktX1_finds_1 : List UInt8 := dkwX1_finds_1 ++ dktX1_finds_2
def dkwX1_finds_0 : List UInt8 := [42, 180, 0, 153, 18, 25, 160, 0, 6, 18, 25, 172, 42, 180, 0, 156, 42, 180, 0, 160, 184, 0, 171, 64]
abbrev dktX1_finds_0 : List UInt8 := dkwX1_finds_0 ++ dktX1_finds_1
theorem dksX1_finds_0 : cX1_finds.data.toList.drop 0 = dktX1_finds_0 := by decide +kernel
theorem dksX1_finds_1 : cX1_finds.data.toList.drop 24 = dktX1_finds_1 := dk_seg dksX1_finds_0 24 rfl rfl
theorem dksX1_finds_2 : cX1_finds.data.toList.drop 46 = dktX1_finds_2 := dk_seg dksX1_finds_1 22 rfl rfl
theorem dksX1_finds_3 : cX1_finds.data.toList.drop 68 = dktX1_finds_3 := dk_seg dksX1_finds_2 22 rfl rfl
theorem dX1_finds_0 : decode cX1_finds 0 = .ok (.aload_n 0, 1) := dk_42 (dk_at dksX1_finds_0 0 rfl rfl)
theorem dX1_finds_1 : decode cX1_finds 1 = .ok (.getfield 153, 3) := dk_180 0 153 (dk_at dksX1_finds_0 1 rfl rfl)
theorem dX1_finds_4 : decode cX1_finds 4 = .ok (.ldc 25, 2) := dk_18 25 (dk_at dksX1_finds_0 4 rfl rfl)
theorem dX1_finds_6 : decode cX1_finds 6 = .ok (.if_icmp .ne 6, 3) := dk_160 0 6 (dk_at dksX1_finds_0 6 rfl rfl)
theorem dX1_finds_9 : decode cX1_finds 9 = .ok (.ldc 25, 2) := dk_18 25 (dk_at dksX1_finds_0 9 rfl rfl)
theorem dX1_finds_11 : decode cX1_finds 11 = .ok (.ireturn, 1) := dk_172 (dk_at dksX1_finds_0 11 rfl rfl)
theorem dX1_finds_12 : decode cX1_finds 12 = .ok (.aload_n 0, 1) := dk_42 (dk_at dksX1_finds_0 12 rfl rfl)
theorem dX1_finds_13 : decode cX1_finds 13 = .ok (.getfield 156, 3) := dk_180 0 156 (dk_at dksX1_finds_0 13 rfl rfl)
theorem dX1_finds_16 : decode cX1_finds 16 = .ok (.aload_n 0, 1) := dk_42 (dk_at dksX1_finds_0 16 rfl rfl)
theorem dX1_finds_17 : decode cX1_finds 17 = .ok (.getfield 160, 3) := dk_180 0 160 (dk_at dksX1_finds_0 17 rfl rfl)
theorem dX1_finds_20 : decode cX1_finds 20 = .ok (.invokestatic 171, 3) := dk_184 0 171 (dk_at dksX1_finds_0 20 rfl rfl)
theorem dX1_finds_23 : decode cX1_finds 23 = .ok (.lstore_n 1, 1) := dk_64 (dk_at dksX1_finds_0 23 rfl rfl)
theorem dX1_finds_24 : decode cX1_finds 24 = .ok (.aload_n 0, 1) := dk_42 (dk_at dksX1_finds_1 0 rfl rfl)
theorem dX1_finds_25 : decode cX1_finds 25 = .ok (.aload_n 0, 1) := dk_42 (dk_at dksX1_finds_1 1 rfl rfl)
theorem dX1_finds_26 : decode cX1_finds 26 = .ok (.getfield 156, 3) := dk_180 0 156 (dk_at dksX1_finds_1 2 rfl rfl)
theorem dX1_finds_29 : decode cX1_finds 29 = .ok (.lload_n 1, 1) := dk_31 (dk_at dksX1_finds_1 5 rfl rfl)
theorem dX1_finds_30 : decode cX1_finds 30 = .ok (.ldiv, 1) := dk_109 (dk_at dksX1_finds_1 6 rfl rfl)
theorem dX1_finds_31 : decode cX1_finds 31 = .ok (.putfield 174, 3) := dk_181 0 174 (dk_at dksX1_finds_1 7 rfl rfl)
theorem dX1_finds_34 : decode cX1_finds 34 = .ok (.aload_n 0, 1) := dk_42 (dk_at dksX1_finds_1 10 rfl rfl)
theorem dX1_finds_35 : decode cX1_finds 35 = .ok (.aload_n 0, 1) := dk_42 (dk_at dksX1_finds_1 11 rfl rfl)
theorem dX1_finds_36 : decode cX1_finds 36 = .ok (.getfield 160, 3) := dk_180 0 160 (dk_at dksX1_finds_1 12 rfl rfl)
theorem dX1_finds_39 : decode cX1_finds 39 = .ok (.lload_n 1, 1) := dk_31 (dk_at dksX1_finds_1 15 rfl rfl)
theorem dX1_finds_40 : decode cX1_finds 40 = .ok (.ldiv, 1) := dk_109 (dk_at dksX1_finds_1 16 rfl rfl)
theorem dX1_finds_41 : decode cX1_finds 41 = .ok (.putfield 177, 3) := dk_181 0 177 (dk_at dksX1_finds_1 17 rfl rfl)
theorem dX1_finds_44 : decode cX1_finds 44 = .ok (.aload_n 0, 1) := dk_42 (dk_at dksX1_finds_1 20 rfl rfl)
theorem dX1_finds_45 : decode cX1_finds 45 = .ok (.aload_n 0, 1) := dk_42 (dk_at dksX1_finds_1 21 rfl rfl)
theorem dX1_finds_46 : decode cX1_finds 46 = .ok (.getfield 153, 3) := dk_180 0 153 (dk_at dksX1_finds_2 0 rfl rfl)
theorem dX1_finds_49 : decode cX1_finds 49 = .ok (.putfield 26, 3) := dk_181 0 26 (dk_at dksX1_finds_2 3 rfl rfl)
theorem dX1_finds_52 : decode cX1_finds 52 = .ok (.iconst 0, 1) := dk_3 (dk_at dksX1_finds_2 6 rfl rfl)
theorem dX1_finds_53 : decode cX1_finds 53 = .ok (.istore_n 3, 1) := dk_62 (dk_at dksX1_finds_2 7 rfl rfl)
theorem dX1_finds_54 : decode cX1_finds 54 = .ok (.iload_n 3, 1) := dk_29 (dk_at dksX1_finds_2 8 rfl rfl)
theorem dX1_finds_55 : decode cX1_finds 55 = .ok (.aload_n 0, 1) := dk_42 (dk_at dksX1_finds_2 9 rfl rfl)
theorem dX1_finds_56 : decode cX1_finds 56 = .ok (.getfield 153, 3) := dk_180 0 153 (dk_at dksX1_finds_2 10 rfl rfl)
theorem dX1_finds_59 : decode cX1_finds 59 = .ok (.if_icmp .ge 21, 3) := dk_162 0 21 (dk_at dksX1_finds_2 13 rfl rfl)
theorem dX1_finds_62 : decode cX1_finds 62 = .ok (.aload_n 0, 1) := dk_42 (dk_at dksX1_finds_2 16 rfl rfl)
theorem dX1_finds_63 : decode cX1_finds 63 = .ok (.getfield 22, 3) := dk_180 0 22 (dk_at dksX1_finds_2 17 rfl rfl)
theorem dX1_finds_66 : decode cX1_finds 66 = .ok (.iload_n 3, 1) := dk_29 (dk_at dksX1_finds_2 20 rfl rfl)
theorem dX1_finds_67 : decode cX1_finds 67 = .ok (.aload_n 0, 1) := dk_42 (dk_at dksX1_finds_2 21 rfl rfl)
theorem dX1_finds_68 : decode cX1_finds 68 = .ok (.getfield 40, 3) := dk_180 0 40 (dk_at dksX1_finds_3 0 rfl rfl)
theorem dX1_finds_71 : decode cX1_finds 71 = .ok (.iload_n 3, 1) := dk_29 (dk_at dksX1_finds_3 3 rfl rfl)
theorem dX1_finds_72 : decode cX1_finds 72 = .ok (.iaload, 1) := dk_46 (dk_at dksX1_finds_3 4 rfl rfl)
theorem dX1_finds_73 : decode cX1_finds 73 = .ok (.iastore, 1) := dk_79 (dk_at dksX1_finds_3 5 rfl rfl)
theorem dX1_finds_74 : decode cX1_finds 74 = .ok (.iinc 3 1, 3) := dk_132 3 1 (dk_at dksX1_finds_3 6 rfl rfl)
theorem dX1_finds_77 : decode cX1_finds 77 = .ok (.goto (-23), 3) := dk_167 255 233 (dk_at dksX1_finds_3 9 rfl rfl)
theorem dX1_finds_80 : decode cX1_finds 80 = .ok (.aload_n 0, 1) := dk_42 (dk_at dksX1_finds_3 12 rfl rfl)
theorem dX1_finds_81 : decode cX1_finds 81 = .ok (.getfield 153, 3) := dk_180 0 153 (dk_at dksX1_finds_3 13 rfl rfl)
theorem dX1_finds_84 : decode cX1_finds 84 = .ok (.ireturn, 1) := dk_172 (dk_at dksX1_finds_3 16 rfl rfl)
abbrev cX1_common : ByteArray := prog_20_method_32_code
def yX1_common : MethodName := ⟨RX1, "common", "(JJ)J"⟩
def dkwX1_common_1 : List UInt8 := [22, 4, 22, 6, 113, 55, 8, 22, 6, 55, 4, 22, 8, 55, 6, 167, 255, 234, 22, 4, 173]
abbrev dktX1_common_1 : List UInt8 := dkwX1_common_1 ++ []
def dkwX1_common_0 : List UInt8 := [30, 9, 148, 156, 0, 8, 30, 117, 167, 0, 4, 30, 55, 4, 32, 55, 6, 22, 6, 9, 148, 153, 0, 21]
abbrev dktX1_common_0 : List UInt8 := dkwX1_common_0 ++ dktX1_common_1
theorem dksX1_common_0 : cX1_common.data.toList.drop 0 = dktX1_common_0 := by decide +kernel
theorem dksX1_common_1 : cX1_common.data.toList.drop 24 = dktX1_common_1 := dk_seg dksX1_common_0 24 rfl rfl
theorem dX1_common_0 : decode cX1_common 0 = .ok (.lload_n 0, 1) := dk_30 (dk_at dksX1_common_0 0 rfl rfl)
theorem dX1_common_1 : decode cX1_common 1 = .ok (.lconst 0, 1) := dk_9 (dk_at dksX1_common_0 1 rfl rfl)
theorem dX1_common_2 : decode cX1_common 2 = .ok (.lcmp, 1) := dk_148 (dk_at dksX1_common_0 2 rfl rfl)
theorem dX1_common_3 : decode cX1_common 3 = .ok (.ifCond .ge 8, 3) := dk_156 0 8 (dk_at dksX1_common_0 3 rfl rfl)
theorem dX1_common_6 : decode cX1_common 6 = .ok (.lload_n 0, 1) := dk_30 (dk_at dksX1_common_0 6 rfl rfl)
theorem dX1_common_7 : decode cX1_common 7 = .ok (.lneg, 1) := dk_117 (dk_at dksX1_common_0 7 rfl rfl)
theorem dX1_common_8 : decode cX1_common 8 = .ok (.goto 4, 3) := dk_167 0 4 (dk_at dksX1_common_0 8 rfl rfl)
theorem dX1_common_11 : decode cX1_common 11 = .ok (.lload_n 0, 1) := dk_30 (dk_at dksX1_common_0 11 rfl rfl)
theorem dX1_common_12 : decode cX1_common 12 = .ok (.lstore 4, 2) := dk_55 4 (dk_at dksX1_common_0 12 rfl rfl)
theorem dX1_common_14 : decode cX1_common 14 = .ok (.lload_n 2, 1) := dk_32 (dk_at dksX1_common_0 14 rfl rfl)
theorem dX1_common_15 : decode cX1_common 15 = .ok (.lstore 6, 2) := dk_55 6 (dk_at dksX1_common_0 15 rfl rfl)
theorem dX1_common_17 : decode cX1_common 17 = .ok (.lload 6, 2) := dk_22 6 (dk_at dksX1_common_0 17 rfl rfl)
theorem dX1_common_19 : decode cX1_common 19 = .ok (.lconst 0, 1) := dk_9 (dk_at dksX1_common_0 19 rfl rfl)
theorem dX1_common_20 : decode cX1_common 20 = .ok (.lcmp, 1) := dk_148 (dk_at dksX1_common_0 20 rfl rfl)
theorem dX1_common_21 : decode cX1_common 21 = .ok (.ifCond .eq 21, 3) := dk_153 0 21 (dk_at dksX1_common_0 21 rfl rfl)
theorem dX1_common_24 : decode cX1_common 24 = .ok (.lload 4, 2) := dk_22 4 (dk_at dksX1_common_1 0 rfl rfl)
theorem dX1_common_26 : decode cX1_common 26 = .ok (.lload 6, 2) := dk_22 6 (dk_at dksX1_common_1 2 rfl rfl)
theorem dX1_common_28 : decode cX1_common 28 = .ok (.lrem, 1) := dk_113 (dk_at dksX1_common_1 4 rfl rfl)
theorem dX1_common_29 : decode cX1_common 29 = .ok (.lstore 8, 2) := dk_55 8 (dk_at dksX1_common_1 5 rfl rfl)
theorem dX1_common_31 : decode cX1_common 31 = .ok (.lload 6, 2) := dk_22 6 (dk_at dksX1_common_1 7 rfl rfl)
theorem dX1_common_33 : decode cX1_common 33 = .ok (.lstore 4, 2) := dk_55 4 (dk_at dksX1_common_1 9 rfl rfl)
theorem dX1_common_35 : decode cX1_common 35 = .ok (.lload 8, 2) := dk_22 8 (dk_at dksX1_common_1 11 rfl rfl)
theorem dX1_common_37 : decode cX1_common 37 = .ok (.lstore 6, 2) := dk_55 6 (dk_at dksX1_common_1 13 rfl rfl)
theorem dX1_common_39 : decode cX1_common 39 = .ok (.goto (-22), 3) := dk_167 255 234 (dk_at dksX1_common_1 15 rfl rfl)
theorem dX1_common_42 : decode cX1_common 42 = .ok (.lload 4, 2) := dk_22 4 (dk_at dksX1_common_1 18 rfl rfl)
theorem dX1_common_44 : decode cX1_common 44 = .ok (.lreturn, 1) := dk_173 (dk_at dksX1_common_1 20 rfl rfl)
abbrev cX1_ratioCycle : ByteArray := prog_20_method_40_code
def yX1_ratioCycle : MethodName := ⟨RX1, "ratioCycle", "()I"⟩
def dkwX1_ratioCycle_0 : List UInt8 := [42, 4, 182, 0, 199, 42, 182, 0, 202, 172]
abbrev dktX1_ratioCycle_0 : List UInt8 := dkwX1_ratioCycle_0 ++ []
theorem dksX1_ratioCycle_0 : cX1_ratioCycle.data.toList.drop 0 = dktX1_ratioCycle_0 := by decide +kernel
theorem dX1_ratioCycle_0 : decode cX1_ratioCycle 0 = .ok (.aload_n 0, 1) := dk_42 (dk_at dksX1_ratioCycle_0 0 rfl rfl)
theorem dX1_ratioCycle_1 : decode cX1_ratioCycle 1 = .ok (.iconst 1, 1) := dk_4 (dk_at dksX1_ratioCycle_0 1 rfl rfl)
theorem dX1_ratioCycle_2 : decode cX1_ratioCycle 2 = .ok (.invokevirtual 199, 3) := dk_182 0 199 (dk_at dksX1_ratioCycle_0 2 rfl rfl)
theorem dX1_ratioCycle_5 : decode cX1_ratioCycle 5 = .ok (.aload_n 0, 1) := dk_42 (dk_at dksX1_ratioCycle_0 5 rfl rfl)
theorem dX1_ratioCycle_6 : decode cX1_ratioCycle 6 = .ok (.invokevirtual 202, 3) := dk_182 0 202 (dk_at dksX1_ratioCycle_0 6 rfl rfl)
theorem dX1_ratioCycle_9 : decode cX1_ratioCycle 9 = .ok (.ireturn, 1) := dk_172 (dk_at dksX1_ratioCycle_0 9 rfl rfl)
abbrev cX1_gainCycle : ByteArray := prog_20_method_41_code
def yX1_gainCycle : MethodName := ⟨RX1, "gainCycle", "()I"⟩
def dkwX1_gainCycle_0 : List UInt8 := [42, 5, 182, 0, 199, 42, 182, 0, 202, 172]
abbrev dktX1_gainCycle_0 : List UInt8 := dkwX1_gainCycle_0 ++ []
theorem dksX1_gainCycle_0 : cX1_gainCycle.data.toList.drop 0 = dktX1_gainCycle_0 := by decide +kernel
theorem dX1_gainCycle_0 : decode cX1_gainCycle 0 = .ok (.aload_n 0, 1) := dk_42 (dk_at dksX1_gainCycle_0 0 rfl rfl)
theorem dX1_gainCycle_1 : decode cX1_gainCycle 1 = .ok (.iconst 2, 1) := dk_5 (dk_at dksX1_gainCycle_0 1 rfl rfl)
theorem dX1_gainCycle_2 : decode cX1_gainCycle 2 = .ok (.invokevirtual 199, 3) := dk_182 0 199 (dk_at dksX1_gainCycle_0 2 rfl rfl)
theorem dX1_gainCycle_5 : decode cX1_gainCycle 5 = .ok (.aload_n 0, 1) := dk_42 (dk_at dksX1_gainCycle_0 5 rfl rfl)
theorem dX1_gainCycle_6 : decode cX1_gainCycle 6 = .ok (.invokevirtual 202, 3) := dk_182 0 202 (dk_at dksX1_gainCycle_0 6 rfl rfl)
theorem dX1_gainCycle_9 : decode cX1_gainCycle 9 = .ok (.ireturn, 1) := dk_172 (dk_at dksX1_gainCycle_0 9 rfl rfl)
abbrev cX1_cycles : ByteArray := prog_20_method_42_code
def yX1_cycles : MethodName := ⟨RX1, "cycles", "(I)I"⟩
def dkwX1_cycles_4 : List UInt8 := [182, 0, 184, 54, 4, 167, 255, 197, 132, 3, 1, 167, 255, 172, 28, 172]
abbrev dktX1_cycles_4 : List UInt8 := dkwX1_cycles_4 ++ []
def dkwX1_cycles_3 : List UInt8 := [8, 182, 0, 188, 42, 16, 6, 182, 0, 188, 148, 158, 0, 7, 4, 167, 0, 4, 3, 96, 61, 42, 3]
abbrev dktX1_cycles_3 : List UInt8 := dkwX1_cycles_3 ++ dktX1_cycles_4
def dkwX1_cycles_2 : List UInt8 := [153, 0, 38, 27, 4, 160, 0, 13, 42, 5, 182, 0, 196, 9, 148, 155, 0, 23, 27, 5, 160, 0, 22, 42]
abbrev dktX1_cycles_2 : List UInt8 := dkwX1_cycles_2 ++ dktX1_cycles_3
def dkwX1_cycles_1 : List UInt8 := [162, 0, 84, 42, 29, 29, 182, 0, 180, 42, 4, 182, 0, 184, 54, 4, 21, 4, 153, 0, 60, 28, 27]
abbrev dktX1_cycles_1 : List UInt8 := dkwX1_cycles_1 ++ dktX1_cycles_2
def dkwX1_cycles_0 : List UInt8 := [27, 133, 9, 20, 0, 205, 184, 0, 48, 154, 0, 6, 18, 72, 172, 3, 61, 3, 62, 29, 16, 8]
abbrev dktX1_cycles_0 : List UInt8 := dkwX1_cycles_0 ++ dktX1_cycles_1
theorem dksX1_cycles_0 : cX1_cycles.data.toList.drop 0 = dktX1_cycles_0 := by decide +kernel
theorem dksX1_cycles_1 : cX1_cycles.data.toList.drop 22 = dktX1_cycles_1 := dk_seg dksX1_cycles_0 22 rfl rfl
theorem dksX1_cycles_2 : cX1_cycles.data.toList.drop 45 = dktX1_cycles_2 := dk_seg dksX1_cycles_1 23 rfl rfl
theorem dksX1_cycles_3 : cX1_cycles.data.toList.drop 69 = dktX1_cycles_3 := dk_seg dksX1_cycles_2 24 rfl rfl
theorem dksX1_cycles_4 : cX1_cycles.data.toList.drop 92 = dktX1_cycles_4 := dk_seg dksX1_cycles_3 23 rfl rfl
theorem dX1_cycles_0 : decode cX1_cycles 0 = .ok (.iload_n 1, 1) := dk_27 (dk_at dksX1_cycles_0 0 rfl rfl)
theorem dX1_cycles_1 : decode cX1_cycles 1 = .ok (.i2l, 1) := dk_133 (dk_at dksX1_cycles_0 1 rfl rfl)
theorem dX1_cycles_2 : decode cX1_cycles 2 = .ok (.lconst 0, 1) := dk_9 (dk_at dksX1_cycles_0 2 rfl rfl)
theorem dX1_cycles_3 : decode cX1_cycles 3 = .ok (.ldc2_w 205, 3) := dk_20 0 205 (dk_at dksX1_cycles_0 3 rfl rfl)
theorem dX1_cycles_6 : decode cX1_cycles 6 = .ok (.invokestatic 48, 3) := dk_184 0 48 (dk_at dksX1_cycles_0 6 rfl rfl)
theorem dX1_cycles_9 : decode cX1_cycles 9 = .ok (.ifCond .ne 6, 3) := dk_154 0 6 (dk_at dksX1_cycles_0 9 rfl rfl)
theorem dX1_cycles_12 : decode cX1_cycles 12 = .ok (.ldc 72, 2) := dk_18 72 (dk_at dksX1_cycles_0 12 rfl rfl)
theorem dX1_cycles_14 : decode cX1_cycles 14 = .ok (.ireturn, 1) := dk_172 (dk_at dksX1_cycles_0 14 rfl rfl)
theorem dX1_cycles_15 : decode cX1_cycles 15 = .ok (.iconst 0, 1) := dk_3 (dk_at dksX1_cycles_0 15 rfl rfl)
theorem dX1_cycles_16 : decode cX1_cycles 16 = .ok (.istore_n 2, 1) := dk_61 (dk_at dksX1_cycles_0 16 rfl rfl)
theorem dX1_cycles_17 : decode cX1_cycles 17 = .ok (.iconst 0, 1) := dk_3 (dk_at dksX1_cycles_0 17 rfl rfl)
theorem dX1_cycles_18 : decode cX1_cycles 18 = .ok (.istore_n 3, 1) := dk_62 (dk_at dksX1_cycles_0 18 rfl rfl)
theorem dX1_cycles_19 : decode cX1_cycles 19 = .ok (.iload_n 3, 1) := dk_29 (dk_at dksX1_cycles_0 19 rfl rfl)
theorem dX1_cycles_20 : decode cX1_cycles 20 = .ok (.bipush 8, 2) := dk_16 8 (dk_at dksX1_cycles_0 20 rfl rfl)
theorem dX1_cycles_22 : decode cX1_cycles 22 = .ok (.if_icmp .ge 84, 3) := dk_162 0 84 (dk_at dksX1_cycles_1 0 rfl rfl)
theorem dX1_cycles_25 : decode cX1_cycles 25 = .ok (.aload_n 0, 1) := dk_42 (dk_at dksX1_cycles_1 3 rfl rfl)
theorem dX1_cycles_26 : decode cX1_cycles 26 = .ok (.iload_n 3, 1) := dk_29 (dk_at dksX1_cycles_1 4 rfl rfl)
theorem dX1_cycles_27 : decode cX1_cycles 27 = .ok (.iload_n 3, 1) := dk_29 (dk_at dksX1_cycles_1 5 rfl rfl)
theorem dX1_cycles_28 : decode cX1_cycles 28 = .ok (.invokevirtual 180, 3) := dk_182 0 180 (dk_at dksX1_cycles_1 6 rfl rfl)
theorem dX1_cycles_31 : decode cX1_cycles 31 = .ok (.aload_n 0, 1) := dk_42 (dk_at dksX1_cycles_1 9 rfl rfl)
theorem dX1_cycles_32 : decode cX1_cycles 32 = .ok (.iconst 1, 1) := dk_4 (dk_at dksX1_cycles_1 10 rfl rfl)
theorem dX1_cycles_33 : decode cX1_cycles 33 = .ok (.invokevirtual 184, 3) := dk_182 0 184 (dk_at dksX1_cycles_1 11 rfl rfl)
theorem dX1_cycles_36 : decode cX1_cycles 36 = .ok (.istore 4, 2) := dk_54 4 (dk_at dksX1_cycles_1 14 rfl rfl)
theorem dX1_cycles_38 : decode cX1_cycles 38 = .ok (.iload 4, 2) := dk_21 4 (dk_at dksX1_cycles_1 16 rfl rfl)
theorem dX1_cycles_40 : decode cX1_cycles 40 = .ok (.ifCond .eq 60, 3) := dk_153 0 60 (dk_at dksX1_cycles_1 18 rfl rfl)
theorem dX1_cycles_43 : decode cX1_cycles 43 = .ok (.iload_n 2, 1) := dk_28 (dk_at dksX1_cycles_1 21 rfl rfl)
theorem dX1_cycles_44 : decode cX1_cycles 44 = .ok (.iload_n 1, 1) := dk_27 (dk_at dksX1_cycles_1 22 rfl rfl)
theorem dX1_cycles_45 : decode cX1_cycles 45 = .ok (.ifCond .eq 38, 3) := dk_153 0 38 (dk_at dksX1_cycles_2 0 rfl rfl)
theorem dX1_cycles_48 : decode cX1_cycles 48 = .ok (.iload_n 1, 1) := dk_27 (dk_at dksX1_cycles_2 3 rfl rfl)
theorem dX1_cycles_49 : decode cX1_cycles 49 = .ok (.iconst 1, 1) := dk_4 (dk_at dksX1_cycles_2 4 rfl rfl)
theorem dX1_cycles_50 : decode cX1_cycles 50 = .ok (.if_icmp .ne 13, 3) := dk_160 0 13 (dk_at dksX1_cycles_2 5 rfl rfl)
theorem dX1_cycles_53 : decode cX1_cycles 53 = .ok (.aload_n 0, 1) := dk_42 (dk_at dksX1_cycles_2 8 rfl rfl)
theorem dX1_cycles_54 : decode cX1_cycles 54 = .ok (.iconst 2, 1) := dk_5 (dk_at dksX1_cycles_2 9 rfl rfl)
theorem dX1_cycles_55 : decode cX1_cycles 55 = .ok (.invokevirtual 196, 3) := dk_182 0 196 (dk_at dksX1_cycles_2 10 rfl rfl)
theorem dX1_cycles_58 : decode cX1_cycles 58 = .ok (.lconst 0, 1) := dk_9 (dk_at dksX1_cycles_2 13 rfl rfl)
theorem dX1_cycles_59 : decode cX1_cycles 59 = .ok (.lcmp, 1) := dk_148 (dk_at dksX1_cycles_2 14 rfl rfl)
theorem dX1_cycles_60 : decode cX1_cycles 60 = .ok (.ifCond .lt 23, 3) := dk_155 0 23 (dk_at dksX1_cycles_2 15 rfl rfl)
theorem dX1_cycles_63 : decode cX1_cycles 63 = .ok (.iload_n 1, 1) := dk_27 (dk_at dksX1_cycles_2 18 rfl rfl)
theorem dX1_cycles_64 : decode cX1_cycles 64 = .ok (.iconst 2, 1) := dk_5 (dk_at dksX1_cycles_2 19 rfl rfl)
theorem dX1_cycles_65 : decode cX1_cycles 65 = .ok (.if_icmp .ne 22, 3) := dk_160 0 22 (dk_at dksX1_cycles_2 20 rfl rfl)
theorem dX1_cycles_68 : decode cX1_cycles 68 = .ok (.aload_n 0, 1) := dk_42 (dk_at dksX1_cycles_2 23 rfl rfl)
theorem dX1_cycles_69 : decode cX1_cycles 69 = .ok (.iconst 5, 1) := dk_8 (dk_at dksX1_cycles_3 0 rfl rfl)
theorem dX1_cycles_70 : decode cX1_cycles 70 = .ok (.invokevirtual 188, 3) := dk_182 0 188 (dk_at dksX1_cycles_3 1 rfl rfl)
theorem dX1_cycles_73 : decode cX1_cycles 73 = .ok (.aload_n 0, 1) := dk_42 (dk_at dksX1_cycles_3 4 rfl rfl)
theorem dX1_cycles_74 : decode cX1_cycles 74 = .ok (.bipush 6, 2) := dk_16 6 (dk_at dksX1_cycles_3 5 rfl rfl)
theorem dX1_cycles_76 : decode cX1_cycles 76 = .ok (.invokevirtual 188, 3) := dk_182 0 188 (dk_at dksX1_cycles_3 7 rfl rfl)
theorem dX1_cycles_79 : decode cX1_cycles 79 = .ok (.lcmp, 1) := dk_148 (dk_at dksX1_cycles_3 10 rfl rfl)
theorem dX1_cycles_80 : decode cX1_cycles 80 = .ok (.ifCond .le 7, 3) := dk_158 0 7 (dk_at dksX1_cycles_3 11 rfl rfl)
theorem dX1_cycles_83 : decode cX1_cycles 83 = .ok (.iconst 1, 1) := dk_4 (dk_at dksX1_cycles_3 14 rfl rfl)
theorem dX1_cycles_84 : decode cX1_cycles 84 = .ok (.goto 4, 3) := dk_167 0 4 (dk_at dksX1_cycles_3 15 rfl rfl)
theorem dX1_cycles_87 : decode cX1_cycles 87 = .ok (.iconst 0, 1) := dk_3 (dk_at dksX1_cycles_3 18 rfl rfl)
theorem dX1_cycles_88 : decode cX1_cycles 88 = .ok (.iadd, 1) := dk_96 (dk_at dksX1_cycles_3 19 rfl rfl)
theorem dX1_cycles_89 : decode cX1_cycles 89 = .ok (.istore_n 2, 1) := dk_61 (dk_at dksX1_cycles_3 20 rfl rfl)
theorem dX1_cycles_90 : decode cX1_cycles 90 = .ok (.aload_n 0, 1) := dk_42 (dk_at dksX1_cycles_3 21 rfl rfl)
theorem dX1_cycles_91 : decode cX1_cycles 91 = .ok (.iconst 0, 1) := dk_3 (dk_at dksX1_cycles_3 22 rfl rfl)
theorem dX1_cycles_92 : decode cX1_cycles 92 = .ok (.invokevirtual 184, 3) := dk_182 0 184 (dk_at dksX1_cycles_4 0 rfl rfl)
theorem dX1_cycles_95 : decode cX1_cycles 95 = .ok (.istore 4, 2) := dk_54 4 (dk_at dksX1_cycles_4 3 rfl rfl)
theorem dX1_cycles_97 : decode cX1_cycles 97 = .ok (.goto (-59), 3) := dk_167 255 197 (dk_at dksX1_cycles_4 5 rfl rfl)
theorem dX1_cycles_100 : decode cX1_cycles 100 = .ok (.iinc 3 1, 3) := dk_132 3 1 (dk_at dksX1_cycles_4 8 rfl rfl)
theorem dX1_cycles_103 : decode cX1_cycles 103 = .ok (.goto (-84), 3) := dk_167 255 172 (dk_at dksX1_cycles_4 11 rfl rfl)
theorem dX1_cycles_106 : decode cX1_cycles 106 = .ok (.iload_n 2, 1) := dk_28 (dk_at dksX1_cycles_4 14 rfl rfl)
theorem dX1_cycles_107 : decode cX1_cycles 107 = .ok (.ireturn, 1) := dk_172 (dk_at dksX1_cycles_4 15 rfl rfl)
abbrev cX1_finding : ByteArray := prog_20_method_43_code
def yX1_finding : MethodName := ⟨RX1, "finding", "(I)I"⟩
def dkwX1_finding_2 : List UInt8 := [167, 0, 5, 18, 25, 172]
abbrev dktX1_finding_2 : List UInt8 := dkwX1_finding_2 ++ []
def dkwX1_finding_1 : List UInt8 := [160, 0, 10, 42, 180, 0, 26, 167, 0, 22, 27, 42, 180, 0, 26, 162, 0, 12, 42, 180, 0, 22, 27, 46]
abbrev dktX1_finding_1 : List UInt8 := dkwX1_finding_1 ++ dktX1_finding_2
def dkwX1_finding_0 : List UInt8 := [27, 2, 162, 0, 6, 18, 72, 172, 42, 180, 0, 26, 18, 25, 160, 0, 6, 18, 63, 172, 27, 2]
abbrev dktX1_finding_0 : List UInt8 := dkwX1_finding_0 ++ dktX1_finding_1
theorem dksX1_finding_0 : cX1_finding.data.toList.drop 0 = dktX1_finding_0 := by decide +kernel
theorem dksX1_finding_1 : cX1_finding.data.toList.drop 22 = dktX1_finding_1 := dk_seg dksX1_finding_0 22 rfl rfl
theorem dksX1_finding_2 : cX1_finding.data.toList.drop 46 = dktX1_finding_2 := dk_seg dksX1_finding_1 24 rfl rfl
theorem dX1_finding_0 : decode cX1_finding 0 = .ok (.iload_n 1, 1) := dk_27 (dk_at dksX1_finding_0 0 rfl rfl)
theorem dX1_finding_1 : decode cX1_finding 1 = .ok (.iconst (-1), 1) := dk_2 (dk_at dksX1_finding_0 1 rfl rfl)
theorem dX1_finding_2 : decode cX1_finding 2 = .ok (.if_icmp .ge 6, 3) := dk_162 0 6 (dk_at dksX1_finding_0 2 rfl rfl)
theorem dX1_finding_5 : decode cX1_finding 5 = .ok (.ldc 72, 2) := dk_18 72 (dk_at dksX1_finding_0 5 rfl rfl)
theorem dX1_finding_7 : decode cX1_finding 7 = .ok (.ireturn, 1) := dk_172 (dk_at dksX1_finding_0 7 rfl rfl)
theorem dX1_finding_8 : decode cX1_finding 8 = .ok (.aload_n 0, 1) := dk_42 (dk_at dksX1_finding_0 8 rfl rfl)
theorem dX1_finding_9 : decode cX1_finding 9 = .ok (.getfield 26, 3) := dk_180 0 26 (dk_at dksX1_finding_0 9 rfl rfl)
theorem dX1_finding_12 : decode cX1_finding 12 = .ok (.ldc 25, 2) := dk_18 25 (dk_at dksX1_finding_0 12 rfl rfl)
theorem dX1_finding_14 : decode cX1_finding 14 = .ok (.if_icmp .ne 6, 3) := dk_160 0 6 (dk_at dksX1_finding_0 14 rfl rfl)
theorem dX1_finding_17 : decode cX1_finding 17 = .ok (.ldc 63, 2) := dk_18 63 (dk_at dksX1_finding_0 17 rfl rfl)
theorem dX1_finding_19 : decode cX1_finding 19 = .ok (.ireturn, 1) := dk_172 (dk_at dksX1_finding_0 19 rfl rfl)
theorem dX1_finding_20 : decode cX1_finding 20 = .ok (.iload_n 1, 1) := dk_27 (dk_at dksX1_finding_0 20 rfl rfl)
theorem dX1_finding_21 : decode cX1_finding 21 = .ok (.iconst (-1), 1) := dk_2 (dk_at dksX1_finding_0 21 rfl rfl)
theorem dX1_finding_22 : decode cX1_finding 22 = .ok (.if_icmp .ne 10, 3) := dk_160 0 10 (dk_at dksX1_finding_1 0 rfl rfl)
theorem dX1_finding_25 : decode cX1_finding 25 = .ok (.aload_n 0, 1) := dk_42 (dk_at dksX1_finding_1 3 rfl rfl)
theorem dX1_finding_26 : decode cX1_finding 26 = .ok (.getfield 26, 3) := dk_180 0 26 (dk_at dksX1_finding_1 4 rfl rfl)
theorem dX1_finding_29 : decode cX1_finding 29 = .ok (.goto 22, 3) := dk_167 0 22 (dk_at dksX1_finding_1 7 rfl rfl)
theorem dX1_finding_32 : decode cX1_finding 32 = .ok (.iload_n 1, 1) := dk_27 (dk_at dksX1_finding_1 10 rfl rfl)
theorem dX1_finding_33 : decode cX1_finding 33 = .ok (.aload_n 0, 1) := dk_42 (dk_at dksX1_finding_1 11 rfl rfl)
theorem dX1_finding_34 : decode cX1_finding 34 = .ok (.getfield 26, 3) := dk_180 0 26 (dk_at dksX1_finding_1 12 rfl rfl)
theorem dX1_finding_37 : decode cX1_finding 37 = .ok (.if_icmp .ge 12, 3) := dk_162 0 12 (dk_at dksX1_finding_1 15 rfl rfl)
theorem dX1_finding_40 : decode cX1_finding 40 = .ok (.aload_n 0, 1) := dk_42 (dk_at dksX1_finding_1 18 rfl rfl)
theorem dX1_finding_41 : decode cX1_finding 41 = .ok (.getfield 22, 3) := dk_180 0 22 (dk_at dksX1_finding_1 19 rfl rfl)
theorem dX1_finding_44 : decode cX1_finding 44 = .ok (.iload_n 1, 1) := dk_27 (dk_at dksX1_finding_1 22 rfl rfl)
theorem dX1_finding_45 : decode cX1_finding 45 = .ok (.iaload, 1) := dk_46 (dk_at dksX1_finding_1 23 rfl rfl)
theorem dX1_finding_46 : decode cX1_finding 46 = .ok (.goto 5, 3) := dk_167 0 5 (dk_at dksX1_finding_2 0 rfl rfl)
theorem dX1_finding_49 : decode cX1_finding 49 = .ok (.ldc 25, 2) := dk_18 25 (dk_at dksX1_finding_2 3 rfl rfl)
theorem dX1_finding_51 : decode cX1_finding 51 = .ok (.ireturn, 1) := dk_172 (dk_at dksX1_finding_2 5 rfl rfl)
abbrev cX1_value : ByteArray := prog_20_method_44_code
def yX1_value : MethodName := ⟨RX1, "value", "(I)J"⟩
def dkwX1_value_1 : List UInt8 := [20, 0, 209, 167, 0, 18, 27, 154, 0, 10, 42, 180, 0, 174, 167, 0, 7, 42, 180, 0, 177, 173]
abbrev dktX1_value_1 : List UInt8 := dkwX1_value_1 ++ []
def dkwX1_value_0 : List UInt8 := [27, 133, 9, 10, 184, 0, 48, 154, 0, 7, 20, 0, 207, 173, 42, 180, 0, 26, 18, 25, 160, 0, 9]
abbrev dktX1_value_0 : List UInt8 := dkwX1_value_0 ++ dktX1_value_1
theorem dksX1_value_0 : cX1_value.data.toList.drop 0 = dktX1_value_0 := by decide +kernel
theorem dksX1_value_1 : cX1_value.data.toList.drop 23 = dktX1_value_1 := dk_seg dksX1_value_0 23 rfl rfl
theorem dX1_value_0 : decode cX1_value 0 = .ok (.iload_n 1, 1) := dk_27 (dk_at dksX1_value_0 0 rfl rfl)
theorem dX1_value_1 : decode cX1_value 1 = .ok (.i2l, 1) := dk_133 (dk_at dksX1_value_0 1 rfl rfl)
theorem dX1_value_2 : decode cX1_value 2 = .ok (.lconst 0, 1) := dk_9 (dk_at dksX1_value_0 2 rfl rfl)
theorem dX1_value_3 : decode cX1_value 3 = .ok (.lconst 1, 1) := dk_10 (dk_at dksX1_value_0 3 rfl rfl)
theorem dX1_value_4 : decode cX1_value 4 = .ok (.invokestatic 48, 3) := dk_184 0 48 (dk_at dksX1_value_0 4 rfl rfl)
theorem dX1_value_7 : decode cX1_value 7 = .ok (.ifCond .ne 7, 3) := dk_154 0 7 (dk_at dksX1_value_0 7 rfl rfl)
theorem dX1_value_10 : decode cX1_value 10 = .ok (.ldc2_w 207, 3) := dk_20 0 207 (dk_at dksX1_value_0 10 rfl rfl)
theorem dX1_value_13 : decode cX1_value 13 = .ok (.lreturn, 1) := dk_173 (dk_at dksX1_value_0 13 rfl rfl)
theorem dX1_value_14 : decode cX1_value 14 = .ok (.aload_n 0, 1) := dk_42 (dk_at dksX1_value_0 14 rfl rfl)
theorem dX1_value_15 : decode cX1_value 15 = .ok (.getfield 26, 3) := dk_180 0 26 (dk_at dksX1_value_0 15 rfl rfl)
theorem dX1_value_18 : decode cX1_value 18 = .ok (.ldc 25, 2) := dk_18 25 (dk_at dksX1_value_0 18 rfl rfl)
theorem dX1_value_20 : decode cX1_value 20 = .ok (.if_icmp .ne 9, 3) := dk_160 0 9 (dk_at dksX1_value_0 20 rfl rfl)
theorem dX1_value_23 : decode cX1_value 23 = .ok (.ldc2_w 209, 3) := dk_20 0 209 (dk_at dksX1_value_1 0 rfl rfl)
theorem dX1_value_26 : decode cX1_value 26 = .ok (.goto 18, 3) := dk_167 0 18 (dk_at dksX1_value_1 3 rfl rfl)
theorem dX1_value_29 : decode cX1_value 29 = .ok (.iload_n 1, 1) := dk_27 (dk_at dksX1_value_1 6 rfl rfl)
theorem dX1_value_30 : decode cX1_value 30 = .ok (.ifCond .ne 10, 3) := dk_154 0 10 (dk_at dksX1_value_1 7 rfl rfl)
theorem dX1_value_33 : decode cX1_value 33 = .ok (.aload_n 0, 1) := dk_42 (dk_at dksX1_value_1 10 rfl rfl)
theorem dX1_value_34 : decode cX1_value 34 = .ok (.getfield 174, 3) := dk_180 0 174 (dk_at dksX1_value_1 11 rfl rfl)
theorem dX1_value_37 : decode cX1_value 37 = .ok (.goto 7, 3) := dk_167 0 7 (dk_at dksX1_value_1 14 rfl rfl)
theorem dX1_value_40 : decode cX1_value 40 = .ok (.aload_n 0, 1) := dk_42 (dk_at dksX1_value_1 17 rfl rfl)
theorem dX1_value_41 : decode cX1_value 41 = .ok (.getfield 177, 3) := dk_180 0 177 (dk_at dksX1_value_1 18 rfl rfl)
theorem dX1_value_44 : decode cX1_value 44 = .ok (.lreturn, 1) := dk_173 (dk_at dksX1_value_1 21 rfl rfl)
abbrev cX1_potential : ByteArray := prog_20_method_47_code
def yX1_potential : MethodName := ⟨RX1, "potential", "(I)J"⟩
def dkwX1_potential_1 : List UInt8 := [167, 0, 6, 20, 0, 220, 173]
abbrev dktX1_potential_1 : List UInt8 := dkwX1_potential_1 ++ []
def dkwX1_potential_0 : List UInt8 := [27, 184, 0, 64, 154, 0, 7, 20, 0, 207, 173, 42, 182, 0, 217, 153, 0, 12, 42, 180, 0, 43, 27, 47]
abbrev dktX1_potential_0 : List UInt8 := dkwX1_potential_0 ++ dktX1_potential_1
theorem dksX1_potential_0 : cX1_potential.data.toList.drop 0 = dktX1_potential_0 := by decide +kernel
theorem dksX1_potential_1 : cX1_potential.data.toList.drop 24 = dktX1_potential_1 := dk_seg dksX1_potential_0 24 rfl rfl
theorem dX1_potential_0 : decode cX1_potential 0 = .ok (.iload_n 1, 1) := dk_27 (dk_at dksX1_potential_0 0 rfl rfl)
theorem dX1_potential_1 : decode cX1_potential 1 = .ok (.invokestatic 64, 3) := dk_184 0 64 (dk_at dksX1_potential_0 1 rfl rfl)
theorem dX1_potential_4 : decode cX1_potential 4 = .ok (.ifCond .ne 7, 3) := dk_154 0 7 (dk_at dksX1_potential_0 4 rfl rfl)
theorem dX1_potential_7 : decode cX1_potential 7 = .ok (.ldc2_w 207, 3) := dk_20 0 207 (dk_at dksX1_potential_0 7 rfl rfl)
theorem dX1_potential_10 : decode cX1_potential 10 = .ok (.lreturn, 1) := dk_173 (dk_at dksX1_potential_0 10 rfl rfl)
theorem dX1_potential_11 : decode cX1_potential 11 = .ok (.aload_n 0, 1) := dk_42 (dk_at dksX1_potential_0 11 rfl rfl)
theorem dX1_potential_12 : decode cX1_potential 12 = .ok (.invokevirtual 217, 3) := dk_182 0 217 (dk_at dksX1_potential_0 12 rfl rfl)
theorem dX1_potential_15 : decode cX1_potential 15 = .ok (.ifCond .eq 12, 3) := dk_153 0 12 (dk_at dksX1_potential_0 15 rfl rfl)
theorem dX1_potential_18 : decode cX1_potential 18 = .ok (.aload_n 0, 1) := dk_42 (dk_at dksX1_potential_0 18 rfl rfl)
theorem dX1_potential_19 : decode cX1_potential 19 = .ok (.getfield 43, 3) := dk_180 0 43 (dk_at dksX1_potential_0 19 rfl rfl)
theorem dX1_potential_22 : decode cX1_potential 22 = .ok (.iload_n 1, 1) := dk_27 (dk_at dksX1_potential_0 22 rfl rfl)
theorem dX1_potential_23 : decode cX1_potential 23 = .ok (.laload, 1) := dk_47 (dk_at dksX1_potential_0 23 rfl rfl)
theorem dX1_potential_24 : decode cX1_potential 24 = .ok (.goto 6, 3) := dk_167 0 6 (dk_at dksX1_potential_1 0 rfl rfl)
theorem dX1_potential_27 : decode cX1_potential 27 = .ok (.ldc2_w 220, 3) := dk_20 0 220 (dk_at dksX1_potential_1 3 rfl rfl)
theorem dX1_potential_30 : decode cX1_potential 30 = .ok (.lreturn, 1) := dk_173 (dk_at dksX1_potential_1 6 rfl rfl)
abbrev cX1_laysPotentials : ByteArray := prog_20_method_46_code
def yX1_laysPotentials : MethodName := ⟨RX1, "laysPotentials", "()Z"⟩
def dkwX1_laysPotentials_2 : List UInt8 := [167, 255, 240, 42, 42, 180, 0, 160, 31, 109, 9, 42, 180, 0, 156, 117, 31, 109, 16, 100, 182, 0, 213, 172]
abbrev dktX1_laysPotentials_2 : List UInt8 := dkwX1_laysPotentials_2 ++ []
def dkwX1_laysPotentials_1 : List UInt8 := [184, 0, 171, 64, 3, 62, 29, 16, 8, 162, 0, 16, 42, 180, 0, 43, 29, 9, 80, 132, 3, 1]
abbrev dktX1_laysPotentials_1 : List UInt8 := dkwX1_laysPotentials_1 ++ dktX1_laysPotentials_2
def dkwX1_laysPotentials_0 : List UInt8 := [42, 3, 182, 0, 199, 42, 180, 0, 153, 18, 25, 160, 0, 5, 3, 172, 42, 180, 0, 156, 42, 180, 0, 160]
abbrev dktX1_laysPotentials_0 : List UInt8 := dkwX1_laysPotentials_0 ++ dktX1_laysPotentials_1
theorem dksX1_laysPotentials_0 : cX1_laysPotentials.data.toList.drop 0 = dktX1_laysPotentials_0 := by decide +kernel
theorem dksX1_laysPotentials_1 : cX1_laysPotentials.data.toList.drop 24 = dktX1_laysPotentials_1 := dk_seg dksX1_laysPotentials_0 24 rfl rfl
theorem dksX1_laysPotentials_2 : cX1_laysPotentials.data.toList.drop 46 = dktX1_laysPotentials_2 := dk_seg dksX1_laysPotentials_1 22 rfl rfl
theorem dX1_laysPotentials_0 : decode cX1_laysPotentials 0 = .ok (.aload_n 0, 1) := dk_42 (dk_at dksX1_laysPotentials_0 0 rfl rfl)
theorem dX1_laysPotentials_1 : decode cX1_laysPotentials 1 = .ok (.iconst 0, 1) := dk_3 (dk_at dksX1_laysPotentials_0 1 rfl rfl)
theorem dX1_laysPotentials_2 : decode cX1_laysPotentials 2 = .ok (.invokevirtual 199, 3) := dk_182 0 199 (dk_at dksX1_laysPotentials_0 2 rfl rfl)
theorem dX1_laysPotentials_5 : decode cX1_laysPotentials 5 = .ok (.aload_n 0, 1) := dk_42 (dk_at dksX1_laysPotentials_0 5 rfl rfl)
theorem dX1_laysPotentials_6 : decode cX1_laysPotentials 6 = .ok (.getfield 153, 3) := dk_180 0 153 (dk_at dksX1_laysPotentials_0 6 rfl rfl)
theorem dX1_laysPotentials_9 : decode cX1_laysPotentials 9 = .ok (.ldc 25, 2) := dk_18 25 (dk_at dksX1_laysPotentials_0 9 rfl rfl)
theorem dX1_laysPotentials_11 : decode cX1_laysPotentials 11 = .ok (.if_icmp .ne 5, 3) := dk_160 0 5 (dk_at dksX1_laysPotentials_0 11 rfl rfl)
theorem dX1_laysPotentials_14 : decode cX1_laysPotentials 14 = .ok (.iconst 0, 1) := dk_3 (dk_at dksX1_laysPotentials_0 14 rfl rfl)
theorem dX1_laysPotentials_15 : decode cX1_laysPotentials 15 = .ok (.ireturn, 1) := dk_172 (dk_at dksX1_laysPotentials_0 15 rfl rfl)
theorem dX1_laysPotentials_16 : decode cX1_laysPotentials 16 = .ok (.aload_n 0, 1) := dk_42 (dk_at dksX1_laysPotentials_0 16 rfl rfl)
theorem dX1_laysPotentials_17 : decode cX1_laysPotentials 17 = .ok (.getfield 156, 3) := dk_180 0 156 (dk_at dksX1_laysPotentials_0 17 rfl rfl)
theorem dX1_laysPotentials_20 : decode cX1_laysPotentials 20 = .ok (.aload_n 0, 1) := dk_42 (dk_at dksX1_laysPotentials_0 20 rfl rfl)
theorem dX1_laysPotentials_21 : decode cX1_laysPotentials 21 = .ok (.getfield 160, 3) := dk_180 0 160 (dk_at dksX1_laysPotentials_0 21 rfl rfl)
theorem dX1_laysPotentials_24 : decode cX1_laysPotentials 24 = .ok (.invokestatic 171, 3) := dk_184 0 171 (dk_at dksX1_laysPotentials_1 0 rfl rfl)
theorem dX1_laysPotentials_27 : decode cX1_laysPotentials 27 = .ok (.lstore_n 1, 1) := dk_64 (dk_at dksX1_laysPotentials_1 3 rfl rfl)
theorem dX1_laysPotentials_28 : decode cX1_laysPotentials 28 = .ok (.iconst 0, 1) := dk_3 (dk_at dksX1_laysPotentials_1 4 rfl rfl)
theorem dX1_laysPotentials_29 : decode cX1_laysPotentials 29 = .ok (.istore_n 3, 1) := dk_62 (dk_at dksX1_laysPotentials_1 5 rfl rfl)
theorem dX1_laysPotentials_30 : decode cX1_laysPotentials 30 = .ok (.iload_n 3, 1) := dk_29 (dk_at dksX1_laysPotentials_1 6 rfl rfl)
theorem dX1_laysPotentials_31 : decode cX1_laysPotentials 31 = .ok (.bipush 8, 2) := dk_16 8 (dk_at dksX1_laysPotentials_1 7 rfl rfl)
theorem dX1_laysPotentials_33 : decode cX1_laysPotentials 33 = .ok (.if_icmp .ge 16, 3) := dk_162 0 16 (dk_at dksX1_laysPotentials_1 9 rfl rfl)
theorem dX1_laysPotentials_36 : decode cX1_laysPotentials 36 = .ok (.aload_n 0, 1) := dk_42 (dk_at dksX1_laysPotentials_1 12 rfl rfl)
theorem dX1_laysPotentials_37 : decode cX1_laysPotentials 37 = .ok (.getfield 43, 3) := dk_180 0 43 (dk_at dksX1_laysPotentials_1 13 rfl rfl)
theorem dX1_laysPotentials_40 : decode cX1_laysPotentials 40 = .ok (.iload_n 3, 1) := dk_29 (dk_at dksX1_laysPotentials_1 16 rfl rfl)
theorem dX1_laysPotentials_41 : decode cX1_laysPotentials 41 = .ok (.lconst 0, 1) := dk_9 (dk_at dksX1_laysPotentials_1 17 rfl rfl)
theorem dX1_laysPotentials_42 : decode cX1_laysPotentials 42 = .ok (.lastore, 1) := dk_80 (dk_at dksX1_laysPotentials_1 18 rfl rfl)
theorem dX1_laysPotentials_43 : decode cX1_laysPotentials 43 = .ok (.iinc 3 1, 3) := dk_132 3 1 (dk_at dksX1_laysPotentials_1 19 rfl rfl)
theorem dX1_laysPotentials_46 : decode cX1_laysPotentials 46 = .ok (.goto (-16), 3) := dk_167 255 240 (dk_at dksX1_laysPotentials_2 0 rfl rfl)
theorem dX1_laysPotentials_49 : decode cX1_laysPotentials 49 = .ok (.aload_n 0, 1) := dk_42 (dk_at dksX1_laysPotentials_2 3 rfl rfl)
theorem dX1_laysPotentials_50 : decode cX1_laysPotentials 50 = .ok (.aload_n 0, 1) := dk_42 (dk_at dksX1_laysPotentials_2 4 rfl rfl)
theorem dX1_laysPotentials_51 : decode cX1_laysPotentials 51 = .ok (.getfield 160, 3) := dk_180 0 160 (dk_at dksX1_laysPotentials_2 5 rfl rfl)
theorem dX1_laysPotentials_54 : decode cX1_laysPotentials 54 = .ok (.lload_n 1, 1) := dk_31 (dk_at dksX1_laysPotentials_2 8 rfl rfl)
theorem dX1_laysPotentials_55 : decode cX1_laysPotentials 55 = .ok (.ldiv, 1) := dk_109 (dk_at dksX1_laysPotentials_2 9 rfl rfl)
theorem dX1_laysPotentials_56 : decode cX1_laysPotentials 56 = .ok (.lconst 0, 1) := dk_9 (dk_at dksX1_laysPotentials_2 10 rfl rfl)
theorem dX1_laysPotentials_57 : decode cX1_laysPotentials 57 = .ok (.aload_n 0, 1) := dk_42 (dk_at dksX1_laysPotentials_2 11 rfl rfl)
theorem dX1_laysPotentials_58 : decode cX1_laysPotentials 58 = .ok (.getfield 156, 3) := dk_180 0 156 (dk_at dksX1_laysPotentials_2 12 rfl rfl)
theorem dX1_laysPotentials_61 : decode cX1_laysPotentials 61 = .ok (.lneg, 1) := dk_117 (dk_at dksX1_laysPotentials_2 15 rfl rfl)
theorem dX1_laysPotentials_62 : decode cX1_laysPotentials 62 = .ok (.lload_n 1, 1) := dk_31 (dk_at dksX1_laysPotentials_2 16 rfl rfl)
theorem dX1_laysPotentials_63 : decode cX1_laysPotentials 63 = .ok (.ldiv, 1) := dk_109 (dk_at dksX1_laysPotentials_2 17 rfl rfl)
theorem dX1_laysPotentials_64 : decode cX1_laysPotentials 64 = .ok (.bipush 100, 2) := dk_16 100 (dk_at dksX1_laysPotentials_2 18 rfl rfl)
theorem dX1_laysPotentials_66 : decode cX1_laysPotentials 66 = .ok (.invokevirtual 213, 3) := dk_182 0 213 (dk_at dksX1_laysPotentials_2 20 rfl rfl)
theorem dX1_laysPotentials_69 : decode cX1_laysPotentials 69 = .ok (.ireturn, 1) := dk_172 (dk_at dksX1_laysPotentials_2 23 rfl rfl)
abbrev cX1_shortens : ByteArray := prog_20_method_45_code
def yX1_shortens : MethodName := ⟨RX1, "shortens", "(JJJI)Z"⟩
def dkwX1_shortens_5 : List UInt8 := [167, 255, 154, 21, 9, 154, 0, 5, 4, 172, 132, 8, 1, 167, 255, 128, 3, 172]
abbrev dktX1_shortens_5 : List UInt8 := dkwX1_shortens_5 ++ []
def dkwX1_shortens_4 : List UInt8 := [156, 0, 20, 42, 180, 0, 43, 42, 21, 10, 4, 182, 0, 80, 22, 13, 80, 4, 54, 9, 132, 10, 1]
abbrev dktX1_shortens_4 : List UInt8 := dkwX1_shortens_4 ++ dktX1_shortens_5
def dkwX1_shortens_3 : List UInt8 := [22, 11, 20, 0, 211, 148, 156, 0, 38, 22, 13, 42, 180, 0, 43, 42, 21, 10, 4, 182, 0, 80, 47, 148]
abbrev dktX1_shortens_3 : List UInt8 := dkwX1_shortens_3 ++ dktX1_shortens_4
def dkwX1_shortens_2 : List UInt8 := [5, 182, 0, 80, 133, 105, 97, 33, 42, 21, 10, 6, 182, 0, 80, 133, 105, 97, 22, 5, 97, 55, 13]
abbrev dktX1_shortens_2 : List UInt8 := dkwX1_shortens_2 ++ dktX1_shortens_3
def dkwX1_shortens_1 : List UInt8 := [46, 162, 0, 96, 42, 180, 0, 43, 42, 21, 10, 3, 182, 0, 80, 47, 55, 11, 22, 11, 31, 42, 21, 10]
abbrev dktX1_shortens_1 : List UInt8 := dkwX1_shortens_1 ++ dktX1_shortens_2
def dkwX1_shortens_0 : List UInt8 := [3, 54, 8, 21, 8, 21, 7, 162, 0, 127, 3, 54, 9, 3, 54, 10, 21, 10, 42, 180, 0, 7, 16, 112]
abbrev dktX1_shortens_0 : List UInt8 := dkwX1_shortens_0 ++ dktX1_shortens_1
theorem dksX1_shortens_0 : cX1_shortens.data.toList.drop 0 = dktX1_shortens_0 := by decide +kernel
theorem dksX1_shortens_1 : cX1_shortens.data.toList.drop 24 = dktX1_shortens_1 := dk_seg dksX1_shortens_0 24 rfl rfl
theorem dksX1_shortens_2 : cX1_shortens.data.toList.drop 48 = dktX1_shortens_2 := dk_seg dksX1_shortens_1 24 rfl rfl
theorem dksX1_shortens_3 : cX1_shortens.data.toList.drop 71 = dktX1_shortens_3 := dk_seg dksX1_shortens_2 23 rfl rfl
theorem dksX1_shortens_4 : cX1_shortens.data.toList.drop 95 = dktX1_shortens_4 := dk_seg dksX1_shortens_3 24 rfl rfl
theorem dksX1_shortens_5 : cX1_shortens.data.toList.drop 118 = dktX1_shortens_5 := dk_seg dksX1_shortens_4 23 rfl rfl
theorem dX1_shortens_0 : decode cX1_shortens 0 = .ok (.iconst 0, 1) := dk_3 (dk_at dksX1_shortens_0 0 rfl rfl)
theorem dX1_shortens_1 : decode cX1_shortens 1 = .ok (.istore 8, 2) := dk_54 8 (dk_at dksX1_shortens_0 1 rfl rfl)
theorem dX1_shortens_3 : decode cX1_shortens 3 = .ok (.iload 8, 2) := dk_21 8 (dk_at dksX1_shortens_0 3 rfl rfl)
theorem dX1_shortens_5 : decode cX1_shortens 5 = .ok (.iload 7, 2) := dk_21 7 (dk_at dksX1_shortens_0 5 rfl rfl)
theorem dX1_shortens_7 : decode cX1_shortens 7 = .ok (.if_icmp .ge 127, 3) := dk_162 0 127 (dk_at dksX1_shortens_0 7 rfl rfl)
theorem dX1_shortens_10 : decode cX1_shortens 10 = .ok (.iconst 0, 1) := dk_3 (dk_at dksX1_shortens_0 10 rfl rfl)
theorem dX1_shortens_11 : decode cX1_shortens 11 = .ok (.istore 9, 2) := dk_54 9 (dk_at dksX1_shortens_0 11 rfl rfl)
theorem dX1_shortens_13 : decode cX1_shortens 13 = .ok (.iconst 0, 1) := dk_3 (dk_at dksX1_shortens_0 13 rfl rfl)
theorem dX1_shortens_14 : decode cX1_shortens 14 = .ok (.istore 10, 2) := dk_54 10 (dk_at dksX1_shortens_0 14 rfl rfl)
theorem dX1_shortens_16 : decode cX1_shortens 16 = .ok (.iload 10, 2) := dk_21 10 (dk_at dksX1_shortens_0 16 rfl rfl)
theorem dX1_shortens_18 : decode cX1_shortens 18 = .ok (.aload_n 0, 1) := dk_42 (dk_at dksX1_shortens_0 18 rfl rfl)
theorem dX1_shortens_19 : decode cX1_shortens 19 = .ok (.getfield 7, 3) := dk_180 0 7 (dk_at dksX1_shortens_0 19 rfl rfl)
theorem dX1_shortens_22 : decode cX1_shortens 22 = .ok (.bipush 112, 2) := dk_16 112 (dk_at dksX1_shortens_0 22 rfl rfl)
theorem dX1_shortens_24 : decode cX1_shortens 24 = .ok (.iaload, 1) := dk_46 (dk_at dksX1_shortens_1 0 rfl rfl)
theorem dX1_shortens_25 : decode cX1_shortens 25 = .ok (.if_icmp .ge 96, 3) := dk_162 0 96 (dk_at dksX1_shortens_1 1 rfl rfl)
theorem dX1_shortens_28 : decode cX1_shortens 28 = .ok (.aload_n 0, 1) := dk_42 (dk_at dksX1_shortens_1 4 rfl rfl)
theorem dX1_shortens_29 : decode cX1_shortens 29 = .ok (.getfield 43, 3) := dk_180 0 43 (dk_at dksX1_shortens_1 5 rfl rfl)
theorem dX1_shortens_32 : decode cX1_shortens 32 = .ok (.aload_n 0, 1) := dk_42 (dk_at dksX1_shortens_1 8 rfl rfl)
theorem dX1_shortens_33 : decode cX1_shortens 33 = .ok (.iload 10, 2) := dk_21 10 (dk_at dksX1_shortens_1 9 rfl rfl)
theorem dX1_shortens_35 : decode cX1_shortens 35 = .ok (.iconst 0, 1) := dk_3 (dk_at dksX1_shortens_1 11 rfl rfl)
theorem dX1_shortens_36 : decode cX1_shortens 36 = .ok (.invokevirtual 80, 3) := dk_182 0 80 (dk_at dksX1_shortens_1 12 rfl rfl)
theorem dX1_shortens_39 : decode cX1_shortens 39 = .ok (.laload, 1) := dk_47 (dk_at dksX1_shortens_1 15 rfl rfl)
theorem dX1_shortens_40 : decode cX1_shortens 40 = .ok (.lstore 11, 2) := dk_55 11 (dk_at dksX1_shortens_1 16 rfl rfl)
theorem dX1_shortens_42 : decode cX1_shortens 42 = .ok (.lload 11, 2) := dk_22 11 (dk_at dksX1_shortens_1 18 rfl rfl)
theorem dX1_shortens_44 : decode cX1_shortens 44 = .ok (.lload_n 1, 1) := dk_31 (dk_at dksX1_shortens_1 20 rfl rfl)
theorem dX1_shortens_45 : decode cX1_shortens 45 = .ok (.aload_n 0, 1) := dk_42 (dk_at dksX1_shortens_1 21 rfl rfl)
theorem dX1_shortens_46 : decode cX1_shortens 46 = .ok (.iload 10, 2) := dk_21 10 (dk_at dksX1_shortens_1 22 rfl rfl)
theorem dX1_shortens_48 : decode cX1_shortens 48 = .ok (.iconst 2, 1) := dk_5 (dk_at dksX1_shortens_2 0 rfl rfl)
theorem dX1_shortens_49 : decode cX1_shortens 49 = .ok (.invokevirtual 80, 3) := dk_182 0 80 (dk_at dksX1_shortens_2 1 rfl rfl)
theorem dX1_shortens_52 : decode cX1_shortens 52 = .ok (.i2l, 1) := dk_133 (dk_at dksX1_shortens_2 4 rfl rfl)
theorem dX1_shortens_53 : decode cX1_shortens 53 = .ok (.lmul, 1) := dk_105 (dk_at dksX1_shortens_2 5 rfl rfl)
theorem dX1_shortens_54 : decode cX1_shortens 54 = .ok (.ladd, 1) := dk_97 (dk_at dksX1_shortens_2 6 rfl rfl)
theorem dX1_shortens_55 : decode cX1_shortens 55 = .ok (.lload_n 3, 1) := dk_33 (dk_at dksX1_shortens_2 7 rfl rfl)
theorem dX1_shortens_56 : decode cX1_shortens 56 = .ok (.aload_n 0, 1) := dk_42 (dk_at dksX1_shortens_2 8 rfl rfl)
theorem dX1_shortens_57 : decode cX1_shortens 57 = .ok (.iload 10, 2) := dk_21 10 (dk_at dksX1_shortens_2 9 rfl rfl)
theorem dX1_shortens_59 : decode cX1_shortens 59 = .ok (.iconst 3, 1) := dk_6 (dk_at dksX1_shortens_2 11 rfl rfl)
theorem dX1_shortens_60 : decode cX1_shortens 60 = .ok (.invokevirtual 80, 3) := dk_182 0 80 (dk_at dksX1_shortens_2 12 rfl rfl)
theorem dX1_shortens_63 : decode cX1_shortens 63 = .ok (.i2l, 1) := dk_133 (dk_at dksX1_shortens_2 15 rfl rfl)
theorem dX1_shortens_64 : decode cX1_shortens 64 = .ok (.lmul, 1) := dk_105 (dk_at dksX1_shortens_2 16 rfl rfl)
theorem dX1_shortens_65 : decode cX1_shortens 65 = .ok (.ladd, 1) := dk_97 (dk_at dksX1_shortens_2 17 rfl rfl)
theorem dX1_shortens_66 : decode cX1_shortens 66 = .ok (.lload 5, 2) := dk_22 5 (dk_at dksX1_shortens_2 18 rfl rfl)
theorem dX1_shortens_68 : decode cX1_shortens 68 = .ok (.ladd, 1) := dk_97 (dk_at dksX1_shortens_2 20 rfl rfl)
theorem dX1_shortens_69 : decode cX1_shortens 69 = .ok (.lstore 13, 2) := dk_55 13 (dk_at dksX1_shortens_2 21 rfl rfl)
theorem dX1_shortens_71 : decode cX1_shortens 71 = .ok (.lload 11, 2) := dk_22 11 (dk_at dksX1_shortens_3 0 rfl rfl)
theorem dX1_shortens_73 : decode cX1_shortens 73 = .ok (.ldc2_w 211, 3) := dk_20 0 211 (dk_at dksX1_shortens_3 2 rfl rfl)
theorem dX1_shortens_76 : decode cX1_shortens 76 = .ok (.lcmp, 1) := dk_148 (dk_at dksX1_shortens_3 5 rfl rfl)
theorem dX1_shortens_77 : decode cX1_shortens 77 = .ok (.ifCond .ge 38, 3) := dk_156 0 38 (dk_at dksX1_shortens_3 6 rfl rfl)
theorem dX1_shortens_80 : decode cX1_shortens 80 = .ok (.lload 13, 2) := dk_22 13 (dk_at dksX1_shortens_3 9 rfl rfl)
theorem dX1_shortens_82 : decode cX1_shortens 82 = .ok (.aload_n 0, 1) := dk_42 (dk_at dksX1_shortens_3 11 rfl rfl)
theorem dX1_shortens_83 : decode cX1_shortens 83 = .ok (.getfield 43, 3) := dk_180 0 43 (dk_at dksX1_shortens_3 12 rfl rfl)
theorem dX1_shortens_86 : decode cX1_shortens 86 = .ok (.aload_n 0, 1) := dk_42 (dk_at dksX1_shortens_3 15 rfl rfl)
theorem dX1_shortens_87 : decode cX1_shortens 87 = .ok (.iload 10, 2) := dk_21 10 (dk_at dksX1_shortens_3 16 rfl rfl)
theorem dX1_shortens_89 : decode cX1_shortens 89 = .ok (.iconst 1, 1) := dk_4 (dk_at dksX1_shortens_3 18 rfl rfl)
theorem dX1_shortens_90 : decode cX1_shortens 90 = .ok (.invokevirtual 80, 3) := dk_182 0 80 (dk_at dksX1_shortens_3 19 rfl rfl)
theorem dX1_shortens_93 : decode cX1_shortens 93 = .ok (.laload, 1) := dk_47 (dk_at dksX1_shortens_3 22 rfl rfl)
theorem dX1_shortens_94 : decode cX1_shortens 94 = .ok (.lcmp, 1) := dk_148 (dk_at dksX1_shortens_3 23 rfl rfl)
theorem dX1_shortens_95 : decode cX1_shortens 95 = .ok (.ifCond .ge 20, 3) := dk_156 0 20 (dk_at dksX1_shortens_4 0 rfl rfl)
theorem dX1_shortens_98 : decode cX1_shortens 98 = .ok (.aload_n 0, 1) := dk_42 (dk_at dksX1_shortens_4 3 rfl rfl)
theorem dX1_shortens_99 : decode cX1_shortens 99 = .ok (.getfield 43, 3) := dk_180 0 43 (dk_at dksX1_shortens_4 4 rfl rfl)
theorem dX1_shortens_102 : decode cX1_shortens 102 = .ok (.aload_n 0, 1) := dk_42 (dk_at dksX1_shortens_4 7 rfl rfl)
theorem dX1_shortens_103 : decode cX1_shortens 103 = .ok (.iload 10, 2) := dk_21 10 (dk_at dksX1_shortens_4 8 rfl rfl)
theorem dX1_shortens_105 : decode cX1_shortens 105 = .ok (.iconst 1, 1) := dk_4 (dk_at dksX1_shortens_4 10 rfl rfl)
theorem dX1_shortens_106 : decode cX1_shortens 106 = .ok (.invokevirtual 80, 3) := dk_182 0 80 (dk_at dksX1_shortens_4 11 rfl rfl)
theorem dX1_shortens_109 : decode cX1_shortens 109 = .ok (.lload 13, 2) := dk_22 13 (dk_at dksX1_shortens_4 14 rfl rfl)
theorem dX1_shortens_111 : decode cX1_shortens 111 = .ok (.lastore, 1) := dk_80 (dk_at dksX1_shortens_4 16 rfl rfl)
theorem dX1_shortens_112 : decode cX1_shortens 112 = .ok (.iconst 1, 1) := dk_4 (dk_at dksX1_shortens_4 17 rfl rfl)
theorem dX1_shortens_113 : decode cX1_shortens 113 = .ok (.istore 9, 2) := dk_54 9 (dk_at dksX1_shortens_4 18 rfl rfl)
theorem dX1_shortens_115 : decode cX1_shortens 115 = .ok (.iinc 10 1, 3) := dk_132 10 1 (dk_at dksX1_shortens_4 20 rfl rfl)
theorem dX1_shortens_118 : decode cX1_shortens 118 = .ok (.goto (-102), 3) := dk_167 255 154 (dk_at dksX1_shortens_5 0 rfl rfl)
theorem dX1_shortens_121 : decode cX1_shortens 121 = .ok (.iload 9, 2) := dk_21 9 (dk_at dksX1_shortens_5 3 rfl rfl)
theorem dX1_shortens_123 : decode cX1_shortens 123 = .ok (.ifCond .ne 5, 3) := dk_154 0 5 (dk_at dksX1_shortens_5 5 rfl rfl)
theorem dX1_shortens_126 : decode cX1_shortens 126 = .ok (.iconst 1, 1) := dk_4 (dk_at dksX1_shortens_5 8 rfl rfl)
theorem dX1_shortens_127 : decode cX1_shortens 127 = .ok (.ireturn, 1) := dk_172 (dk_at dksX1_shortens_5 9 rfl rfl)
theorem dX1_shortens_128 : decode cX1_shortens 128 = .ok (.iinc 8 1, 3) := dk_132 8 1 (dk_at dksX1_shortens_5 10 rfl rfl)
theorem dX1_shortens_131 : decode cX1_shortens 131 = .ok (.goto (-128), 3) := dk_167 255 128 (dk_at dksX1_shortens_5 13 rfl rfl)
theorem dX1_shortens_134 : decode cX1_shortens 134 = .ok (.iconst 0, 1) := dk_3 (dk_at dksX1_shortens_5 16 rfl rfl)
theorem dX1_shortens_135 : decode cX1_shortens 135 = .ok (.ireturn, 1) := dk_172 (dk_at dksX1_shortens_5 17 rfl rfl)
abbrev cX1_tight : ByteArray := prog_20_method_48_code
def yX1_tight : MethodName := ⟨RX1, "tight", "()I"⟩
def dkwX1_tight_5 : List UInt8 := [29, 172]
abbrev dktX1_tight_5 : List UInt8 := dkwX1_tight_5 ++ []
def dkwX1_tight_4 : List UInt8 := [54, 5, 29, 21, 5, 153, 0, 10, 4, 21, 4, 120, 167, 0, 4, 3, 128, 62, 132, 4, 1, 167, 255, 167]
abbrev dktX1_tight_4 : List UInt8 := dkwX1_tight_4 ++ dktX1_tight_5
def dkwX1_tight_3 : List UInt8 := [31, 109, 101, 42, 180, 0, 43, 42, 21, 4, 4, 182, 0, 80, 47, 148, 154, 0, 7, 4, 167, 0, 4, 3]
abbrev dktX1_tight_3 : List UInt8 := dkwX1_tight_3 ++ dktX1_tight_4
def dkwX1_tight_2 : List UInt8 := [182, 0, 80, 47, 42, 180, 0, 160, 31, 109, 42, 21, 4, 5, 182, 0, 80, 133, 105, 97, 42, 180, 0, 156]
abbrev dktX1_tight_2 : List UInt8 := dkwX1_tight_2 ++ dktX1_tight_3
def dkwX1_tight_1 : List UInt8 := [54, 4, 21, 4, 42, 180, 0, 7, 16, 112, 46, 162, 0, 83, 42, 180, 0, 43, 42, 21, 4, 3]
abbrev dktX1_tight_1 : List UInt8 := dkwX1_tight_1 ++ dktX1_tight_2
def dkwX1_tight_0 : List UInt8 := [42, 182, 0, 217, 154, 0, 5, 3, 172, 42, 180, 0, 156, 42, 180, 0, 160, 184, 0, 171, 64, 3, 62, 3]
abbrev dktX1_tight_0 : List UInt8 := dkwX1_tight_0 ++ dktX1_tight_1
theorem dksX1_tight_0 : cX1_tight.data.toList.drop 0 = dktX1_tight_0 := by decide +kernel
theorem dksX1_tight_1 : cX1_tight.data.toList.drop 24 = dktX1_tight_1 := dk_seg dksX1_tight_0 24 rfl rfl
theorem dksX1_tight_2 : cX1_tight.data.toList.drop 46 = dktX1_tight_2 := dk_seg dksX1_tight_1 22 rfl rfl
theorem dksX1_tight_3 : cX1_tight.data.toList.drop 70 = dktX1_tight_3 := dk_seg dksX1_tight_2 24 rfl rfl
theorem dksX1_tight_4 : cX1_tight.data.toList.drop 94 = dktX1_tight_4 := dk_seg dksX1_tight_3 24 rfl rfl
theorem dksX1_tight_5 : cX1_tight.data.toList.drop 118 = dktX1_tight_5 := dk_seg dksX1_tight_4 24 rfl rfl
theorem dX1_tight_0 : decode cX1_tight 0 = .ok (.aload_n 0, 1) := dk_42 (dk_at dksX1_tight_0 0 rfl rfl)
theorem dX1_tight_1 : decode cX1_tight 1 = .ok (.invokevirtual 217, 3) := dk_182 0 217 (dk_at dksX1_tight_0 1 rfl rfl)
theorem dX1_tight_4 : decode cX1_tight 4 = .ok (.ifCond .ne 5, 3) := dk_154 0 5 (dk_at dksX1_tight_0 4 rfl rfl)
theorem dX1_tight_7 : decode cX1_tight 7 = .ok (.iconst 0, 1) := dk_3 (dk_at dksX1_tight_0 7 rfl rfl)
theorem dX1_tight_8 : decode cX1_tight 8 = .ok (.ireturn, 1) := dk_172 (dk_at dksX1_tight_0 8 rfl rfl)
theorem dX1_tight_9 : decode cX1_tight 9 = .ok (.aload_n 0, 1) := dk_42 (dk_at dksX1_tight_0 9 rfl rfl)
theorem dX1_tight_10 : decode cX1_tight 10 = .ok (.getfield 156, 3) := dk_180 0 156 (dk_at dksX1_tight_0 10 rfl rfl)
theorem dX1_tight_13 : decode cX1_tight 13 = .ok (.aload_n 0, 1) := dk_42 (dk_at dksX1_tight_0 13 rfl rfl)
theorem dX1_tight_14 : decode cX1_tight 14 = .ok (.getfield 160, 3) := dk_180 0 160 (dk_at dksX1_tight_0 14 rfl rfl)
theorem dX1_tight_17 : decode cX1_tight 17 = .ok (.invokestatic 171, 3) := dk_184 0 171 (dk_at dksX1_tight_0 17 rfl rfl)
theorem dX1_tight_20 : decode cX1_tight 20 = .ok (.lstore_n 1, 1) := dk_64 (dk_at dksX1_tight_0 20 rfl rfl)
theorem dX1_tight_21 : decode cX1_tight 21 = .ok (.iconst 0, 1) := dk_3 (dk_at dksX1_tight_0 21 rfl rfl)
theorem dX1_tight_22 : decode cX1_tight 22 = .ok (.istore_n 3, 1) := dk_62 (dk_at dksX1_tight_0 22 rfl rfl)
theorem dX1_tight_23 : decode cX1_tight 23 = .ok (.iconst 0, 1) := dk_3 (dk_at dksX1_tight_0 23 rfl rfl)
theorem dX1_tight_24 : decode cX1_tight 24 = .ok (.istore 4, 2) := dk_54 4 (dk_at dksX1_tight_1 0 rfl rfl)
theorem dX1_tight_26 : decode cX1_tight 26 = .ok (.iload 4, 2) := dk_21 4 (dk_at dksX1_tight_1 2 rfl rfl)
theorem dX1_tight_28 : decode cX1_tight 28 = .ok (.aload_n 0, 1) := dk_42 (dk_at dksX1_tight_1 4 rfl rfl)
theorem dX1_tight_29 : decode cX1_tight 29 = .ok (.getfield 7, 3) := dk_180 0 7 (dk_at dksX1_tight_1 5 rfl rfl)
theorem dX1_tight_32 : decode cX1_tight 32 = .ok (.bipush 112, 2) := dk_16 112 (dk_at dksX1_tight_1 8 rfl rfl)
theorem dX1_tight_34 : decode cX1_tight 34 = .ok (.iaload, 1) := dk_46 (dk_at dksX1_tight_1 10 rfl rfl)
theorem dX1_tight_35 : decode cX1_tight 35 = .ok (.if_icmp .ge 83, 3) := dk_162 0 83 (dk_at dksX1_tight_1 11 rfl rfl)
theorem dX1_tight_38 : decode cX1_tight 38 = .ok (.aload_n 0, 1) := dk_42 (dk_at dksX1_tight_1 14 rfl rfl)
theorem dX1_tight_39 : decode cX1_tight 39 = .ok (.getfield 43, 3) := dk_180 0 43 (dk_at dksX1_tight_1 15 rfl rfl)
theorem dX1_tight_42 : decode cX1_tight 42 = .ok (.aload_n 0, 1) := dk_42 (dk_at dksX1_tight_1 18 rfl rfl)
theorem dX1_tight_43 : decode cX1_tight 43 = .ok (.iload 4, 2) := dk_21 4 (dk_at dksX1_tight_1 19 rfl rfl)
theorem dX1_tight_45 : decode cX1_tight 45 = .ok (.iconst 0, 1) := dk_3 (dk_at dksX1_tight_1 21 rfl rfl)
theorem dX1_tight_46 : decode cX1_tight 46 = .ok (.invokevirtual 80, 3) := dk_182 0 80 (dk_at dksX1_tight_2 0 rfl rfl)
theorem dX1_tight_49 : decode cX1_tight 49 = .ok (.laload, 1) := dk_47 (dk_at dksX1_tight_2 3 rfl rfl)
theorem dX1_tight_50 : decode cX1_tight 50 = .ok (.aload_n 0, 1) := dk_42 (dk_at dksX1_tight_2 4 rfl rfl)
theorem dX1_tight_51 : decode cX1_tight 51 = .ok (.getfield 160, 3) := dk_180 0 160 (dk_at dksX1_tight_2 5 rfl rfl)
theorem dX1_tight_54 : decode cX1_tight 54 = .ok (.lload_n 1, 1) := dk_31 (dk_at dksX1_tight_2 8 rfl rfl)
theorem dX1_tight_55 : decode cX1_tight 55 = .ok (.ldiv, 1) := dk_109 (dk_at dksX1_tight_2 9 rfl rfl)
theorem dX1_tight_56 : decode cX1_tight 56 = .ok (.aload_n 0, 1) := dk_42 (dk_at dksX1_tight_2 10 rfl rfl)
theorem dX1_tight_57 : decode cX1_tight 57 = .ok (.iload 4, 2) := dk_21 4 (dk_at dksX1_tight_2 11 rfl rfl)
theorem dX1_tight_59 : decode cX1_tight 59 = .ok (.iconst 2, 1) := dk_5 (dk_at dksX1_tight_2 13 rfl rfl)
theorem dX1_tight_60 : decode cX1_tight 60 = .ok (.invokevirtual 80, 3) := dk_182 0 80 (dk_at dksX1_tight_2 14 rfl rfl)
theorem dX1_tight_63 : decode cX1_tight 63 = .ok (.i2l, 1) := dk_133 (dk_at dksX1_tight_2 17 rfl rfl)
theorem dX1_tight_64 : decode cX1_tight 64 = .ok (.lmul, 1) := dk_105 (dk_at dksX1_tight_2 18 rfl rfl)
theorem dX1_tight_65 : decode cX1_tight 65 = .ok (.ladd, 1) := dk_97 (dk_at dksX1_tight_2 19 rfl rfl)
theorem dX1_tight_66 : decode cX1_tight 66 = .ok (.aload_n 0, 1) := dk_42 (dk_at dksX1_tight_2 20 rfl rfl)
theorem dX1_tight_67 : decode cX1_tight 67 = .ok (.getfield 156, 3) := dk_180 0 156 (dk_at dksX1_tight_2 21 rfl rfl)
theorem dX1_tight_70 : decode cX1_tight 70 = .ok (.lload_n 1, 1) := dk_31 (dk_at dksX1_tight_3 0 rfl rfl)
theorem dX1_tight_71 : decode cX1_tight 71 = .ok (.ldiv, 1) := dk_109 (dk_at dksX1_tight_3 1 rfl rfl)
theorem dX1_tight_72 : decode cX1_tight 72 = .ok (.lsub, 1) := dk_101 (dk_at dksX1_tight_3 2 rfl rfl)
theorem dX1_tight_73 : decode cX1_tight 73 = .ok (.aload_n 0, 1) := dk_42 (dk_at dksX1_tight_3 3 rfl rfl)
theorem dX1_tight_74 : decode cX1_tight 74 = .ok (.getfield 43, 3) := dk_180 0 43 (dk_at dksX1_tight_3 4 rfl rfl)
theorem dX1_tight_77 : decode cX1_tight 77 = .ok (.aload_n 0, 1) := dk_42 (dk_at dksX1_tight_3 7 rfl rfl)
theorem dX1_tight_78 : decode cX1_tight 78 = .ok (.iload 4, 2) := dk_21 4 (dk_at dksX1_tight_3 8 rfl rfl)
theorem dX1_tight_80 : decode cX1_tight 80 = .ok (.iconst 1, 1) := dk_4 (dk_at dksX1_tight_3 10 rfl rfl)
theorem dX1_tight_81 : decode cX1_tight 81 = .ok (.invokevirtual 80, 3) := dk_182 0 80 (dk_at dksX1_tight_3 11 rfl rfl)
theorem dX1_tight_84 : decode cX1_tight 84 = .ok (.laload, 1) := dk_47 (dk_at dksX1_tight_3 14 rfl rfl)
theorem dX1_tight_85 : decode cX1_tight 85 = .ok (.lcmp, 1) := dk_148 (dk_at dksX1_tight_3 15 rfl rfl)
theorem dX1_tight_86 : decode cX1_tight 86 = .ok (.ifCond .ne 7, 3) := dk_154 0 7 (dk_at dksX1_tight_3 16 rfl rfl)
theorem dX1_tight_89 : decode cX1_tight 89 = .ok (.iconst 1, 1) := dk_4 (dk_at dksX1_tight_3 19 rfl rfl)
theorem dX1_tight_90 : decode cX1_tight 90 = .ok (.goto 4, 3) := dk_167 0 4 (dk_at dksX1_tight_3 20 rfl rfl)
theorem dX1_tight_93 : decode cX1_tight 93 = .ok (.iconst 0, 1) := dk_3 (dk_at dksX1_tight_3 23 rfl rfl)
theorem dX1_tight_94 : decode cX1_tight 94 = .ok (.istore 5, 2) := dk_54 5 (dk_at dksX1_tight_4 0 rfl rfl)
theorem dX1_tight_96 : decode cX1_tight 96 = .ok (.iload_n 3, 1) := dk_29 (dk_at dksX1_tight_4 2 rfl rfl)
theorem dX1_tight_97 : decode cX1_tight 97 = .ok (.iload 5, 2) := dk_21 5 (dk_at dksX1_tight_4 3 rfl rfl)
theorem dX1_tight_99 : decode cX1_tight 99 = .ok (.ifCond .eq 10, 3) := dk_153 0 10 (dk_at dksX1_tight_4 5 rfl rfl)
theorem dX1_tight_102 : decode cX1_tight 102 = .ok (.iconst 1, 1) := dk_4 (dk_at dksX1_tight_4 8 rfl rfl)
theorem dX1_tight_103 : decode cX1_tight 103 = .ok (.iload 4, 2) := dk_21 4 (dk_at dksX1_tight_4 9 rfl rfl)
theorem dX1_tight_105 : decode cX1_tight 105 = .ok (.ishl, 1) := dk_120 (dk_at dksX1_tight_4 11 rfl rfl)
theorem dX1_tight_106 : decode cX1_tight 106 = .ok (.goto 4, 3) := dk_167 0 4 (dk_at dksX1_tight_4 12 rfl rfl)
theorem dX1_tight_109 : decode cX1_tight 109 = .ok (.iconst 0, 1) := dk_3 (dk_at dksX1_tight_4 15 rfl rfl)
theorem dX1_tight_110 : decode cX1_tight 110 = .ok (.ior, 1) := dk_128 (dk_at dksX1_tight_4 16 rfl rfl)
theorem dX1_tight_111 : decode cX1_tight 111 = .ok (.istore_n 3, 1) := dk_62 (dk_at dksX1_tight_4 17 rfl rfl)
theorem dX1_tight_112 : decode cX1_tight 112 = .ok (.iinc 4 1, 3) := dk_132 4 1 (dk_at dksX1_tight_4 18 rfl rfl)
theorem dX1_tight_115 : decode cX1_tight 115 = .ok (.goto (-89), 3) := dk_167 255 167 (dk_at dksX1_tight_4 21 rfl rfl)
theorem dX1_tight_118 : decode cX1_tight 118 = .ok (.iload_n 3, 1) := dk_29 (dk_at dksX1_tight_5 0 rfl rfl)
theorem dX1_tight_119 : decode cX1_tight 119 = .ok (.ireturn, 1) := dk_172 (dk_at dksX1_tight_5 1 rfl rfl)
abbrev cX1_mark : ByteArray := prog_20_method_49_code
def yX1_mark : MethodName := ⟨RX1, "mark", "(II)I"⟩
def dkwX1_mark_1 : List UInt8 := [42, 180, 0, 16, 27, 46, 62, 42, 180, 0, 16, 27, 28, 79, 29, 172]
abbrev dktX1_mark_1 : List UInt8 := dkwX1_mark_1 ++ []
def dkwX1_mark_0 : List UInt8 := [27, 184, 0, 64, 153, 0, 17, 28, 133, 20, 0, 222, 20, 0, 224, 184, 0, 48, 154, 0, 6, 18, 72, 172]
abbrev dktX1_mark_0 : List UInt8 := dkwX1_mark_0 ++ dktX1_mark_1
theorem dksX1_mark_0 : cX1_mark.data.toList.drop 0 = dktX1_mark_0 := by decide +kernel
theorem dksX1_mark_1 : cX1_mark.data.toList.drop 24 = dktX1_mark_1 := dk_seg dksX1_mark_0 24 rfl rfl
theorem dX1_mark_0 : decode cX1_mark 0 = .ok (.iload_n 1, 1) := dk_27 (dk_at dksX1_mark_0 0 rfl rfl)
theorem dX1_mark_1 : decode cX1_mark 1 = .ok (.invokestatic 64, 3) := dk_184 0 64 (dk_at dksX1_mark_0 1 rfl rfl)
theorem dX1_mark_4 : decode cX1_mark 4 = .ok (.ifCond .eq 17, 3) := dk_153 0 17 (dk_at dksX1_mark_0 4 rfl rfl)
theorem dX1_mark_7 : decode cX1_mark 7 = .ok (.iload_n 2, 1) := dk_28 (dk_at dksX1_mark_0 7 rfl rfl)
theorem dX1_mark_8 : decode cX1_mark 8 = .ok (.i2l, 1) := dk_133 (dk_at dksX1_mark_0 8 rfl rfl)
theorem dX1_mark_9 : decode cX1_mark 9 = .ok (.ldc2_w 222, 3) := dk_20 0 222 (dk_at dksX1_mark_0 9 rfl rfl)
theorem dX1_mark_12 : decode cX1_mark 12 = .ok (.ldc2_w 224, 3) := dk_20 0 224 (dk_at dksX1_mark_0 12 rfl rfl)
theorem dX1_mark_15 : decode cX1_mark 15 = .ok (.invokestatic 48, 3) := dk_184 0 48 (dk_at dksX1_mark_0 15 rfl rfl)
theorem dX1_mark_18 : decode cX1_mark 18 = .ok (.ifCond .ne 6, 3) := dk_154 0 6 (dk_at dksX1_mark_0 18 rfl rfl)
theorem dX1_mark_21 : decode cX1_mark 21 = .ok (.ldc 72, 2) := dk_18 72 (dk_at dksX1_mark_0 21 rfl rfl)
theorem dX1_mark_23 : decode cX1_mark 23 = .ok (.ireturn, 1) := dk_172 (dk_at dksX1_mark_0 23 rfl rfl)
theorem dX1_mark_24 : decode cX1_mark 24 = .ok (.aload_n 0, 1) := dk_42 (dk_at dksX1_mark_1 0 rfl rfl)
theorem dX1_mark_25 : decode cX1_mark 25 = .ok (.getfield 16, 3) := dk_180 0 16 (dk_at dksX1_mark_1 1 rfl rfl)
theorem dX1_mark_28 : decode cX1_mark 28 = .ok (.iload_n 1, 1) := dk_27 (dk_at dksX1_mark_1 4 rfl rfl)
theorem dX1_mark_29 : decode cX1_mark 29 = .ok (.iaload, 1) := dk_46 (dk_at dksX1_mark_1 5 rfl rfl)
theorem dX1_mark_30 : decode cX1_mark 30 = .ok (.istore_n 3, 1) := dk_62 (dk_at dksX1_mark_1 6 rfl rfl)
theorem dX1_mark_31 : decode cX1_mark 31 = .ok (.aload_n 0, 1) := dk_42 (dk_at dksX1_mark_1 7 rfl rfl)
theorem dX1_mark_32 : decode cX1_mark 32 = .ok (.getfield 16, 3) := dk_180 0 16 (dk_at dksX1_mark_1 8 rfl rfl)
theorem dX1_mark_35 : decode cX1_mark 35 = .ok (.iload_n 1, 1) := dk_27 (dk_at dksX1_mark_1 11 rfl rfl)
theorem dX1_mark_36 : decode cX1_mark 36 = .ok (.iload_n 2, 1) := dk_28 (dk_at dksX1_mark_1 12 rfl rfl)
theorem dX1_mark_37 : decode cX1_mark 37 = .ok (.iastore, 1) := dk_79 (dk_at dksX1_mark_1 13 rfl rfl)
theorem dX1_mark_38 : decode cX1_mark 38 = .ok (.iload_n 3, 1) := dk_29 (dk_at dksX1_mark_1 14 rfl rfl)
theorem dX1_mark_39 : decode cX1_mark 39 = .ok (.ireturn, 1) := dk_172 (dk_at dksX1_mark_1 15 rfl rfl)
abbrev cX1_disproof : ByteArray := prog_20_method_50_code
def yX1_disproof : MethodName := ⟨RX1, "disproof", "(II)I"⟩
def dkwX1_disproof_3 : List UInt8 := [182, 0, 80, 46, 162, 0, 5, 29, 172, 132, 3, 1, 167, 255, 204, 2, 172]
abbrev dktX1_disproof_3 : List UInt8 := dkwX1_disproof_3 ++ []
def dkwX1_disproof_2 : List UInt8 := [29, 3, 182, 0, 80, 46, 28, 42, 29, 5, 182, 0, 80, 104, 96, 27, 100, 42, 180, 0, 16, 42, 29, 4]
abbrev dktX1_disproof_2 : List UInt8 := dkwX1_disproof_2 ++ dktX1_disproof_3
def dkwX1_disproof_1 : List UInt8 := [154, 0, 6, 18, 72, 172, 3, 62, 29, 42, 180, 0, 7, 16, 112, 46, 162, 0, 47, 42, 180, 0, 16, 42]
abbrev dktX1_disproof_1 : List UInt8 := dkwX1_disproof_1 ++ dktX1_disproof_2
def dkwX1_disproof_0 : List UInt8 := [27, 133, 20, 0, 226, 20, 0, 228, 184, 0, 48, 153, 0, 15, 28, 133, 10, 20, 0, 54, 184, 0, 48]
abbrev dktX1_disproof_0 : List UInt8 := dkwX1_disproof_0 ++ dktX1_disproof_1
theorem dksX1_disproof_0 : cX1_disproof.data.toList.drop 0 = dktX1_disproof_0 := by decide +kernel
theorem dksX1_disproof_1 : cX1_disproof.data.toList.drop 23 = dktX1_disproof_1 := dk_seg dksX1_disproof_0 23 rfl rfl
theorem dksX1_disproof_2 : cX1_disproof.data.toList.drop 47 = dktX1_disproof_2 := dk_seg dksX1_disproof_1 24 rfl rfl
theorem dksX1_disproof_3 : cX1_disproof.data.toList.drop 71 = dktX1_disproof_3 := dk_seg dksX1_disproof_2 24 rfl rfl
theorem dX1_disproof_0 : decode cX1_disproof 0 = .ok (.iload_n 1, 1) := dk_27 (dk_at dksX1_disproof_0 0 rfl rfl)
theorem dX1_disproof_1 : decode cX1_disproof 1 = .ok (.i2l, 1) := dk_133 (dk_at dksX1_disproof_0 1 rfl rfl)
theorem dX1_disproof_2 : decode cX1_disproof 2 = .ok (.ldc2_w 226, 3) := dk_20 0 226 (dk_at dksX1_disproof_0 2 rfl rfl)
theorem dX1_disproof_5 : decode cX1_disproof 5 = .ok (.ldc2_w 228, 3) := dk_20 0 228 (dk_at dksX1_disproof_0 5 rfl rfl)
theorem dX1_disproof_8 : decode cX1_disproof 8 = .ok (.invokestatic 48, 3) := dk_184 0 48 (dk_at dksX1_disproof_0 8 rfl rfl)
theorem dX1_disproof_11 : decode cX1_disproof 11 = .ok (.ifCond .eq 15, 3) := dk_153 0 15 (dk_at dksX1_disproof_0 11 rfl rfl)
theorem dX1_disproof_14 : decode cX1_disproof 14 = .ok (.iload_n 2, 1) := dk_28 (dk_at dksX1_disproof_0 14 rfl rfl)
theorem dX1_disproof_15 : decode cX1_disproof 15 = .ok (.i2l, 1) := dk_133 (dk_at dksX1_disproof_0 15 rfl rfl)
theorem dX1_disproof_16 : decode cX1_disproof 16 = .ok (.lconst 1, 1) := dk_10 (dk_at dksX1_disproof_0 16 rfl rfl)
theorem dX1_disproof_17 : decode cX1_disproof 17 = .ok (.ldc2_w 54, 3) := dk_20 0 54 (dk_at dksX1_disproof_0 17 rfl rfl)
theorem dX1_disproof_20 : decode cX1_disproof 20 = .ok (.invokestatic 48, 3) := dk_184 0 48 (dk_at dksX1_disproof_0 20 rfl rfl)
theorem dX1_disproof_23 : decode cX1_disproof 23 = .ok (.ifCond .ne 6, 3) := dk_154 0 6 (dk_at dksX1_disproof_1 0 rfl rfl)
theorem dX1_disproof_26 : decode cX1_disproof 26 = .ok (.ldc 72, 2) := dk_18 72 (dk_at dksX1_disproof_1 3 rfl rfl)
theorem dX1_disproof_28 : decode cX1_disproof 28 = .ok (.ireturn, 1) := dk_172 (dk_at dksX1_disproof_1 5 rfl rfl)
theorem dX1_disproof_29 : decode cX1_disproof 29 = .ok (.iconst 0, 1) := dk_3 (dk_at dksX1_disproof_1 6 rfl rfl)
theorem dX1_disproof_30 : decode cX1_disproof 30 = .ok (.istore_n 3, 1) := dk_62 (dk_at dksX1_disproof_1 7 rfl rfl)
theorem dX1_disproof_31 : decode cX1_disproof 31 = .ok (.iload_n 3, 1) := dk_29 (dk_at dksX1_disproof_1 8 rfl rfl)
theorem dX1_disproof_32 : decode cX1_disproof 32 = .ok (.aload_n 0, 1) := dk_42 (dk_at dksX1_disproof_1 9 rfl rfl)
theorem dX1_disproof_33 : decode cX1_disproof 33 = .ok (.getfield 7, 3) := dk_180 0 7 (dk_at dksX1_disproof_1 10 rfl rfl)
theorem dX1_disproof_36 : decode cX1_disproof 36 = .ok (.bipush 112, 2) := dk_16 112 (dk_at dksX1_disproof_1 13 rfl rfl)
theorem dX1_disproof_38 : decode cX1_disproof 38 = .ok (.iaload, 1) := dk_46 (dk_at dksX1_disproof_1 15 rfl rfl)
theorem dX1_disproof_39 : decode cX1_disproof 39 = .ok (.if_icmp .ge 47, 3) := dk_162 0 47 (dk_at dksX1_disproof_1 16 rfl rfl)
theorem dX1_disproof_42 : decode cX1_disproof 42 = .ok (.aload_n 0, 1) := dk_42 (dk_at dksX1_disproof_1 19 rfl rfl)
theorem dX1_disproof_43 : decode cX1_disproof 43 = .ok (.getfield 16, 3) := dk_180 0 16 (dk_at dksX1_disproof_1 20 rfl rfl)
theorem dX1_disproof_46 : decode cX1_disproof 46 = .ok (.aload_n 0, 1) := dk_42 (dk_at dksX1_disproof_1 23 rfl rfl)
theorem dX1_disproof_47 : decode cX1_disproof 47 = .ok (.iload_n 3, 1) := dk_29 (dk_at dksX1_disproof_2 0 rfl rfl)
theorem dX1_disproof_48 : decode cX1_disproof 48 = .ok (.iconst 0, 1) := dk_3 (dk_at dksX1_disproof_2 1 rfl rfl)
theorem dX1_disproof_49 : decode cX1_disproof 49 = .ok (.invokevirtual 80, 3) := dk_182 0 80 (dk_at dksX1_disproof_2 2 rfl rfl)
theorem dX1_disproof_52 : decode cX1_disproof 52 = .ok (.iaload, 1) := dk_46 (dk_at dksX1_disproof_2 5 rfl rfl)
theorem dX1_disproof_53 : decode cX1_disproof 53 = .ok (.iload_n 2, 1) := dk_28 (dk_at dksX1_disproof_2 6 rfl rfl)
theorem dX1_disproof_54 : decode cX1_disproof 54 = .ok (.aload_n 0, 1) := dk_42 (dk_at dksX1_disproof_2 7 rfl rfl)
theorem dX1_disproof_55 : decode cX1_disproof 55 = .ok (.iload_n 3, 1) := dk_29 (dk_at dksX1_disproof_2 8 rfl rfl)
theorem dX1_disproof_56 : decode cX1_disproof 56 = .ok (.iconst 2, 1) := dk_5 (dk_at dksX1_disproof_2 9 rfl rfl)
theorem dX1_disproof_57 : decode cX1_disproof 57 = .ok (.invokevirtual 80, 3) := dk_182 0 80 (dk_at dksX1_disproof_2 10 rfl rfl)
theorem dX1_disproof_60 : decode cX1_disproof 60 = .ok (.imul, 1) := dk_104 (dk_at dksX1_disproof_2 13 rfl rfl)
theorem dX1_disproof_61 : decode cX1_disproof 61 = .ok (.iadd, 1) := dk_96 (dk_at dksX1_disproof_2 14 rfl rfl)
theorem dX1_disproof_62 : decode cX1_disproof 62 = .ok (.iload_n 1, 1) := dk_27 (dk_at dksX1_disproof_2 15 rfl rfl)
theorem dX1_disproof_63 : decode cX1_disproof 63 = .ok (.isub, 1) := dk_100 (dk_at dksX1_disproof_2 16 rfl rfl)
theorem dX1_disproof_64 : decode cX1_disproof 64 = .ok (.aload_n 0, 1) := dk_42 (dk_at dksX1_disproof_2 17 rfl rfl)
theorem dX1_disproof_65 : decode cX1_disproof 65 = .ok (.getfield 16, 3) := dk_180 0 16 (dk_at dksX1_disproof_2 18 rfl rfl)
theorem dX1_disproof_68 : decode cX1_disproof 68 = .ok (.aload_n 0, 1) := dk_42 (dk_at dksX1_disproof_2 21 rfl rfl)
theorem dX1_disproof_69 : decode cX1_disproof 69 = .ok (.iload_n 3, 1) := dk_29 (dk_at dksX1_disproof_2 22 rfl rfl)
theorem dX1_disproof_70 : decode cX1_disproof 70 = .ok (.iconst 1, 1) := dk_4 (dk_at dksX1_disproof_2 23 rfl rfl)
theorem dX1_disproof_71 : decode cX1_disproof 71 = .ok (.invokevirtual 80, 3) := dk_182 0 80 (dk_at dksX1_disproof_3 0 rfl rfl)
theorem dX1_disproof_74 : decode cX1_disproof 74 = .ok (.iaload, 1) := dk_46 (dk_at dksX1_disproof_3 3 rfl rfl)
theorem dX1_disproof_75 : decode cX1_disproof 75 = .ok (.if_icmp .ge 5, 3) := dk_162 0 5 (dk_at dksX1_disproof_3 4 rfl rfl)
theorem dX1_disproof_78 : decode cX1_disproof 78 = .ok (.iload_n 3, 1) := dk_29 (dk_at dksX1_disproof_3 7 rfl rfl)
theorem dX1_disproof_79 : decode cX1_disproof 79 = .ok (.ireturn, 1) := dk_172 (dk_at dksX1_disproof_3 8 rfl rfl)
theorem dX1_disproof_80 : decode cX1_disproof 80 = .ok (.iinc 3 1, 3) := dk_132 3 1 (dk_at dksX1_disproof_3 9 rfl rfl)
theorem dX1_disproof_83 : decode cX1_disproof 83 = .ok (.goto (-52), 3) := dk_167 255 204 (dk_at dksX1_disproof_3 12 rfl rfl)
theorem dX1_disproof_86 : decode cX1_disproof 86 = .ok (.iconst (-1), 1) := dk_2 (dk_at dksX1_disproof_3 15 rfl rfl)
theorem dX1_disproof_87 : decode cX1_disproof 87 = .ok (.ireturn, 1) := dk_172 (dk_at dksX1_disproof_3 16 rfl rfl)
abbrev cX1_length : ByteArray := prog_20_method_54_code
def yX1_length : MethodName := ⟨RX1, "length", "(IIII)J"⟩
def dkwX1_length_6 : List UInt8 := [22, 5, 20, 0, 211, 148, 154, 0, 9, 20, 0, 220, 167, 0, 5, 22, 5, 173]
abbrev dktX1_length_6 : List UInt8 := dkwX1_length_6 ++ []
def dkwX1_length_5 : List UInt8 := [148, 156, 0, 8, 22, 8, 167, 0, 5, 22, 5, 55, 5, 42, 3, 182, 0, 184, 54, 7, 167, 255, 207]
abbrev dktX1_length_5 : List UInt8 := dkwX1_length_5 ++ dktX1_length_6
def dkwX1_length_4 : List UInt8 := [21, 4, 133, 42, 5, 182, 0, 196, 105, 29, 133, 42, 6, 182, 0, 196, 105, 97, 55, 8, 22, 8, 22, 5]
abbrev dktX1_length_4 : List UInt8 := dkwX1_length_4 ++ dktX1_length_5
def dkwX1_length_3 : List UInt8 := [20, 0, 211, 55, 5, 42, 27, 28, 182, 0, 180, 42, 4, 182, 0, 184, 54, 7, 21, 7, 153, 0, 50]
abbrev dktX1_length_3 : List UInt8 := dkwX1_length_3 ++ dktX1_length_4
def dkwX1_length_2 : List UInt8 := [27, 28, 29, 133, 21, 4, 133, 182, 0, 241, 153, 0, 7, 20, 0, 245, 173, 27, 28, 160, 0, 5, 9, 173]
abbrev dktX1_length_2 : List UInt8 := dkwX1_length_2 ++ dktX1_length_3
def dkwX1_length_1 : List UInt8 := [184, 0, 48, 153, 0, 16, 21, 4, 133, 10, 20, 0, 54, 184, 0, 48, 154, 0, 7, 20, 0, 207, 173, 42]
abbrev dktX1_length_1 : List UInt8 := dkwX1_length_1 ++ dktX1_length_2
def dkwX1_length_0 : List UInt8 := [27, 184, 0, 64, 153, 0, 37, 28, 184, 0, 64, 153, 0, 30, 29, 133, 20, 0, 237, 20, 0, 239]
abbrev dktX1_length_0 : List UInt8 := dkwX1_length_0 ++ dktX1_length_1
theorem dksX1_length_0 : cX1_length.data.toList.drop 0 = dktX1_length_0 := by decide +kernel
theorem dksX1_length_1 : cX1_length.data.toList.drop 22 = dktX1_length_1 := dk_seg dksX1_length_0 22 rfl rfl
theorem dksX1_length_2 : cX1_length.data.toList.drop 46 = dktX1_length_2 := dk_seg dksX1_length_1 24 rfl rfl
theorem dksX1_length_3 : cX1_length.data.toList.drop 70 = dktX1_length_3 := dk_seg dksX1_length_2 24 rfl rfl
theorem dksX1_length_4 : cX1_length.data.toList.drop 93 = dktX1_length_4 := dk_seg dksX1_length_3 23 rfl rfl
theorem dksX1_length_5 : cX1_length.data.toList.drop 117 = dktX1_length_5 := dk_seg dksX1_length_4 24 rfl rfl
theorem dksX1_length_6 : cX1_length.data.toList.drop 140 = dktX1_length_6 := dk_seg dksX1_length_5 23 rfl rfl
theorem dX1_length_0 : decode cX1_length 0 = .ok (.iload_n 1, 1) := dk_27 (dk_at dksX1_length_0 0 rfl rfl)
theorem dX1_length_1 : decode cX1_length 1 = .ok (.invokestatic 64, 3) := dk_184 0 64 (dk_at dksX1_length_0 1 rfl rfl)
theorem dX1_length_4 : decode cX1_length 4 = .ok (.ifCond .eq 37, 3) := dk_153 0 37 (dk_at dksX1_length_0 4 rfl rfl)
theorem dX1_length_7 : decode cX1_length 7 = .ok (.iload_n 2, 1) := dk_28 (dk_at dksX1_length_0 7 rfl rfl)
theorem dX1_length_8 : decode cX1_length 8 = .ok (.invokestatic 64, 3) := dk_184 0 64 (dk_at dksX1_length_0 8 rfl rfl)
theorem dX1_length_11 : decode cX1_length 11 = .ok (.ifCond .eq 30, 3) := dk_153 0 30 (dk_at dksX1_length_0 11 rfl rfl)
theorem dX1_length_14 : decode cX1_length 14 = .ok (.iload_n 3, 1) := dk_29 (dk_at dksX1_length_0 14 rfl rfl)
theorem dX1_length_15 : decode cX1_length 15 = .ok (.i2l, 1) := dk_133 (dk_at dksX1_length_0 15 rfl rfl)
theorem dX1_length_16 : decode cX1_length 16 = .ok (.ldc2_w 237, 3) := dk_20 0 237 (dk_at dksX1_length_0 16 rfl rfl)
theorem dX1_length_19 : decode cX1_length 19 = .ok (.ldc2_w 239, 3) := dk_20 0 239 (dk_at dksX1_length_0 19 rfl rfl)
theorem dX1_length_22 : decode cX1_length 22 = .ok (.invokestatic 48, 3) := dk_184 0 48 (dk_at dksX1_length_1 0 rfl rfl)
theorem dX1_length_25 : decode cX1_length 25 = .ok (.ifCond .eq 16, 3) := dk_153 0 16 (dk_at dksX1_length_1 3 rfl rfl)
theorem dX1_length_28 : decode cX1_length 28 = .ok (.iload 4, 2) := dk_21 4 (dk_at dksX1_length_1 6 rfl rfl)
theorem dX1_length_30 : decode cX1_length 30 = .ok (.i2l, 1) := dk_133 (dk_at dksX1_length_1 8 rfl rfl)
theorem dX1_length_31 : decode cX1_length 31 = .ok (.lconst 1, 1) := dk_10 (dk_at dksX1_length_1 9 rfl rfl)
theorem dX1_length_32 : decode cX1_length 32 = .ok (.ldc2_w 54, 3) := dk_20 0 54 (dk_at dksX1_length_1 10 rfl rfl)
theorem dX1_length_35 : decode cX1_length 35 = .ok (.invokestatic 48, 3) := dk_184 0 48 (dk_at dksX1_length_1 13 rfl rfl)
theorem dX1_length_38 : decode cX1_length 38 = .ok (.ifCond .ne 7, 3) := dk_154 0 7 (dk_at dksX1_length_1 16 rfl rfl)
theorem dX1_length_41 : decode cX1_length 41 = .ok (.ldc2_w 207, 3) := dk_20 0 207 (dk_at dksX1_length_1 19 rfl rfl)
theorem dX1_length_44 : decode cX1_length 44 = .ok (.lreturn, 1) := dk_173 (dk_at dksX1_length_1 22 rfl rfl)
theorem dX1_length_45 : decode cX1_length 45 = .ok (.aload_n 0, 1) := dk_42 (dk_at dksX1_length_1 23 rfl rfl)
theorem dX1_length_46 : decode cX1_length 46 = .ok (.iload_n 1, 1) := dk_27 (dk_at dksX1_length_2 0 rfl rfl)
theorem dX1_length_47 : decode cX1_length 47 = .ok (.iload_n 2, 1) := dk_28 (dk_at dksX1_length_2 1 rfl rfl)
theorem dX1_length_48 : decode cX1_length 48 = .ok (.iload_n 3, 1) := dk_29 (dk_at dksX1_length_2 2 rfl rfl)
theorem dX1_length_49 : decode cX1_length 49 = .ok (.i2l, 1) := dk_133 (dk_at dksX1_length_2 3 rfl rfl)
theorem dX1_length_50 : decode cX1_length 50 = .ok (.iload 4, 2) := dk_21 4 (dk_at dksX1_length_2 4 rfl rfl)
theorem dX1_length_52 : decode cX1_length 52 = .ok (.i2l, 1) := dk_133 (dk_at dksX1_length_2 6 rfl rfl)
theorem dX1_length_53 : decode cX1_length 53 = .ok (.invokevirtual 241, 3) := dk_182 0 241 (dk_at dksX1_length_2 7 rfl rfl)
theorem dX1_length_56 : decode cX1_length 56 = .ok (.ifCond .eq 7, 3) := dk_153 0 7 (dk_at dksX1_length_2 10 rfl rfl)
theorem dX1_length_59 : decode cX1_length 59 = .ok (.ldc2_w 245, 3) := dk_20 0 245 (dk_at dksX1_length_2 13 rfl rfl)
theorem dX1_length_62 : decode cX1_length 62 = .ok (.lreturn, 1) := dk_173 (dk_at dksX1_length_2 16 rfl rfl)
theorem dX1_length_63 : decode cX1_length 63 = .ok (.iload_n 1, 1) := dk_27 (dk_at dksX1_length_2 17 rfl rfl)
theorem dX1_length_64 : decode cX1_length 64 = .ok (.iload_n 2, 1) := dk_28 (dk_at dksX1_length_2 18 rfl rfl)
theorem dX1_length_65 : decode cX1_length 65 = .ok (.if_icmp .ne 5, 3) := dk_160 0 5 (dk_at dksX1_length_2 19 rfl rfl)
theorem dX1_length_68 : decode cX1_length 68 = .ok (.lconst 0, 1) := dk_9 (dk_at dksX1_length_2 22 rfl rfl)
theorem dX1_length_69 : decode cX1_length 69 = .ok (.lreturn, 1) := dk_173 (dk_at dksX1_length_2 23 rfl rfl)
theorem dX1_length_70 : decode cX1_length 70 = .ok (.ldc2_w 211, 3) := dk_20 0 211 (dk_at dksX1_length_3 0 rfl rfl)
theorem dX1_length_73 : decode cX1_length 73 = .ok (.lstore 5, 2) := dk_55 5 (dk_at dksX1_length_3 3 rfl rfl)
theorem dX1_length_75 : decode cX1_length 75 = .ok (.aload_n 0, 1) := dk_42 (dk_at dksX1_length_3 5 rfl rfl)
theorem dX1_length_76 : decode cX1_length 76 = .ok (.iload_n 1, 1) := dk_27 (dk_at dksX1_length_3 6 rfl rfl)
theorem dX1_length_77 : decode cX1_length 77 = .ok (.iload_n 2, 1) := dk_28 (dk_at dksX1_length_3 7 rfl rfl)
theorem dX1_length_78 : decode cX1_length 78 = .ok (.invokevirtual 180, 3) := dk_182 0 180 (dk_at dksX1_length_3 8 rfl rfl)
theorem dX1_length_81 : decode cX1_length 81 = .ok (.aload_n 0, 1) := dk_42 (dk_at dksX1_length_3 11 rfl rfl)
theorem dX1_length_82 : decode cX1_length 82 = .ok (.iconst 1, 1) := dk_4 (dk_at dksX1_length_3 12 rfl rfl)
theorem dX1_length_83 : decode cX1_length 83 = .ok (.invokevirtual 184, 3) := dk_182 0 184 (dk_at dksX1_length_3 13 rfl rfl)
theorem dX1_length_86 : decode cX1_length 86 = .ok (.istore 7, 2) := dk_54 7 (dk_at dksX1_length_3 16 rfl rfl)
theorem dX1_length_88 : decode cX1_length 88 = .ok (.iload 7, 2) := dk_21 7 (dk_at dksX1_length_3 18 rfl rfl)
theorem dX1_length_90 : decode cX1_length 90 = .ok (.ifCond .eq 50, 3) := dk_153 0 50 (dk_at dksX1_length_3 20 rfl rfl)
theorem dX1_length_93 : decode cX1_length 93 = .ok (.iload 4, 2) := dk_21 4 (dk_at dksX1_length_4 0 rfl rfl)
theorem dX1_length_95 : decode cX1_length 95 = .ok (.i2l, 1) := dk_133 (dk_at dksX1_length_4 2 rfl rfl)
theorem dX1_length_96 : decode cX1_length 96 = .ok (.aload_n 0, 1) := dk_42 (dk_at dksX1_length_4 3 rfl rfl)
theorem dX1_length_97 : decode cX1_length 97 = .ok (.iconst 2, 1) := dk_5 (dk_at dksX1_length_4 4 rfl rfl)
theorem dX1_length_98 : decode cX1_length 98 = .ok (.invokevirtual 196, 3) := dk_182 0 196 (dk_at dksX1_length_4 5 rfl rfl)
theorem dX1_length_101 : decode cX1_length 101 = .ok (.lmul, 1) := dk_105 (dk_at dksX1_length_4 8 rfl rfl)
theorem dX1_length_102 : decode cX1_length 102 = .ok (.iload_n 3, 1) := dk_29 (dk_at dksX1_length_4 9 rfl rfl)
theorem dX1_length_103 : decode cX1_length 103 = .ok (.i2l, 1) := dk_133 (dk_at dksX1_length_4 10 rfl rfl)
theorem dX1_length_104 : decode cX1_length 104 = .ok (.aload_n 0, 1) := dk_42 (dk_at dksX1_length_4 11 rfl rfl)
theorem dX1_length_105 : decode cX1_length 105 = .ok (.iconst 3, 1) := dk_6 (dk_at dksX1_length_4 12 rfl rfl)
theorem dX1_length_106 : decode cX1_length 106 = .ok (.invokevirtual 196, 3) := dk_182 0 196 (dk_at dksX1_length_4 13 rfl rfl)
theorem dX1_length_109 : decode cX1_length 109 = .ok (.lmul, 1) := dk_105 (dk_at dksX1_length_4 16 rfl rfl)
theorem dX1_length_110 : decode cX1_length 110 = .ok (.ladd, 1) := dk_97 (dk_at dksX1_length_4 17 rfl rfl)
theorem dX1_length_111 : decode cX1_length 111 = .ok (.lstore 8, 2) := dk_55 8 (dk_at dksX1_length_4 18 rfl rfl)
theorem dX1_length_113 : decode cX1_length 113 = .ok (.lload 8, 2) := dk_22 8 (dk_at dksX1_length_4 20 rfl rfl)
theorem dX1_length_115 : decode cX1_length 115 = .ok (.lload 5, 2) := dk_22 5 (dk_at dksX1_length_4 22 rfl rfl)
theorem dX1_length_117 : decode cX1_length 117 = .ok (.lcmp, 1) := dk_148 (dk_at dksX1_length_5 0 rfl rfl)
theorem dX1_length_118 : decode cX1_length 118 = .ok (.ifCond .ge 8, 3) := dk_156 0 8 (dk_at dksX1_length_5 1 rfl rfl)
theorem dX1_length_121 : decode cX1_length 121 = .ok (.lload 8, 2) := dk_22 8 (dk_at dksX1_length_5 4 rfl rfl)
theorem dX1_length_123 : decode cX1_length 123 = .ok (.goto 5, 3) := dk_167 0 5 (dk_at dksX1_length_5 6 rfl rfl)
theorem dX1_length_126 : decode cX1_length 126 = .ok (.lload 5, 2) := dk_22 5 (dk_at dksX1_length_5 9 rfl rfl)
theorem dX1_length_128 : decode cX1_length 128 = .ok (.lstore 5, 2) := dk_55 5 (dk_at dksX1_length_5 11 rfl rfl)
theorem dX1_length_130 : decode cX1_length 130 = .ok (.aload_n 0, 1) := dk_42 (dk_at dksX1_length_5 13 rfl rfl)
theorem dX1_length_131 : decode cX1_length 131 = .ok (.iconst 0, 1) := dk_3 (dk_at dksX1_length_5 14 rfl rfl)
theorem dX1_length_132 : decode cX1_length 132 = .ok (.invokevirtual 184, 3) := dk_182 0 184 (dk_at dksX1_length_5 15 rfl rfl)
theorem dX1_length_135 : decode cX1_length 135 = .ok (.istore 7, 2) := dk_54 7 (dk_at dksX1_length_5 18 rfl rfl)
theorem dX1_length_137 : decode cX1_length 137 = .ok (.goto (-49), 3) := dk_167 255 207 (dk_at dksX1_length_5 20 rfl rfl)
theorem dX1_length_140 : decode cX1_length 140 = .ok (.lload 5, 2) := dk_22 5 (dk_at dksX1_length_6 0 rfl rfl)
theorem dX1_length_142 : decode cX1_length 142 = .ok (.ldc2_w 211, 3) := dk_20 0 211 (dk_at dksX1_length_6 2 rfl rfl)
theorem dX1_length_145 : decode cX1_length 145 = .ok (.lcmp, 1) := dk_148 (dk_at dksX1_length_6 5 rfl rfl)
theorem dX1_length_146 : decode cX1_length 146 = .ok (.ifCond .ne 9, 3) := dk_154 0 9 (dk_at dksX1_length_6 6 rfl rfl)
theorem dX1_length_149 : decode cX1_length 149 = .ok (.ldc2_w 220, 3) := dk_20 0 220 (dk_at dksX1_length_6 9 rfl rfl)
theorem dX1_length_152 : decode cX1_length 152 = .ok (.goto 5, 3) := dk_167 0 5 (dk_at dksX1_length_6 12 rfl rfl)
theorem dX1_length_155 : decode cX1_length 155 = .ok (.lload 5, 2) := dk_22 5 (dk_at dksX1_length_6 15 rfl rfl)
theorem dX1_length_157 : decode cX1_length 157 = .ok (.lreturn, 1) := dk_173 (dk_at dksX1_length_6 17 rfl rfl)
abbrev cX1_isUnbounded : ByteArray := prog_20_method_53_code
def yX1_isUnbounded : MethodName := ⟨RX1, "isUnbounded", "(IIJJ)Z"⟩
def dkwX1_isUnbounded_4 : List UInt8 := [132, 7, 1, 167, 255, 165, 3, 172]
abbrev dktX1_isUnbounded_4 : List UInt8 := dkwX1_isUnbounded_4 ++ []
def dkwX1_isUnbounded_3 : List UInt8 := [182, 0, 196, 105, 97, 9, 148, 156, 0, 5, 4, 172, 42, 3, 182, 0, 184, 54, 8, 167, 255, 221]
abbrev dktX1_isUnbounded_3 : List UInt8 := dkwX1_isUnbounded_3 ++ dktX1_isUnbounded_4
def dkwX1_isUnbounded_2 : List UInt8 := [4, 167, 0, 4, 3, 54, 8, 21, 8, 153, 0, 36, 22, 5, 42, 5, 182, 0, 196, 105, 33, 42, 6]
abbrev dktX1_isUnbounded_2 : List UInt8 := dkwX1_isUnbounded_2 ++ dktX1_isUnbounded_3
def dkwX1_isUnbounded_1 : List UInt8 := [182, 0, 234, 153, 0, 25, 42, 21, 7, 28, 182, 0, 234, 153, 0, 15, 42, 4, 182, 0, 184, 153, 0, 7]
abbrev dktX1_isUnbounded_1 : List UInt8 := dkwX1_isUnbounded_1 ++ dktX1_isUnbounded_2
def dkwX1_isUnbounded_0 : List UInt8 := [3, 54, 7, 21, 7, 16, 8, 162, 0, 90, 42, 21, 7, 21, 7, 182, 0, 180, 42, 27, 21, 7]
abbrev dktX1_isUnbounded_0 : List UInt8 := dkwX1_isUnbounded_0 ++ dktX1_isUnbounded_1
theorem dksX1_isUnbounded_0 : cX1_isUnbounded.data.toList.drop 0 = dktX1_isUnbounded_0 := by decide +kernel
theorem dksX1_isUnbounded_1 : cX1_isUnbounded.data.toList.drop 22 = dktX1_isUnbounded_1 := dk_seg dksX1_isUnbounded_0 22 rfl rfl
theorem dksX1_isUnbounded_2 : cX1_isUnbounded.data.toList.drop 46 = dktX1_isUnbounded_2 := dk_seg dksX1_isUnbounded_1 24 rfl rfl
theorem dksX1_isUnbounded_3 : cX1_isUnbounded.data.toList.drop 69 = dktX1_isUnbounded_3 := dk_seg dksX1_isUnbounded_2 23 rfl rfl
theorem dksX1_isUnbounded_4 : cX1_isUnbounded.data.toList.drop 91 = dktX1_isUnbounded_4 := dk_seg dksX1_isUnbounded_3 22 rfl rfl
theorem dX1_isUnbounded_0 : decode cX1_isUnbounded 0 = .ok (.iconst 0, 1) := dk_3 (dk_at dksX1_isUnbounded_0 0 rfl rfl)
theorem dX1_isUnbounded_1 : decode cX1_isUnbounded 1 = .ok (.istore 7, 2) := dk_54 7 (dk_at dksX1_isUnbounded_0 1 rfl rfl)
theorem dX1_isUnbounded_3 : decode cX1_isUnbounded 3 = .ok (.iload 7, 2) := dk_21 7 (dk_at dksX1_isUnbounded_0 3 rfl rfl)
theorem dX1_isUnbounded_5 : decode cX1_isUnbounded 5 = .ok (.bipush 8, 2) := dk_16 8 (dk_at dksX1_isUnbounded_0 5 rfl rfl)
theorem dX1_isUnbounded_7 : decode cX1_isUnbounded 7 = .ok (.if_icmp .ge 90, 3) := dk_162 0 90 (dk_at dksX1_isUnbounded_0 7 rfl rfl)
theorem dX1_isUnbounded_10 : decode cX1_isUnbounded 10 = .ok (.aload_n 0, 1) := dk_42 (dk_at dksX1_isUnbounded_0 10 rfl rfl)
theorem dX1_isUnbounded_11 : decode cX1_isUnbounded 11 = .ok (.iload 7, 2) := dk_21 7 (dk_at dksX1_isUnbounded_0 11 rfl rfl)
theorem dX1_isUnbounded_13 : decode cX1_isUnbounded 13 = .ok (.iload 7, 2) := dk_21 7 (dk_at dksX1_isUnbounded_0 13 rfl rfl)
theorem dX1_isUnbounded_15 : decode cX1_isUnbounded 15 = .ok (.invokevirtual 180, 3) := dk_182 0 180 (dk_at dksX1_isUnbounded_0 15 rfl rfl)
theorem dX1_isUnbounded_18 : decode cX1_isUnbounded 18 = .ok (.aload_n 0, 1) := dk_42 (dk_at dksX1_isUnbounded_0 18 rfl rfl)
theorem dX1_isUnbounded_19 : decode cX1_isUnbounded 19 = .ok (.iload_n 1, 1) := dk_27 (dk_at dksX1_isUnbounded_0 19 rfl rfl)
theorem dX1_isUnbounded_20 : decode cX1_isUnbounded 20 = .ok (.iload 7, 2) := dk_21 7 (dk_at dksX1_isUnbounded_0 20 rfl rfl)
theorem dX1_isUnbounded_22 : decode cX1_isUnbounded 22 = .ok (.invokevirtual 234, 3) := dk_182 0 234 (dk_at dksX1_isUnbounded_1 0 rfl rfl)
theorem dX1_isUnbounded_25 : decode cX1_isUnbounded 25 = .ok (.ifCond .eq 25, 3) := dk_153 0 25 (dk_at dksX1_isUnbounded_1 3 rfl rfl)
theorem dX1_isUnbounded_28 : decode cX1_isUnbounded 28 = .ok (.aload_n 0, 1) := dk_42 (dk_at dksX1_isUnbounded_1 6 rfl rfl)
theorem dX1_isUnbounded_29 : decode cX1_isUnbounded 29 = .ok (.iload 7, 2) := dk_21 7 (dk_at dksX1_isUnbounded_1 7 rfl rfl)
theorem dX1_isUnbounded_31 : decode cX1_isUnbounded 31 = .ok (.iload_n 2, 1) := dk_28 (dk_at dksX1_isUnbounded_1 9 rfl rfl)
theorem dX1_isUnbounded_32 : decode cX1_isUnbounded 32 = .ok (.invokevirtual 234, 3) := dk_182 0 234 (dk_at dksX1_isUnbounded_1 10 rfl rfl)
theorem dX1_isUnbounded_35 : decode cX1_isUnbounded 35 = .ok (.ifCond .eq 15, 3) := dk_153 0 15 (dk_at dksX1_isUnbounded_1 13 rfl rfl)
theorem dX1_isUnbounded_38 : decode cX1_isUnbounded 38 = .ok (.aload_n 0, 1) := dk_42 (dk_at dksX1_isUnbounded_1 16 rfl rfl)
theorem dX1_isUnbounded_39 : decode cX1_isUnbounded 39 = .ok (.iconst 1, 1) := dk_4 (dk_at dksX1_isUnbounded_1 17 rfl rfl)
theorem dX1_isUnbounded_40 : decode cX1_isUnbounded 40 = .ok (.invokevirtual 184, 3) := dk_182 0 184 (dk_at dksX1_isUnbounded_1 18 rfl rfl)
theorem dX1_isUnbounded_43 : decode cX1_isUnbounded 43 = .ok (.ifCond .eq 7, 3) := dk_153 0 7 (dk_at dksX1_isUnbounded_1 21 rfl rfl)
theorem dX1_isUnbounded_46 : decode cX1_isUnbounded 46 = .ok (.iconst 1, 1) := dk_4 (dk_at dksX1_isUnbounded_2 0 rfl rfl)
theorem dX1_isUnbounded_47 : decode cX1_isUnbounded 47 = .ok (.goto 4, 3) := dk_167 0 4 (dk_at dksX1_isUnbounded_2 1 rfl rfl)
theorem dX1_isUnbounded_50 : decode cX1_isUnbounded 50 = .ok (.iconst 0, 1) := dk_3 (dk_at dksX1_isUnbounded_2 4 rfl rfl)
theorem dX1_isUnbounded_51 : decode cX1_isUnbounded 51 = .ok (.istore 8, 2) := dk_54 8 (dk_at dksX1_isUnbounded_2 5 rfl rfl)
theorem dX1_isUnbounded_53 : decode cX1_isUnbounded 53 = .ok (.iload 8, 2) := dk_21 8 (dk_at dksX1_isUnbounded_2 7 rfl rfl)
theorem dX1_isUnbounded_55 : decode cX1_isUnbounded 55 = .ok (.ifCond .eq 36, 3) := dk_153 0 36 (dk_at dksX1_isUnbounded_2 9 rfl rfl)
theorem dX1_isUnbounded_58 : decode cX1_isUnbounded 58 = .ok (.lload 5, 2) := dk_22 5 (dk_at dksX1_isUnbounded_2 12 rfl rfl)
theorem dX1_isUnbounded_60 : decode cX1_isUnbounded 60 = .ok (.aload_n 0, 1) := dk_42 (dk_at dksX1_isUnbounded_2 14 rfl rfl)
theorem dX1_isUnbounded_61 : decode cX1_isUnbounded 61 = .ok (.iconst 2, 1) := dk_5 (dk_at dksX1_isUnbounded_2 15 rfl rfl)
theorem dX1_isUnbounded_62 : decode cX1_isUnbounded 62 = .ok (.invokevirtual 196, 3) := dk_182 0 196 (dk_at dksX1_isUnbounded_2 16 rfl rfl)
theorem dX1_isUnbounded_65 : decode cX1_isUnbounded 65 = .ok (.lmul, 1) := dk_105 (dk_at dksX1_isUnbounded_2 19 rfl rfl)
theorem dX1_isUnbounded_66 : decode cX1_isUnbounded 66 = .ok (.lload_n 3, 1) := dk_33 (dk_at dksX1_isUnbounded_2 20 rfl rfl)
theorem dX1_isUnbounded_67 : decode cX1_isUnbounded 67 = .ok (.aload_n 0, 1) := dk_42 (dk_at dksX1_isUnbounded_2 21 rfl rfl)
theorem dX1_isUnbounded_68 : decode cX1_isUnbounded 68 = .ok (.iconst 3, 1) := dk_6 (dk_at dksX1_isUnbounded_2 22 rfl rfl)
theorem dX1_isUnbounded_69 : decode cX1_isUnbounded 69 = .ok (.invokevirtual 196, 3) := dk_182 0 196 (dk_at dksX1_isUnbounded_3 0 rfl rfl)
theorem dX1_isUnbounded_72 : decode cX1_isUnbounded 72 = .ok (.lmul, 1) := dk_105 (dk_at dksX1_isUnbounded_3 3 rfl rfl)
theorem dX1_isUnbounded_73 : decode cX1_isUnbounded 73 = .ok (.ladd, 1) := dk_97 (dk_at dksX1_isUnbounded_3 4 rfl rfl)
theorem dX1_isUnbounded_74 : decode cX1_isUnbounded 74 = .ok (.lconst 0, 1) := dk_9 (dk_at dksX1_isUnbounded_3 5 rfl rfl)
theorem dX1_isUnbounded_75 : decode cX1_isUnbounded 75 = .ok (.lcmp, 1) := dk_148 (dk_at dksX1_isUnbounded_3 6 rfl rfl)
theorem dX1_isUnbounded_76 : decode cX1_isUnbounded 76 = .ok (.ifCond .ge 5, 3) := dk_156 0 5 (dk_at dksX1_isUnbounded_3 7 rfl rfl)
theorem dX1_isUnbounded_79 : decode cX1_isUnbounded 79 = .ok (.iconst 1, 1) := dk_4 (dk_at dksX1_isUnbounded_3 10 rfl rfl)
theorem dX1_isUnbounded_80 : decode cX1_isUnbounded 80 = .ok (.ireturn, 1) := dk_172 (dk_at dksX1_isUnbounded_3 11 rfl rfl)
theorem dX1_isUnbounded_81 : decode cX1_isUnbounded 81 = .ok (.aload_n 0, 1) := dk_42 (dk_at dksX1_isUnbounded_3 12 rfl rfl)
theorem dX1_isUnbounded_82 : decode cX1_isUnbounded 82 = .ok (.iconst 0, 1) := dk_3 (dk_at dksX1_isUnbounded_3 13 rfl rfl)
theorem dX1_isUnbounded_83 : decode cX1_isUnbounded 83 = .ok (.invokevirtual 184, 3) := dk_182 0 184 (dk_at dksX1_isUnbounded_3 14 rfl rfl)
theorem dX1_isUnbounded_86 : decode cX1_isUnbounded 86 = .ok (.istore 8, 2) := dk_54 8 (dk_at dksX1_isUnbounded_3 17 rfl rfl)
theorem dX1_isUnbounded_88 : decode cX1_isUnbounded 88 = .ok (.goto (-35), 3) := dk_167 255 221 (dk_at dksX1_isUnbounded_3 19 rfl rfl)
theorem dX1_isUnbounded_91 : decode cX1_isUnbounded 91 = .ok (.iinc 7 1, 3) := dk_132 7 1 (dk_at dksX1_isUnbounded_4 0 rfl rfl)
theorem dX1_isUnbounded_94 : decode cX1_isUnbounded 94 = .ok (.goto (-91), 3) := dk_167 255 165 (dk_at dksX1_isUnbounded_4 3 rfl rfl)
theorem dX1_isUnbounded_97 : decode cX1_isUnbounded 97 = .ok (.iconst 0, 1) := dk_3 (dk_at dksX1_isUnbounded_4 6 rfl rfl)
theorem dX1_isUnbounded_98 : decode cX1_isUnbounded 98 = .ok (.ireturn, 1) := dk_172 (dk_at dksX1_isUnbounded_4 7 rfl rfl)
abbrev cX1_leads : ByteArray := prog_20_method_52_code
def yX1_leads : MethodName := ⟨RX1, "leads", "(II)Z"⟩
def dkwX1_leads_0 : List UInt8 := [42, 27, 182, 0, 230, 28, 122, 4, 126, 4, 160, 0, 7, 4, 167, 0, 4, 3, 172]
abbrev dktX1_leads_0 : List UInt8 := dkwX1_leads_0 ++ []
theorem dksX1_leads_0 : cX1_leads.data.toList.drop 0 = dktX1_leads_0 := by decide +kernel
theorem dX1_leads_0 : decode cX1_leads 0 = .ok (.aload_n 0, 1) := dk_42 (dk_at dksX1_leads_0 0 rfl rfl)
theorem dX1_leads_1 : decode cX1_leads 1 = .ok (.iload_n 1, 1) := dk_27 (dk_at dksX1_leads_0 1 rfl rfl)
theorem dX1_leads_2 : decode cX1_leads 2 = .ok (.invokevirtual 230, 3) := dk_182 0 230 (dk_at dksX1_leads_0 2 rfl rfl)
theorem dX1_leads_5 : decode cX1_leads 5 = .ok (.iload_n 2, 1) := dk_28 (dk_at dksX1_leads_0 5 rfl rfl)
theorem dX1_leads_6 : decode cX1_leads 6 = .ok (.ishr, 1) := dk_122 (dk_at dksX1_leads_0 6 rfl rfl)
theorem dX1_leads_7 : decode cX1_leads 7 = .ok (.iconst 1, 1) := dk_4 (dk_at dksX1_leads_0 7 rfl rfl)
theorem dX1_leads_8 : decode cX1_leads 8 = .ok (.iand, 1) := dk_126 (dk_at dksX1_leads_0 8 rfl rfl)
theorem dX1_leads_9 : decode cX1_leads 9 = .ok (.iconst 1, 1) := dk_4 (dk_at dksX1_leads_0 9 rfl rfl)
theorem dX1_leads_10 : decode cX1_leads 10 = .ok (.if_icmp .ne 7, 3) := dk_160 0 7 (dk_at dksX1_leads_0 10 rfl rfl)
theorem dX1_leads_13 : decode cX1_leads 13 = .ok (.iconst 1, 1) := dk_4 (dk_at dksX1_leads_0 13 rfl rfl)
theorem dX1_leads_14 : decode cX1_leads 14 = .ok (.goto 4, 3) := dk_167 0 4 (dk_at dksX1_leads_0 14 rfl rfl)
theorem dX1_leads_17 : decode cX1_leads 17 = .ok (.iconst 0, 1) := dk_3 (dk_at dksX1_leads_0 17 rfl rfl)
theorem dX1_leads_18 : decode cX1_leads 18 = .ok (.ireturn, 1) := dk_172 (dk_at dksX1_leads_0 18 rfl rfl)
abbrev cX1_reached : ByteArray := prog_20_method_51_code
def yX1_reached : MethodName := ⟨RX1, "reached", "(I)I"⟩
def dkwX1_reached_2 : List UInt8 := [4, 182, 0, 80, 120, 167, 0, 4, 3, 128, 61, 132, 4, 1, 167, 255, 210, 167, 255, 197, 28, 172]
abbrev dktX1_reached_2 : List UInt8 := dkwX1_reached_2 ++ []
def dkwX1_reached_1 : List UInt8 := [46, 162, 0, 40, 28, 28, 42, 21, 4, 3, 182, 0, 80, 122, 4, 126, 4, 160, 0, 15, 4, 42, 21, 4]
abbrev dktX1_reached_1 : List UInt8 := dkwX1_reached_1 ++ dktX1_reached_2
def dkwX1_reached_0 : List UInt8 := [4, 27, 120, 61, 3, 62, 28, 29, 159, 0, 60, 28, 62, 3, 54, 4, 21, 4, 42, 180, 0, 7, 16, 112]
abbrev dktX1_reached_0 : List UInt8 := dkwX1_reached_0 ++ dktX1_reached_1
theorem dksX1_reached_0 : cX1_reached.data.toList.drop 0 = dktX1_reached_0 := by decide +kernel
theorem dksX1_reached_1 : cX1_reached.data.toList.drop 24 = dktX1_reached_1 := dk_seg dksX1_reached_0 24 rfl rfl
theorem dksX1_reached_2 : cX1_reached.data.toList.drop 48 = dktX1_reached_2 := dk_seg dksX1_reached_1 24 rfl rfl
theorem dX1_reached_0 : decode cX1_reached 0 = .ok (.iconst 1, 1) := dk_4 (dk_at dksX1_reached_0 0 rfl rfl)
theorem dX1_reached_1 : decode cX1_reached 1 = .ok (.iload_n 1, 1) := dk_27 (dk_at dksX1_reached_0 1 rfl rfl)
theorem dX1_reached_2 : decode cX1_reached 2 = .ok (.ishl, 1) := dk_120 (dk_at dksX1_reached_0 2 rfl rfl)
theorem dX1_reached_3 : decode cX1_reached 3 = .ok (.istore_n 2, 1) := dk_61 (dk_at dksX1_reached_0 3 rfl rfl)
theorem dX1_reached_4 : decode cX1_reached 4 = .ok (.iconst 0, 1) := dk_3 (dk_at dksX1_reached_0 4 rfl rfl)
theorem dX1_reached_5 : decode cX1_reached 5 = .ok (.istore_n 3, 1) := dk_62 (dk_at dksX1_reached_0 5 rfl rfl)
theorem dX1_reached_6 : decode cX1_reached 6 = .ok (.iload_n 2, 1) := dk_28 (dk_at dksX1_reached_0 6 rfl rfl)
theorem dX1_reached_7 : decode cX1_reached 7 = .ok (.iload_n 3, 1) := dk_29 (dk_at dksX1_reached_0 7 rfl rfl)
theorem dX1_reached_8 : decode cX1_reached 8 = .ok (.if_icmp .eq 60, 3) := dk_159 0 60 (dk_at dksX1_reached_0 8 rfl rfl)
theorem dX1_reached_11 : decode cX1_reached 11 = .ok (.iload_n 2, 1) := dk_28 (dk_at dksX1_reached_0 11 rfl rfl)
theorem dX1_reached_12 : decode cX1_reached 12 = .ok (.istore_n 3, 1) := dk_62 (dk_at dksX1_reached_0 12 rfl rfl)
theorem dX1_reached_13 : decode cX1_reached 13 = .ok (.iconst 0, 1) := dk_3 (dk_at dksX1_reached_0 13 rfl rfl)
theorem dX1_reached_14 : decode cX1_reached 14 = .ok (.istore 4, 2) := dk_54 4 (dk_at dksX1_reached_0 14 rfl rfl)
theorem dX1_reached_16 : decode cX1_reached 16 = .ok (.iload 4, 2) := dk_21 4 (dk_at dksX1_reached_0 16 rfl rfl)
theorem dX1_reached_18 : decode cX1_reached 18 = .ok (.aload_n 0, 1) := dk_42 (dk_at dksX1_reached_0 18 rfl rfl)
theorem dX1_reached_19 : decode cX1_reached 19 = .ok (.getfield 7, 3) := dk_180 0 7 (dk_at dksX1_reached_0 19 rfl rfl)
theorem dX1_reached_22 : decode cX1_reached 22 = .ok (.bipush 112, 2) := dk_16 112 (dk_at dksX1_reached_0 22 rfl rfl)
theorem dX1_reached_24 : decode cX1_reached 24 = .ok (.iaload, 1) := dk_46 (dk_at dksX1_reached_1 0 rfl rfl)
theorem dX1_reached_25 : decode cX1_reached 25 = .ok (.if_icmp .ge 40, 3) := dk_162 0 40 (dk_at dksX1_reached_1 1 rfl rfl)
theorem dX1_reached_28 : decode cX1_reached 28 = .ok (.iload_n 2, 1) := dk_28 (dk_at dksX1_reached_1 4 rfl rfl)
theorem dX1_reached_29 : decode cX1_reached 29 = .ok (.iload_n 2, 1) := dk_28 (dk_at dksX1_reached_1 5 rfl rfl)
theorem dX1_reached_30 : decode cX1_reached 30 = .ok (.aload_n 0, 1) := dk_42 (dk_at dksX1_reached_1 6 rfl rfl)
theorem dX1_reached_31 : decode cX1_reached 31 = .ok (.iload 4, 2) := dk_21 4 (dk_at dksX1_reached_1 7 rfl rfl)
theorem dX1_reached_33 : decode cX1_reached 33 = .ok (.iconst 0, 1) := dk_3 (dk_at dksX1_reached_1 9 rfl rfl)
theorem dX1_reached_34 : decode cX1_reached 34 = .ok (.invokevirtual 80, 3) := dk_182 0 80 (dk_at dksX1_reached_1 10 rfl rfl)
theorem dX1_reached_37 : decode cX1_reached 37 = .ok (.ishr, 1) := dk_122 (dk_at dksX1_reached_1 13 rfl rfl)
theorem dX1_reached_38 : decode cX1_reached 38 = .ok (.iconst 1, 1) := dk_4 (dk_at dksX1_reached_1 14 rfl rfl)
theorem dX1_reached_39 : decode cX1_reached 39 = .ok (.iand, 1) := dk_126 (dk_at dksX1_reached_1 15 rfl rfl)
theorem dX1_reached_40 : decode cX1_reached 40 = .ok (.iconst 1, 1) := dk_4 (dk_at dksX1_reached_1 16 rfl rfl)
theorem dX1_reached_41 : decode cX1_reached 41 = .ok (.if_icmp .ne 15, 3) := dk_160 0 15 (dk_at dksX1_reached_1 17 rfl rfl)
theorem dX1_reached_44 : decode cX1_reached 44 = .ok (.iconst 1, 1) := dk_4 (dk_at dksX1_reached_1 20 rfl rfl)
theorem dX1_reached_45 : decode cX1_reached 45 = .ok (.aload_n 0, 1) := dk_42 (dk_at dksX1_reached_1 21 rfl rfl)
theorem dX1_reached_46 : decode cX1_reached 46 = .ok (.iload 4, 2) := dk_21 4 (dk_at dksX1_reached_1 22 rfl rfl)
theorem dX1_reached_48 : decode cX1_reached 48 = .ok (.iconst 1, 1) := dk_4 (dk_at dksX1_reached_2 0 rfl rfl)
theorem dX1_reached_49 : decode cX1_reached 49 = .ok (.invokevirtual 80, 3) := dk_182 0 80 (dk_at dksX1_reached_2 1 rfl rfl)
theorem dX1_reached_52 : decode cX1_reached 52 = .ok (.ishl, 1) := dk_120 (dk_at dksX1_reached_2 4 rfl rfl)
theorem dX1_reached_53 : decode cX1_reached 53 = .ok (.goto 4, 3) := dk_167 0 4 (dk_at dksX1_reached_2 5 rfl rfl)
theorem dX1_reached_56 : decode cX1_reached 56 = .ok (.iconst 0, 1) := dk_3 (dk_at dksX1_reached_2 8 rfl rfl)
theorem dX1_reached_57 : decode cX1_reached 57 = .ok (.ior, 1) := dk_128 (dk_at dksX1_reached_2 9 rfl rfl)
theorem dX1_reached_58 : decode cX1_reached 58 = .ok (.istore_n 2, 1) := dk_61 (dk_at dksX1_reached_2 10 rfl rfl)
theorem dX1_reached_59 : decode cX1_reached 59 = .ok (.iinc 4 1, 3) := dk_132 4 1 (dk_at dksX1_reached_2 11 rfl rfl)
theorem dX1_reached_62 : decode cX1_reached 62 = .ok (.goto (-46), 3) := dk_167 255 210 (dk_at dksX1_reached_2 14 rfl rfl)
theorem dX1_reached_65 : decode cX1_reached 65 = .ok (.goto (-59), 3) := dk_167 255 197 (dk_at dksX1_reached_2 17 rfl rfl)
theorem dX1_reached_68 : decode cX1_reached 68 = .ok (.iload_n 2, 1) := dk_28 (dk_at dksX1_reached_2 20 rfl rfl)
theorem dX1_reached_69 : decode cX1_reached 69 = .ok (.ireturn, 1) := dk_172 (dk_at dksX1_reached_2 21 rfl rfl)
abbrev cX1_pieces : ByteArray := prog_20_method_58_code
def yX1_pieces : MethodName := ⟨RX1, "pieces", "(IIII)I"⟩
def dkwX1_pieces_6 : List UInt8 := [132, 5, 1, 167, 255, 212, 42, 21, 5, 181, 1, 21, 42, 4, 181, 1, 24, 21, 5, 172]
abbrev dktX1_pieces_6 : List UInt8 := dkwX1_pieces_6 ++ []
def dkwX1_pieces_5 : List UInt8 := [21, 4, 133, 10, 184, 0, 163, 156, 0, 23, 42, 21, 5, 42, 180, 0, 253, 42, 180, 1, 0, 182, 1, 14]
abbrev dktX1_pieces_5 : List UInt8 := dkwX1_pieces_5 ++ dktX1_pieces_6
def dkwX1_pieces_4 : List UInt8 := [10, 182, 1, 14, 4, 54, 5, 42, 27, 28, 182, 1, 18, 153, 0, 41, 42, 180, 0, 253, 42, 180, 1, 0]
abbrev dktX1_pieces_4 : List UInt8 := dkwX1_pieces_4 ++ dktX1_pieces_5
def dkwX1_pieces_3 : List UInt8 := [153, 0, 7, 19, 1, 9, 172, 42, 27, 28, 29, 182, 1, 10, 154, 0, 6, 18, 25, 172, 42, 3, 29, 133]
abbrev dktX1_pieces_3 : List UInt8 := dkwX1_pieces_3 ++ dktX1_pieces_4
def dkwX1_pieces_2 : List UInt8 := [172, 42, 27, 28, 29, 133, 10, 182, 0, 241, 154, 0, 16, 42, 27, 28, 21, 4, 133, 10, 182, 0, 241]
abbrev dktX1_pieces_2 : List UInt8 := dkwX1_pieces_2 ++ dktX1_pieces_3
def dkwX1_pieces_1 : List UInt8 := [184, 0, 48, 153, 0, 19, 21, 4, 133, 29, 4, 96, 133, 20, 1, 7, 184, 0, 48, 154, 0, 6, 18, 72]
abbrev dktX1_pieces_1 : List UInt8 := dkwX1_pieces_1 ++ dktX1_pieces_2
def dkwX1_pieces_0 : List UInt8 := [27, 184, 0, 64, 153, 0, 40, 28, 184, 0, 64, 153, 0, 33, 29, 133, 20, 1, 3, 20, 1, 5]
abbrev dktX1_pieces_0 : List UInt8 := dkwX1_pieces_0 ++ dktX1_pieces_1
theorem dksX1_pieces_0 : cX1_pieces.data.toList.drop 0 = dktX1_pieces_0 := by decide +kernel
theorem dksX1_pieces_1 : cX1_pieces.data.toList.drop 22 = dktX1_pieces_1 := dk_seg dksX1_pieces_0 22 rfl rfl
theorem dksX1_pieces_2 : cX1_pieces.data.toList.drop 46 = dktX1_pieces_2 := dk_seg dksX1_pieces_1 24 rfl rfl
theorem dksX1_pieces_3 : cX1_pieces.data.toList.drop 69 = dktX1_pieces_3 := dk_seg dksX1_pieces_2 23 rfl rfl
theorem dksX1_pieces_4 : cX1_pieces.data.toList.drop 93 = dktX1_pieces_4 := dk_seg dksX1_pieces_3 24 rfl rfl
theorem dksX1_pieces_5 : cX1_pieces.data.toList.drop 117 = dktX1_pieces_5 := dk_seg dksX1_pieces_4 24 rfl rfl
theorem dksX1_pieces_6 : cX1_pieces.data.toList.drop 141 = dktX1_pieces_6 := dk_seg dksX1_pieces_5 24 rfl rfl
theorem dX1_pieces_0 : decode cX1_pieces 0 = .ok (.iload_n 1, 1) := dk_27 (dk_at dksX1_pieces_0 0 rfl rfl)
theorem dX1_pieces_1 : decode cX1_pieces 1 = .ok (.invokestatic 64, 3) := dk_184 0 64 (dk_at dksX1_pieces_0 1 rfl rfl)
theorem dX1_pieces_4 : decode cX1_pieces 4 = .ok (.ifCond .eq 40, 3) := dk_153 0 40 (dk_at dksX1_pieces_0 4 rfl rfl)
theorem dX1_pieces_7 : decode cX1_pieces 7 = .ok (.iload_n 2, 1) := dk_28 (dk_at dksX1_pieces_0 7 rfl rfl)
theorem dX1_pieces_8 : decode cX1_pieces 8 = .ok (.invokestatic 64, 3) := dk_184 0 64 (dk_at dksX1_pieces_0 8 rfl rfl)
theorem dX1_pieces_11 : decode cX1_pieces 11 = .ok (.ifCond .eq 33, 3) := dk_153 0 33 (dk_at dksX1_pieces_0 11 rfl rfl)
theorem dX1_pieces_14 : decode cX1_pieces 14 = .ok (.iload_n 3, 1) := dk_29 (dk_at dksX1_pieces_0 14 rfl rfl)
theorem dX1_pieces_15 : decode cX1_pieces 15 = .ok (.i2l, 1) := dk_133 (dk_at dksX1_pieces_0 15 rfl rfl)
theorem dX1_pieces_16 : decode cX1_pieces 16 = .ok (.ldc2_w 259, 3) := dk_20 1 3 (dk_at dksX1_pieces_0 16 rfl rfl)
theorem dX1_pieces_19 : decode cX1_pieces 19 = .ok (.ldc2_w 261, 3) := dk_20 1 5 (dk_at dksX1_pieces_0 19 rfl rfl)
theorem dX1_pieces_22 : decode cX1_pieces 22 = .ok (.invokestatic 48, 3) := dk_184 0 48 (dk_at dksX1_pieces_1 0 rfl rfl)
theorem dX1_pieces_25 : decode cX1_pieces 25 = .ok (.ifCond .eq 19, 3) := dk_153 0 19 (dk_at dksX1_pieces_1 3 rfl rfl)
theorem dX1_pieces_28 : decode cX1_pieces 28 = .ok (.iload 4, 2) := dk_21 4 (dk_at dksX1_pieces_1 6 rfl rfl)
theorem dX1_pieces_30 : decode cX1_pieces 30 = .ok (.i2l, 1) := dk_133 (dk_at dksX1_pieces_1 8 rfl rfl)
theorem dX1_pieces_31 : decode cX1_pieces 31 = .ok (.iload_n 3, 1) := dk_29 (dk_at dksX1_pieces_1 9 rfl rfl)
theorem dX1_pieces_32 : decode cX1_pieces 32 = .ok (.iconst 1, 1) := dk_4 (dk_at dksX1_pieces_1 10 rfl rfl)
theorem dX1_pieces_33 : decode cX1_pieces 33 = .ok (.iadd, 1) := dk_96 (dk_at dksX1_pieces_1 11 rfl rfl)
theorem dX1_pieces_34 : decode cX1_pieces 34 = .ok (.i2l, 1) := dk_133 (dk_at dksX1_pieces_1 12 rfl rfl)
theorem dX1_pieces_35 : decode cX1_pieces 35 = .ok (.ldc2_w 263, 3) := dk_20 1 7 (dk_at dksX1_pieces_1 13 rfl rfl)
theorem dX1_pieces_38 : decode cX1_pieces 38 = .ok (.invokestatic 48, 3) := dk_184 0 48 (dk_at dksX1_pieces_1 16 rfl rfl)
theorem dX1_pieces_41 : decode cX1_pieces 41 = .ok (.ifCond .ne 6, 3) := dk_154 0 6 (dk_at dksX1_pieces_1 19 rfl rfl)
theorem dX1_pieces_44 : decode cX1_pieces 44 = .ok (.ldc 72, 2) := dk_18 72 (dk_at dksX1_pieces_1 22 rfl rfl)
theorem dX1_pieces_46 : decode cX1_pieces 46 = .ok (.ireturn, 1) := dk_172 (dk_at dksX1_pieces_2 0 rfl rfl)
theorem dX1_pieces_47 : decode cX1_pieces 47 = .ok (.aload_n 0, 1) := dk_42 (dk_at dksX1_pieces_2 1 rfl rfl)
theorem dX1_pieces_48 : decode cX1_pieces 48 = .ok (.iload_n 1, 1) := dk_27 (dk_at dksX1_pieces_2 2 rfl rfl)
theorem dX1_pieces_49 : decode cX1_pieces 49 = .ok (.iload_n 2, 1) := dk_28 (dk_at dksX1_pieces_2 3 rfl rfl)
theorem dX1_pieces_50 : decode cX1_pieces 50 = .ok (.iload_n 3, 1) := dk_29 (dk_at dksX1_pieces_2 4 rfl rfl)
theorem dX1_pieces_51 : decode cX1_pieces 51 = .ok (.i2l, 1) := dk_133 (dk_at dksX1_pieces_2 5 rfl rfl)
theorem dX1_pieces_52 : decode cX1_pieces 52 = .ok (.lconst 1, 1) := dk_10 (dk_at dksX1_pieces_2 6 rfl rfl)
theorem dX1_pieces_53 : decode cX1_pieces 53 = .ok (.invokevirtual 241, 3) := dk_182 0 241 (dk_at dksX1_pieces_2 7 rfl rfl)
theorem dX1_pieces_56 : decode cX1_pieces 56 = .ok (.ifCond .ne 16, 3) := dk_154 0 16 (dk_at dksX1_pieces_2 10 rfl rfl)
theorem dX1_pieces_59 : decode cX1_pieces 59 = .ok (.aload_n 0, 1) := dk_42 (dk_at dksX1_pieces_2 13 rfl rfl)
theorem dX1_pieces_60 : decode cX1_pieces 60 = .ok (.iload_n 1, 1) := dk_27 (dk_at dksX1_pieces_2 14 rfl rfl)
theorem dX1_pieces_61 : decode cX1_pieces 61 = .ok (.iload_n 2, 1) := dk_28 (dk_at dksX1_pieces_2 15 rfl rfl)
theorem dX1_pieces_62 : decode cX1_pieces 62 = .ok (.iload 4, 2) := dk_21 4 (dk_at dksX1_pieces_2 16 rfl rfl)
theorem dX1_pieces_64 : decode cX1_pieces 64 = .ok (.i2l, 1) := dk_133 (dk_at dksX1_pieces_2 18 rfl rfl)
theorem dX1_pieces_65 : decode cX1_pieces 65 = .ok (.lconst 1, 1) := dk_10 (dk_at dksX1_pieces_2 19 rfl rfl)
theorem dX1_pieces_66 : decode cX1_pieces 66 = .ok (.invokevirtual 241, 3) := dk_182 0 241 (dk_at dksX1_pieces_2 20 rfl rfl)
theorem dX1_pieces_69 : decode cX1_pieces 69 = .ok (.ifCond .eq 7, 3) := dk_153 0 7 (dk_at dksX1_pieces_3 0 rfl rfl)
theorem dX1_pieces_72 : decode cX1_pieces 72 = .ok (.ldc_w 265, 3) := dk_19 1 9 (dk_at dksX1_pieces_3 3 rfl rfl)
theorem dX1_pieces_75 : decode cX1_pieces 75 = .ok (.ireturn, 1) := dk_172 (dk_at dksX1_pieces_3 6 rfl rfl)
theorem dX1_pieces_76 : decode cX1_pieces 76 = .ok (.aload_n 0, 1) := dk_42 (dk_at dksX1_pieces_3 7 rfl rfl)
theorem dX1_pieces_77 : decode cX1_pieces 77 = .ok (.iload_n 1, 1) := dk_27 (dk_at dksX1_pieces_3 8 rfl rfl)
theorem dX1_pieces_78 : decode cX1_pieces 78 = .ok (.iload_n 2, 1) := dk_28 (dk_at dksX1_pieces_3 9 rfl rfl)
theorem dX1_pieces_79 : decode cX1_pieces 79 = .ok (.iload_n 3, 1) := dk_29 (dk_at dksX1_pieces_3 10 rfl rfl)
theorem dX1_pieces_80 : decode cX1_pieces 80 = .ok (.invokevirtual 266, 3) := dk_182 1 10 (dk_at dksX1_pieces_3 11 rfl rfl)
theorem dX1_pieces_83 : decode cX1_pieces 83 = .ok (.ifCond .ne 6, 3) := dk_154 0 6 (dk_at dksX1_pieces_3 14 rfl rfl)
theorem dX1_pieces_86 : decode cX1_pieces 86 = .ok (.ldc 25, 2) := dk_18 25 (dk_at dksX1_pieces_3 17 rfl rfl)
theorem dX1_pieces_88 : decode cX1_pieces 88 = .ok (.ireturn, 1) := dk_172 (dk_at dksX1_pieces_3 19 rfl rfl)
theorem dX1_pieces_89 : decode cX1_pieces 89 = .ok (.aload_n 0, 1) := dk_42 (dk_at dksX1_pieces_3 20 rfl rfl)
theorem dX1_pieces_90 : decode cX1_pieces 90 = .ok (.iconst 0, 1) := dk_3 (dk_at dksX1_pieces_3 21 rfl rfl)
theorem dX1_pieces_91 : decode cX1_pieces 91 = .ok (.iload_n 3, 1) := dk_29 (dk_at dksX1_pieces_3 22 rfl rfl)
theorem dX1_pieces_92 : decode cX1_pieces 92 = .ok (.i2l, 1) := dk_133 (dk_at dksX1_pieces_3 23 rfl rfl)
theorem dX1_pieces_93 : decode cX1_pieces 93 = .ok (.lconst 1, 1) := dk_10 (dk_at dksX1_pieces_4 0 rfl rfl)
theorem dX1_pieces_94 : decode cX1_pieces 94 = .ok (.invokevirtual 270, 3) := dk_182 1 14 (dk_at dksX1_pieces_4 1 rfl rfl)
theorem dX1_pieces_97 : decode cX1_pieces 97 = .ok (.iconst 1, 1) := dk_4 (dk_at dksX1_pieces_4 4 rfl rfl)
theorem dX1_pieces_98 : decode cX1_pieces 98 = .ok (.istore 5, 2) := dk_54 5 (dk_at dksX1_pieces_4 5 rfl rfl)
theorem dX1_pieces_100 : decode cX1_pieces 100 = .ok (.aload_n 0, 1) := dk_42 (dk_at dksX1_pieces_4 7 rfl rfl)
theorem dX1_pieces_101 : decode cX1_pieces 101 = .ok (.iload_n 1, 1) := dk_27 (dk_at dksX1_pieces_4 8 rfl rfl)
theorem dX1_pieces_102 : decode cX1_pieces 102 = .ok (.iload_n 2, 1) := dk_28 (dk_at dksX1_pieces_4 9 rfl rfl)
theorem dX1_pieces_103 : decode cX1_pieces 103 = .ok (.invokevirtual 274, 3) := dk_182 1 18 (dk_at dksX1_pieces_4 10 rfl rfl)
theorem dX1_pieces_106 : decode cX1_pieces 106 = .ok (.ifCond .eq 41, 3) := dk_153 0 41 (dk_at dksX1_pieces_4 13 rfl rfl)
theorem dX1_pieces_109 : decode cX1_pieces 109 = .ok (.aload_n 0, 1) := dk_42 (dk_at dksX1_pieces_4 16 rfl rfl)
theorem dX1_pieces_110 : decode cX1_pieces 110 = .ok (.getfield 253, 3) := dk_180 0 253 (dk_at dksX1_pieces_4 17 rfl rfl)
theorem dX1_pieces_113 : decode cX1_pieces 113 = .ok (.aload_n 0, 1) := dk_42 (dk_at dksX1_pieces_4 20 rfl rfl)
theorem dX1_pieces_114 : decode cX1_pieces 114 = .ok (.getfield 256, 3) := dk_180 1 0 (dk_at dksX1_pieces_4 21 rfl rfl)
theorem dX1_pieces_117 : decode cX1_pieces 117 = .ok (.iload 4, 2) := dk_21 4 (dk_at dksX1_pieces_5 0 rfl rfl)
theorem dX1_pieces_119 : decode cX1_pieces 119 = .ok (.i2l, 1) := dk_133 (dk_at dksX1_pieces_5 2 rfl rfl)
theorem dX1_pieces_120 : decode cX1_pieces 120 = .ok (.lconst 1, 1) := dk_10 (dk_at dksX1_pieces_5 3 rfl rfl)
theorem dX1_pieces_121 : decode cX1_pieces 121 = .ok (.invokestatic 163, 3) := dk_184 0 163 (dk_at dksX1_pieces_5 4 rfl rfl)
theorem dX1_pieces_124 : decode cX1_pieces 124 = .ok (.ifCond .ge 23, 3) := dk_156 0 23 (dk_at dksX1_pieces_5 7 rfl rfl)
theorem dX1_pieces_127 : decode cX1_pieces 127 = .ok (.aload_n 0, 1) := dk_42 (dk_at dksX1_pieces_5 10 rfl rfl)
theorem dX1_pieces_128 : decode cX1_pieces 128 = .ok (.iload 5, 2) := dk_21 5 (dk_at dksX1_pieces_5 11 rfl rfl)
theorem dX1_pieces_130 : decode cX1_pieces 130 = .ok (.aload_n 0, 1) := dk_42 (dk_at dksX1_pieces_5 13 rfl rfl)
theorem dX1_pieces_131 : decode cX1_pieces 131 = .ok (.getfield 253, 3) := dk_180 0 253 (dk_at dksX1_pieces_5 14 rfl rfl)
theorem dX1_pieces_134 : decode cX1_pieces 134 = .ok (.aload_n 0, 1) := dk_42 (dk_at dksX1_pieces_5 17 rfl rfl)
theorem dX1_pieces_135 : decode cX1_pieces 135 = .ok (.getfield 256, 3) := dk_180 1 0 (dk_at dksX1_pieces_5 18 rfl rfl)
theorem dX1_pieces_138 : decode cX1_pieces 138 = .ok (.invokevirtual 270, 3) := dk_182 1 14 (dk_at dksX1_pieces_5 21 rfl rfl)
theorem dX1_pieces_141 : decode cX1_pieces 141 = .ok (.iinc 5 1, 3) := dk_132 5 1 (dk_at dksX1_pieces_6 0 rfl rfl)
theorem dX1_pieces_144 : decode cX1_pieces 144 = .ok (.goto (-44), 3) := dk_167 255 212 (dk_at dksX1_pieces_6 3 rfl rfl)
theorem dX1_pieces_147 : decode cX1_pieces 147 = .ok (.aload_n 0, 1) := dk_42 (dk_at dksX1_pieces_6 6 rfl rfl)
theorem dX1_pieces_148 : decode cX1_pieces 148 = .ok (.iload 5, 2) := dk_21 5 (dk_at dksX1_pieces_6 7 rfl rfl)
theorem dX1_pieces_150 : decode cX1_pieces 150 = .ok (.putfield 277, 3) := dk_181 1 21 (dk_at dksX1_pieces_6 9 rfl rfl)
theorem dX1_pieces_153 : decode cX1_pieces 153 = .ok (.aload_n 0, 1) := dk_42 (dk_at dksX1_pieces_6 12 rfl rfl)
theorem dX1_pieces_154 : decode cX1_pieces 154 = .ok (.iconst 1, 1) := dk_4 (dk_at dksX1_pieces_6 13 rfl rfl)
theorem dX1_pieces_155 : decode cX1_pieces 155 = .ok (.putfield 280, 3) := dk_181 1 24 (dk_at dksX1_pieces_6 14 rfl rfl)
theorem dX1_pieces_158 : decode cX1_pieces 158 = .ok (.iload 5, 2) := dk_21 5 (dk_at dksX1_pieces_6 17 rfl rfl)
theorem dX1_pieces_160 : decode cX1_pieces 160 = .ok (.ireturn, 1) := dk_172 (dk_at dksX1_pieces_6 19 rfl rfl)
abbrev cX1_firstLine : ByteArray := prog_20_method_55_code
def yX1_firstLine : MethodName := ⟨RX1, "firstLine", "(III)Z"⟩
def dkwX1_firstLine_6 : List UInt8 := [167, 255, 163, 21, 4, 172]
abbrev dktX1_firstLine_6 : List UInt8 := dkwX1_firstLine_6 ++ []
def dkwX1_firstLine_5 : List UInt8 := [42, 22, 6, 181, 0, 247, 42, 22, 8, 181, 0, 250, 4, 54, 4, 42, 3, 182, 0, 184, 54, 5]
abbrev dktX1_firstLine_5 : List UInt8 := dkwX1_firstLine_5 ++ dktX1_firstLine_6
def dkwX1_firstLine_4 : List UInt8 := [22, 10, 9, 148, 155, 0, 20, 22, 10, 9, 148, 154, 0, 25, 22, 8, 42, 180, 0, 250, 148, 156, 0, 15]
abbrev dktX1_firstLine_4 : List UInt8 := dkwX1_firstLine_4 ++ dktX1_firstLine_5
def dkwX1_firstLine_3 : List UInt8 := [133, 105, 97, 42, 180, 0, 247, 101, 42, 180, 0, 250, 29, 133, 105, 101, 55, 10, 21, 4, 153, 0, 27]
abbrev dktX1_firstLine_3 : List UInt8 := dkwX1_firstLine_3 ++ dktX1_firstLine_4
def dkwX1_firstLine_2 : List UInt8 := [21, 5, 153, 0, 94, 42, 5, 182, 0, 196, 55, 6, 42, 6, 182, 0, 196, 55, 8, 22, 6, 22, 8, 29]
abbrev dktX1_firstLine_2 : List UInt8 := dkwX1_firstLine_2 ++ dktX1_firstLine_3
def dkwX1_firstLine_1 : List UInt8 := [28, 182, 0, 180, 27, 28, 159, 0, 15, 42, 4, 182, 0, 184, 153, 0, 7, 4, 167, 0, 4, 3, 54, 5]
abbrev dktX1_firstLine_1 : List UInt8 := dkwX1_firstLine_1 ++ dktX1_firstLine_2
def dkwX1_firstLine_0 : List UInt8 := [27, 28, 160, 0, 7, 4, 167, 0, 4, 3, 54, 4, 42, 9, 181, 0, 247, 42, 9, 181, 0, 250, 42, 27]
abbrev dktX1_firstLine_0 : List UInt8 := dkwX1_firstLine_0 ++ dktX1_firstLine_1
theorem dksX1_firstLine_0 : cX1_firstLine.data.toList.drop 0 = dktX1_firstLine_0 := by decide +kernel
theorem dksX1_firstLine_1 : cX1_firstLine.data.toList.drop 24 = dktX1_firstLine_1 := dk_seg dksX1_firstLine_0 24 rfl rfl
theorem dksX1_firstLine_2 : cX1_firstLine.data.toList.drop 48 = dktX1_firstLine_2 := dk_seg dksX1_firstLine_1 24 rfl rfl
theorem dksX1_firstLine_3 : cX1_firstLine.data.toList.drop 72 = dktX1_firstLine_3 := dk_seg dksX1_firstLine_2 24 rfl rfl
theorem dksX1_firstLine_4 : cX1_firstLine.data.toList.drop 95 = dktX1_firstLine_4 := dk_seg dksX1_firstLine_3 23 rfl rfl
theorem dksX1_firstLine_5 : cX1_firstLine.data.toList.drop 119 = dktX1_firstLine_5 := dk_seg dksX1_firstLine_4 24 rfl rfl
theorem dksX1_firstLine_6 : cX1_firstLine.data.toList.drop 141 = dktX1_firstLine_6 := dk_seg dksX1_firstLine_5 22 rfl rfl
theorem dX1_firstLine_0 : decode cX1_firstLine 0 = .ok (.iload_n 1, 1) := dk_27 (dk_at dksX1_firstLine_0 0 rfl rfl)
theorem dX1_firstLine_1 : decode cX1_firstLine 1 = .ok (.iload_n 2, 1) := dk_28 (dk_at dksX1_firstLine_0 1 rfl rfl)
theorem dX1_firstLine_2 : decode cX1_firstLine 2 = .ok (.if_icmp .ne 7, 3) := dk_160 0 7 (dk_at dksX1_firstLine_0 2 rfl rfl)
theorem dX1_firstLine_5 : decode cX1_firstLine 5 = .ok (.iconst 1, 1) := dk_4 (dk_at dksX1_firstLine_0 5 rfl rfl)
theorem dX1_firstLine_6 : decode cX1_firstLine 6 = .ok (.goto 4, 3) := dk_167 0 4 (dk_at dksX1_firstLine_0 6 rfl rfl)
theorem dX1_firstLine_9 : decode cX1_firstLine 9 = .ok (.iconst 0, 1) := dk_3 (dk_at dksX1_firstLine_0 9 rfl rfl)
theorem dX1_firstLine_10 : decode cX1_firstLine 10 = .ok (.istore 4, 2) := dk_54 4 (dk_at dksX1_firstLine_0 10 rfl rfl)
theorem dX1_firstLine_12 : decode cX1_firstLine 12 = .ok (.aload_n 0, 1) := dk_42 (dk_at dksX1_firstLine_0 12 rfl rfl)
theorem dX1_firstLine_13 : decode cX1_firstLine 13 = .ok (.lconst 0, 1) := dk_9 (dk_at dksX1_firstLine_0 13 rfl rfl)
theorem dX1_firstLine_14 : decode cX1_firstLine 14 = .ok (.putfield 247, 3) := dk_181 0 247 (dk_at dksX1_firstLine_0 14 rfl rfl)
theorem dX1_firstLine_17 : decode cX1_firstLine 17 = .ok (.aload_n 0, 1) := dk_42 (dk_at dksX1_firstLine_0 17 rfl rfl)
theorem dX1_firstLine_18 : decode cX1_firstLine 18 = .ok (.lconst 0, 1) := dk_9 (dk_at dksX1_firstLine_0 18 rfl rfl)
theorem dX1_firstLine_19 : decode cX1_firstLine 19 = .ok (.putfield 250, 3) := dk_181 0 250 (dk_at dksX1_firstLine_0 19 rfl rfl)
theorem dX1_firstLine_22 : decode cX1_firstLine 22 = .ok (.aload_n 0, 1) := dk_42 (dk_at dksX1_firstLine_0 22 rfl rfl)
theorem dX1_firstLine_23 : decode cX1_firstLine 23 = .ok (.iload_n 1, 1) := dk_27 (dk_at dksX1_firstLine_0 23 rfl rfl)
theorem dX1_firstLine_24 : decode cX1_firstLine 24 = .ok (.iload_n 2, 1) := dk_28 (dk_at dksX1_firstLine_1 0 rfl rfl)
theorem dX1_firstLine_25 : decode cX1_firstLine 25 = .ok (.invokevirtual 180, 3) := dk_182 0 180 (dk_at dksX1_firstLine_1 1 rfl rfl)
theorem dX1_firstLine_28 : decode cX1_firstLine 28 = .ok (.iload_n 1, 1) := dk_27 (dk_at dksX1_firstLine_1 4 rfl rfl)
theorem dX1_firstLine_29 : decode cX1_firstLine 29 = .ok (.iload_n 2, 1) := dk_28 (dk_at dksX1_firstLine_1 5 rfl rfl)
theorem dX1_firstLine_30 : decode cX1_firstLine 30 = .ok (.if_icmp .eq 15, 3) := dk_159 0 15 (dk_at dksX1_firstLine_1 6 rfl rfl)
theorem dX1_firstLine_33 : decode cX1_firstLine 33 = .ok (.aload_n 0, 1) := dk_42 (dk_at dksX1_firstLine_1 9 rfl rfl)
theorem dX1_firstLine_34 : decode cX1_firstLine 34 = .ok (.iconst 1, 1) := dk_4 (dk_at dksX1_firstLine_1 10 rfl rfl)
theorem dX1_firstLine_35 : decode cX1_firstLine 35 = .ok (.invokevirtual 184, 3) := dk_182 0 184 (dk_at dksX1_firstLine_1 11 rfl rfl)
theorem dX1_firstLine_38 : decode cX1_firstLine 38 = .ok (.ifCond .eq 7, 3) := dk_153 0 7 (dk_at dksX1_firstLine_1 14 rfl rfl)
theorem dX1_firstLine_41 : decode cX1_firstLine 41 = .ok (.iconst 1, 1) := dk_4 (dk_at dksX1_firstLine_1 17 rfl rfl)
theorem dX1_firstLine_42 : decode cX1_firstLine 42 = .ok (.goto 4, 3) := dk_167 0 4 (dk_at dksX1_firstLine_1 18 rfl rfl)
theorem dX1_firstLine_45 : decode cX1_firstLine 45 = .ok (.iconst 0, 1) := dk_3 (dk_at dksX1_firstLine_1 21 rfl rfl)
theorem dX1_firstLine_46 : decode cX1_firstLine 46 = .ok (.istore 5, 2) := dk_54 5 (dk_at dksX1_firstLine_1 22 rfl rfl)
theorem dX1_firstLine_48 : decode cX1_firstLine 48 = .ok (.iload 5, 2) := dk_21 5 (dk_at dksX1_firstLine_2 0 rfl rfl)
theorem dX1_firstLine_50 : decode cX1_firstLine 50 = .ok (.ifCond .eq 94, 3) := dk_153 0 94 (dk_at dksX1_firstLine_2 2 rfl rfl)
theorem dX1_firstLine_53 : decode cX1_firstLine 53 = .ok (.aload_n 0, 1) := dk_42 (dk_at dksX1_firstLine_2 5 rfl rfl)
theorem dX1_firstLine_54 : decode cX1_firstLine 54 = .ok (.iconst 2, 1) := dk_5 (dk_at dksX1_firstLine_2 6 rfl rfl)
theorem dX1_firstLine_55 : decode cX1_firstLine 55 = .ok (.invokevirtual 196, 3) := dk_182 0 196 (dk_at dksX1_firstLine_2 7 rfl rfl)
theorem dX1_firstLine_58 : decode cX1_firstLine 58 = .ok (.lstore 6, 2) := dk_55 6 (dk_at dksX1_firstLine_2 10 rfl rfl)
theorem dX1_firstLine_60 : decode cX1_firstLine 60 = .ok (.aload_n 0, 1) := dk_42 (dk_at dksX1_firstLine_2 12 rfl rfl)
theorem dX1_firstLine_61 : decode cX1_firstLine 61 = .ok (.iconst 3, 1) := dk_6 (dk_at dksX1_firstLine_2 13 rfl rfl)
theorem dX1_firstLine_62 : decode cX1_firstLine 62 = .ok (.invokevirtual 196, 3) := dk_182 0 196 (dk_at dksX1_firstLine_2 14 rfl rfl)
theorem dX1_firstLine_65 : decode cX1_firstLine 65 = .ok (.lstore 8, 2) := dk_55 8 (dk_at dksX1_firstLine_2 17 rfl rfl)
theorem dX1_firstLine_67 : decode cX1_firstLine 67 = .ok (.lload 6, 2) := dk_22 6 (dk_at dksX1_firstLine_2 19 rfl rfl)
theorem dX1_firstLine_69 : decode cX1_firstLine 69 = .ok (.lload 8, 2) := dk_22 8 (dk_at dksX1_firstLine_2 21 rfl rfl)
theorem dX1_firstLine_71 : decode cX1_firstLine 71 = .ok (.iload_n 3, 1) := dk_29 (dk_at dksX1_firstLine_2 23 rfl rfl)
theorem dX1_firstLine_72 : decode cX1_firstLine 72 = .ok (.i2l, 1) := dk_133 (dk_at dksX1_firstLine_3 0 rfl rfl)
theorem dX1_firstLine_73 : decode cX1_firstLine 73 = .ok (.lmul, 1) := dk_105 (dk_at dksX1_firstLine_3 1 rfl rfl)
theorem dX1_firstLine_74 : decode cX1_firstLine 74 = .ok (.ladd, 1) := dk_97 (dk_at dksX1_firstLine_3 2 rfl rfl)
theorem dX1_firstLine_75 : decode cX1_firstLine 75 = .ok (.aload_n 0, 1) := dk_42 (dk_at dksX1_firstLine_3 3 rfl rfl)
theorem dX1_firstLine_76 : decode cX1_firstLine 76 = .ok (.getfield 247, 3) := dk_180 0 247 (dk_at dksX1_firstLine_3 4 rfl rfl)
theorem dX1_firstLine_79 : decode cX1_firstLine 79 = .ok (.lsub, 1) := dk_101 (dk_at dksX1_firstLine_3 7 rfl rfl)
theorem dX1_firstLine_80 : decode cX1_firstLine 80 = .ok (.aload_n 0, 1) := dk_42 (dk_at dksX1_firstLine_3 8 rfl rfl)
theorem dX1_firstLine_81 : decode cX1_firstLine 81 = .ok (.getfield 250, 3) := dk_180 0 250 (dk_at dksX1_firstLine_3 9 rfl rfl)
theorem dX1_firstLine_84 : decode cX1_firstLine 84 = .ok (.iload_n 3, 1) := dk_29 (dk_at dksX1_firstLine_3 12 rfl rfl)
theorem dX1_firstLine_85 : decode cX1_firstLine 85 = .ok (.i2l, 1) := dk_133 (dk_at dksX1_firstLine_3 13 rfl rfl)
theorem dX1_firstLine_86 : decode cX1_firstLine 86 = .ok (.lmul, 1) := dk_105 (dk_at dksX1_firstLine_3 14 rfl rfl)
theorem dX1_firstLine_87 : decode cX1_firstLine 87 = .ok (.lsub, 1) := dk_101 (dk_at dksX1_firstLine_3 15 rfl rfl)
theorem dX1_firstLine_88 : decode cX1_firstLine 88 = .ok (.lstore 10, 2) := dk_55 10 (dk_at dksX1_firstLine_3 16 rfl rfl)
theorem dX1_firstLine_90 : decode cX1_firstLine 90 = .ok (.iload 4, 2) := dk_21 4 (dk_at dksX1_firstLine_3 18 rfl rfl)
theorem dX1_firstLine_92 : decode cX1_firstLine 92 = .ok (.ifCond .eq 27, 3) := dk_153 0 27 (dk_at dksX1_firstLine_3 20 rfl rfl)
theorem dX1_firstLine_95 : decode cX1_firstLine 95 = .ok (.lload 10, 2) := dk_22 10 (dk_at dksX1_firstLine_4 0 rfl rfl)
theorem dX1_firstLine_97 : decode cX1_firstLine 97 = .ok (.lconst 0, 1) := dk_9 (dk_at dksX1_firstLine_4 2 rfl rfl)
theorem dX1_firstLine_98 : decode cX1_firstLine 98 = .ok (.lcmp, 1) := dk_148 (dk_at dksX1_firstLine_4 3 rfl rfl)
theorem dX1_firstLine_99 : decode cX1_firstLine 99 = .ok (.ifCond .lt 20, 3) := dk_155 0 20 (dk_at dksX1_firstLine_4 4 rfl rfl)
theorem dX1_firstLine_102 : decode cX1_firstLine 102 = .ok (.lload 10, 2) := dk_22 10 (dk_at dksX1_firstLine_4 7 rfl rfl)
theorem dX1_firstLine_104 : decode cX1_firstLine 104 = .ok (.lconst 0, 1) := dk_9 (dk_at dksX1_firstLine_4 9 rfl rfl)
theorem dX1_firstLine_105 : decode cX1_firstLine 105 = .ok (.lcmp, 1) := dk_148 (dk_at dksX1_firstLine_4 10 rfl rfl)
theorem dX1_firstLine_106 : decode cX1_firstLine 106 = .ok (.ifCond .ne 25, 3) := dk_154 0 25 (dk_at dksX1_firstLine_4 11 rfl rfl)
theorem dX1_firstLine_109 : decode cX1_firstLine 109 = .ok (.lload 8, 2) := dk_22 8 (dk_at dksX1_firstLine_4 14 rfl rfl)
theorem dX1_firstLine_111 : decode cX1_firstLine 111 = .ok (.aload_n 0, 1) := dk_42 (dk_at dksX1_firstLine_4 16 rfl rfl)
theorem dX1_firstLine_112 : decode cX1_firstLine 112 = .ok (.getfield 250, 3) := dk_180 0 250 (dk_at dksX1_firstLine_4 17 rfl rfl)
theorem dX1_firstLine_115 : decode cX1_firstLine 115 = .ok (.lcmp, 1) := dk_148 (dk_at dksX1_firstLine_4 20 rfl rfl)
theorem dX1_firstLine_116 : decode cX1_firstLine 116 = .ok (.ifCond .ge 15, 3) := dk_156 0 15 (dk_at dksX1_firstLine_4 21 rfl rfl)
theorem dX1_firstLine_119 : decode cX1_firstLine 119 = .ok (.aload_n 0, 1) := dk_42 (dk_at dksX1_firstLine_5 0 rfl rfl)
theorem dX1_firstLine_120 : decode cX1_firstLine 120 = .ok (.lload 6, 2) := dk_22 6 (dk_at dksX1_firstLine_5 1 rfl rfl)
theorem dX1_firstLine_122 : decode cX1_firstLine 122 = .ok (.putfield 247, 3) := dk_181 0 247 (dk_at dksX1_firstLine_5 3 rfl rfl)
theorem dX1_firstLine_125 : decode cX1_firstLine 125 = .ok (.aload_n 0, 1) := dk_42 (dk_at dksX1_firstLine_5 6 rfl rfl)
theorem dX1_firstLine_126 : decode cX1_firstLine 126 = .ok (.lload 8, 2) := dk_22 8 (dk_at dksX1_firstLine_5 7 rfl rfl)
theorem dX1_firstLine_128 : decode cX1_firstLine 128 = .ok (.putfield 250, 3) := dk_181 0 250 (dk_at dksX1_firstLine_5 9 rfl rfl)
theorem dX1_firstLine_131 : decode cX1_firstLine 131 = .ok (.iconst 1, 1) := dk_4 (dk_at dksX1_firstLine_5 12 rfl rfl)
theorem dX1_firstLine_132 : decode cX1_firstLine 132 = .ok (.istore 4, 2) := dk_54 4 (dk_at dksX1_firstLine_5 13 rfl rfl)
theorem dX1_firstLine_134 : decode cX1_firstLine 134 = .ok (.aload_n 0, 1) := dk_42 (dk_at dksX1_firstLine_5 15 rfl rfl)
theorem dX1_firstLine_135 : decode cX1_firstLine 135 = .ok (.iconst 0, 1) := dk_3 (dk_at dksX1_firstLine_5 16 rfl rfl)
theorem dX1_firstLine_136 : decode cX1_firstLine 136 = .ok (.invokevirtual 184, 3) := dk_182 0 184 (dk_at dksX1_firstLine_5 17 rfl rfl)
theorem dX1_firstLine_139 : decode cX1_firstLine 139 = .ok (.istore 5, 2) := dk_54 5 (dk_at dksX1_firstLine_5 20 rfl rfl)
theorem dX1_firstLine_141 : decode cX1_firstLine 141 = .ok (.goto (-93), 3) := dk_167 255 163 (dk_at dksX1_firstLine_6 0 rfl rfl)
theorem dX1_firstLine_144 : decode cX1_firstLine 144 = .ok (.iload 4, 2) := dk_21 4 (dk_at dksX1_firstLine_6 3 rfl rfl)
theorem dX1_firstLine_146 : decode cX1_firstLine 146 = .ok (.ireturn, 1) := dk_172 (dk_at dksX1_firstLine_6 5 rfl rfl)
abbrev cX1_lays : ByteArray := prog_20_method_57_code
def yX1_lays : MethodName := ⟨RX1, "lays", "(IJJ)V"⟩
def dkwX1_lays_2 : List UInt8 := [42, 180, 0, 30, 7, 27, 104, 6, 96, 22, 4, 22, 6, 109, 80, 177]
abbrev dktX1_lays_2 : List UInt8 := dkwX1_lays_2 ++ []
def dkwX1_lays_1 : List UInt8 := [7, 27, 104, 4, 96, 42, 180, 0, 250, 80, 42, 180, 0, 30, 7, 27, 104, 5, 96, 32, 22, 6, 109, 80]
abbrev dktX1_lays_1 : List UInt8 := dkwX1_lays_1 ++ dktX1_lays_2
def dkwX1_lays_0 : List UInt8 := [32, 22, 4, 184, 0, 171, 55, 6, 42, 180, 0, 30, 7, 27, 104, 42, 180, 0, 247, 80, 42, 180, 0, 30]
abbrev dktX1_lays_0 : List UInt8 := dkwX1_lays_0 ++ dktX1_lays_1
theorem dksX1_lays_0 : cX1_lays.data.toList.drop 0 = dktX1_lays_0 := by decide +kernel
theorem dksX1_lays_1 : cX1_lays.data.toList.drop 24 = dktX1_lays_1 := dk_seg dksX1_lays_0 24 rfl rfl
theorem dksX1_lays_2 : cX1_lays.data.toList.drop 48 = dktX1_lays_2 := dk_seg dksX1_lays_1 24 rfl rfl
theorem dX1_lays_0 : decode cX1_lays 0 = .ok (.lload_n 2, 1) := dk_32 (dk_at dksX1_lays_0 0 rfl rfl)
theorem dX1_lays_1 : decode cX1_lays 1 = .ok (.lload 4, 2) := dk_22 4 (dk_at dksX1_lays_0 1 rfl rfl)
theorem dX1_lays_3 : decode cX1_lays 3 = .ok (.invokestatic 171, 3) := dk_184 0 171 (dk_at dksX1_lays_0 3 rfl rfl)
theorem dX1_lays_6 : decode cX1_lays 6 = .ok (.lstore 6, 2) := dk_55 6 (dk_at dksX1_lays_0 6 rfl rfl)
theorem dX1_lays_8 : decode cX1_lays 8 = .ok (.aload_n 0, 1) := dk_42 (dk_at dksX1_lays_0 8 rfl rfl)
theorem dX1_lays_9 : decode cX1_lays 9 = .ok (.getfield 30, 3) := dk_180 0 30 (dk_at dksX1_lays_0 9 rfl rfl)
theorem dX1_lays_12 : decode cX1_lays 12 = .ok (.iconst 4, 1) := dk_7 (dk_at dksX1_lays_0 12 rfl rfl)
theorem dX1_lays_13 : decode cX1_lays 13 = .ok (.iload_n 1, 1) := dk_27 (dk_at dksX1_lays_0 13 rfl rfl)
theorem dX1_lays_14 : decode cX1_lays 14 = .ok (.imul, 1) := dk_104 (dk_at dksX1_lays_0 14 rfl rfl)
theorem dX1_lays_15 : decode cX1_lays 15 = .ok (.aload_n 0, 1) := dk_42 (dk_at dksX1_lays_0 15 rfl rfl)
theorem dX1_lays_16 : decode cX1_lays 16 = .ok (.getfield 247, 3) := dk_180 0 247 (dk_at dksX1_lays_0 16 rfl rfl)
theorem dX1_lays_19 : decode cX1_lays 19 = .ok (.lastore, 1) := dk_80 (dk_at dksX1_lays_0 19 rfl rfl)
theorem dX1_lays_20 : decode cX1_lays 20 = .ok (.aload_n 0, 1) := dk_42 (dk_at dksX1_lays_0 20 rfl rfl)
theorem dX1_lays_21 : decode cX1_lays 21 = .ok (.getfield 30, 3) := dk_180 0 30 (dk_at dksX1_lays_0 21 rfl rfl)
theorem dX1_lays_24 : decode cX1_lays 24 = .ok (.iconst 4, 1) := dk_7 (dk_at dksX1_lays_1 0 rfl rfl)
theorem dX1_lays_25 : decode cX1_lays 25 = .ok (.iload_n 1, 1) := dk_27 (dk_at dksX1_lays_1 1 rfl rfl)
theorem dX1_lays_26 : decode cX1_lays 26 = .ok (.imul, 1) := dk_104 (dk_at dksX1_lays_1 2 rfl rfl)
theorem dX1_lays_27 : decode cX1_lays 27 = .ok (.iconst 1, 1) := dk_4 (dk_at dksX1_lays_1 3 rfl rfl)
theorem dX1_lays_28 : decode cX1_lays 28 = .ok (.iadd, 1) := dk_96 (dk_at dksX1_lays_1 4 rfl rfl)
theorem dX1_lays_29 : decode cX1_lays 29 = .ok (.aload_n 0, 1) := dk_42 (dk_at dksX1_lays_1 5 rfl rfl)
theorem dX1_lays_30 : decode cX1_lays 30 = .ok (.getfield 250, 3) := dk_180 0 250 (dk_at dksX1_lays_1 6 rfl rfl)
theorem dX1_lays_33 : decode cX1_lays 33 = .ok (.lastore, 1) := dk_80 (dk_at dksX1_lays_1 9 rfl rfl)
theorem dX1_lays_34 : decode cX1_lays 34 = .ok (.aload_n 0, 1) := dk_42 (dk_at dksX1_lays_1 10 rfl rfl)
theorem dX1_lays_35 : decode cX1_lays 35 = .ok (.getfield 30, 3) := dk_180 0 30 (dk_at dksX1_lays_1 11 rfl rfl)
theorem dX1_lays_38 : decode cX1_lays 38 = .ok (.iconst 4, 1) := dk_7 (dk_at dksX1_lays_1 14 rfl rfl)
theorem dX1_lays_39 : decode cX1_lays 39 = .ok (.iload_n 1, 1) := dk_27 (dk_at dksX1_lays_1 15 rfl rfl)
theorem dX1_lays_40 : decode cX1_lays 40 = .ok (.imul, 1) := dk_104 (dk_at dksX1_lays_1 16 rfl rfl)
theorem dX1_lays_41 : decode cX1_lays 41 = .ok (.iconst 2, 1) := dk_5 (dk_at dksX1_lays_1 17 rfl rfl)
theorem dX1_lays_42 : decode cX1_lays 42 = .ok (.iadd, 1) := dk_96 (dk_at dksX1_lays_1 18 rfl rfl)
theorem dX1_lays_43 : decode cX1_lays 43 = .ok (.lload_n 2, 1) := dk_32 (dk_at dksX1_lays_1 19 rfl rfl)
theorem dX1_lays_44 : decode cX1_lays 44 = .ok (.lload 6, 2) := dk_22 6 (dk_at dksX1_lays_1 20 rfl rfl)
theorem dX1_lays_46 : decode cX1_lays 46 = .ok (.ldiv, 1) := dk_109 (dk_at dksX1_lays_1 22 rfl rfl)
theorem dX1_lays_47 : decode cX1_lays 47 = .ok (.lastore, 1) := dk_80 (dk_at dksX1_lays_1 23 rfl rfl)
theorem dX1_lays_48 : decode cX1_lays 48 = .ok (.aload_n 0, 1) := dk_42 (dk_at dksX1_lays_2 0 rfl rfl)
theorem dX1_lays_49 : decode cX1_lays 49 = .ok (.getfield 30, 3) := dk_180 0 30 (dk_at dksX1_lays_2 1 rfl rfl)
theorem dX1_lays_52 : decode cX1_lays 52 = .ok (.iconst 4, 1) := dk_7 (dk_at dksX1_lays_2 4 rfl rfl)
theorem dX1_lays_53 : decode cX1_lays 53 = .ok (.iload_n 1, 1) := dk_27 (dk_at dksX1_lays_2 5 rfl rfl)
theorem dX1_lays_54 : decode cX1_lays 54 = .ok (.imul, 1) := dk_104 (dk_at dksX1_lays_2 6 rfl rfl)
theorem dX1_lays_55 : decode cX1_lays 55 = .ok (.iconst 3, 1) := dk_6 (dk_at dksX1_lays_2 7 rfl rfl)
theorem dX1_lays_56 : decode cX1_lays 56 = .ok (.iadd, 1) := dk_96 (dk_at dksX1_lays_2 8 rfl rfl)
theorem dX1_lays_57 : decode cX1_lays 57 = .ok (.lload 4, 2) := dk_22 4 (dk_at dksX1_lays_2 9 rfl rfl)
theorem dX1_lays_59 : decode cX1_lays 59 = .ok (.lload 6, 2) := dk_22 6 (dk_at dksX1_lays_2 11 rfl rfl)
theorem dX1_lays_61 : decode cX1_lays 61 = .ok (.ldiv, 1) := dk_109 (dk_at dksX1_lays_2 13 rfl rfl)
theorem dX1_lays_62 : decode cX1_lays 62 = .ok (.lastore, 1) := dk_80 (dk_at dksX1_lays_2 14 rfl rfl)
theorem dX1_lays_63 : decode cX1_lays 63 = .ok (.return_, 1) := dk_177 (dk_at dksX1_lays_2 15 rfl rfl)
abbrev cX1_nextLine : ByteArray := prog_20_method_56_code
def yX1_nextLine : MethodName := ⟨RX1, "nextLine", "(II)Z"⟩
def dkwX1_nextLine_7 : List UInt8 := [22, 4, 181, 0, 247, 42, 22, 6, 181, 0, 250, 29, 172]
abbrev dktX1_nextLine_7 : List UInt8 := dkwX1_nextLine_7 ++ []
def dkwX1_nextLine_6 : List UInt8 := [22, 11, 101, 181, 1, 0, 4, 62, 42, 3, 182, 0, 184, 54, 8, 167, 255, 135, 29, 153, 0, 15, 42]
abbrev dktX1_nextLine_6 : List UInt8 := dkwX1_nextLine_6 ++ dktX1_nextLine_7
def dkwX1_nextLine_5 : List UInt8 := [22, 9, 55, 4, 22, 11, 55, 6, 42, 22, 9, 42, 180, 0, 247, 101, 181, 0, 253, 42, 42, 180, 0, 250]
abbrev dktX1_nextLine_5 : List UInt8 := dkwX1_nextLine_5 ++ dktX1_nextLine_6
def dkwX1_nextLine_4 : List UInt8 := [167, 0, 4, 2, 54, 13, 21, 13, 155, 0, 16, 21, 13, 154, 0, 41, 22, 11, 22, 6, 148, 156, 0, 33]
abbrev dktX1_nextLine_4 : List UInt8 := dkwX1_nextLine_4 ++ dktX1_nextLine_5
def dkwX1_nextLine_3 : List UInt8 := [180, 0, 247, 101, 42, 180, 0, 250, 22, 11, 101, 42, 180, 0, 253, 42, 180, 1, 0, 184, 0, 163]
abbrev dktX1_nextLine_3 : List UInt8 := dkwX1_nextLine_3 ++ dktX1_nextLine_4
def dkwX1_nextLine_2 : List UInt8 := [182, 0, 196, 55, 11, 22, 11, 42, 180, 0, 250, 148, 156, 0, 88, 29, 153, 0, 31, 22, 9, 42]
abbrev dktX1_nextLine_2 : List UInt8 := dkwX1_nextLine_2 ++ dktX1_nextLine_3
def dkwX1_nextLine_1 : List UInt8 := [153, 0, 7, 4, 167, 0, 4, 3, 54, 8, 21, 8, 153, 0, 122, 42, 5, 182, 0, 196, 55, 9, 42, 6]
abbrev dktX1_nextLine_1 : List UInt8 := dkwX1_nextLine_1 ++ dktX1_nextLine_2
def dkwX1_nextLine_0 : List UInt8 := [3, 62, 9, 55, 4, 9, 55, 6, 42, 27, 28, 182, 0, 180, 27, 28, 159, 0, 15, 42, 4, 182, 0, 184]
abbrev dktX1_nextLine_0 : List UInt8 := dkwX1_nextLine_0 ++ dktX1_nextLine_1
theorem dksX1_nextLine_0 : cX1_nextLine.data.toList.drop 0 = dktX1_nextLine_0 := by decide +kernel
theorem dksX1_nextLine_1 : cX1_nextLine.data.toList.drop 24 = dktX1_nextLine_1 := dk_seg dksX1_nextLine_0 24 rfl rfl
theorem dksX1_nextLine_2 : cX1_nextLine.data.toList.drop 48 = dktX1_nextLine_2 := dk_seg dksX1_nextLine_1 24 rfl rfl
theorem dksX1_nextLine_3 : cX1_nextLine.data.toList.drop 70 = dktX1_nextLine_3 := dk_seg dksX1_nextLine_2 22 rfl rfl
theorem dksX1_nextLine_4 : cX1_nextLine.data.toList.drop 92 = dktX1_nextLine_4 := dk_seg dksX1_nextLine_3 22 rfl rfl
theorem dksX1_nextLine_5 : cX1_nextLine.data.toList.drop 116 = dktX1_nextLine_5 := dk_seg dksX1_nextLine_4 24 rfl rfl
theorem dksX1_nextLine_6 : cX1_nextLine.data.toList.drop 140 = dktX1_nextLine_6 := dk_seg dksX1_nextLine_5 24 rfl rfl
theorem dksX1_nextLine_7 : cX1_nextLine.data.toList.drop 163 = dktX1_nextLine_7 := dk_seg dksX1_nextLine_6 23 rfl rfl
theorem dX1_nextLine_0 : decode cX1_nextLine 0 = .ok (.iconst 0, 1) := dk_3 (dk_at dksX1_nextLine_0 0 rfl rfl)
theorem dX1_nextLine_1 : decode cX1_nextLine 1 = .ok (.istore_n 3, 1) := dk_62 (dk_at dksX1_nextLine_0 1 rfl rfl)
theorem dX1_nextLine_2 : decode cX1_nextLine 2 = .ok (.lconst 0, 1) := dk_9 (dk_at dksX1_nextLine_0 2 rfl rfl)
theorem dX1_nextLine_3 : decode cX1_nextLine 3 = .ok (.lstore 4, 2) := dk_55 4 (dk_at dksX1_nextLine_0 3 rfl rfl)
theorem dX1_nextLine_5 : decode cX1_nextLine 5 = .ok (.lconst 0, 1) := dk_9 (dk_at dksX1_nextLine_0 5 rfl rfl)
theorem dX1_nextLine_6 : decode cX1_nextLine 6 = .ok (.lstore 6, 2) := dk_55 6 (dk_at dksX1_nextLine_0 6 rfl rfl)
theorem dX1_nextLine_8 : decode cX1_nextLine 8 = .ok (.aload_n 0, 1) := dk_42 (dk_at dksX1_nextLine_0 8 rfl rfl)
theorem dX1_nextLine_9 : decode cX1_nextLine 9 = .ok (.iload_n 1, 1) := dk_27 (dk_at dksX1_nextLine_0 9 rfl rfl)
theorem dX1_nextLine_10 : decode cX1_nextLine 10 = .ok (.iload_n 2, 1) := dk_28 (dk_at dksX1_nextLine_0 10 rfl rfl)
theorem dX1_nextLine_11 : decode cX1_nextLine 11 = .ok (.invokevirtual 180, 3) := dk_182 0 180 (dk_at dksX1_nextLine_0 11 rfl rfl)
theorem dX1_nextLine_14 : decode cX1_nextLine 14 = .ok (.iload_n 1, 1) := dk_27 (dk_at dksX1_nextLine_0 14 rfl rfl)
theorem dX1_nextLine_15 : decode cX1_nextLine 15 = .ok (.iload_n 2, 1) := dk_28 (dk_at dksX1_nextLine_0 15 rfl rfl)
theorem dX1_nextLine_16 : decode cX1_nextLine 16 = .ok (.if_icmp .eq 15, 3) := dk_159 0 15 (dk_at dksX1_nextLine_0 16 rfl rfl)
theorem dX1_nextLine_19 : decode cX1_nextLine 19 = .ok (.aload_n 0, 1) := dk_42 (dk_at dksX1_nextLine_0 19 rfl rfl)
theorem dX1_nextLine_20 : decode cX1_nextLine 20 = .ok (.iconst 1, 1) := dk_4 (dk_at dksX1_nextLine_0 20 rfl rfl)
theorem dX1_nextLine_21 : decode cX1_nextLine 21 = .ok (.invokevirtual 184, 3) := dk_182 0 184 (dk_at dksX1_nextLine_0 21 rfl rfl)
theorem dX1_nextLine_24 : decode cX1_nextLine 24 = .ok (.ifCond .eq 7, 3) := dk_153 0 7 (dk_at dksX1_nextLine_1 0 rfl rfl)
theorem dX1_nextLine_27 : decode cX1_nextLine 27 = .ok (.iconst 1, 1) := dk_4 (dk_at dksX1_nextLine_1 3 rfl rfl)
theorem dX1_nextLine_28 : decode cX1_nextLine 28 = .ok (.goto 4, 3) := dk_167 0 4 (dk_at dksX1_nextLine_1 4 rfl rfl)
theorem dX1_nextLine_31 : decode cX1_nextLine 31 = .ok (.iconst 0, 1) := dk_3 (dk_at dksX1_nextLine_1 7 rfl rfl)
theorem dX1_nextLine_32 : decode cX1_nextLine 32 = .ok (.istore 8, 2) := dk_54 8 (dk_at dksX1_nextLine_1 8 rfl rfl)
theorem dX1_nextLine_34 : decode cX1_nextLine 34 = .ok (.iload 8, 2) := dk_21 8 (dk_at dksX1_nextLine_1 10 rfl rfl)
theorem dX1_nextLine_36 : decode cX1_nextLine 36 = .ok (.ifCond .eq 122, 3) := dk_153 0 122 (dk_at dksX1_nextLine_1 12 rfl rfl)
theorem dX1_nextLine_39 : decode cX1_nextLine 39 = .ok (.aload_n 0, 1) := dk_42 (dk_at dksX1_nextLine_1 15 rfl rfl)
theorem dX1_nextLine_40 : decode cX1_nextLine 40 = .ok (.iconst 2, 1) := dk_5 (dk_at dksX1_nextLine_1 16 rfl rfl)
theorem dX1_nextLine_41 : decode cX1_nextLine 41 = .ok (.invokevirtual 196, 3) := dk_182 0 196 (dk_at dksX1_nextLine_1 17 rfl rfl)
theorem dX1_nextLine_44 : decode cX1_nextLine 44 = .ok (.lstore 9, 2) := dk_55 9 (dk_at dksX1_nextLine_1 20 rfl rfl)
theorem dX1_nextLine_46 : decode cX1_nextLine 46 = .ok (.aload_n 0, 1) := dk_42 (dk_at dksX1_nextLine_1 22 rfl rfl)
theorem dX1_nextLine_47 : decode cX1_nextLine 47 = .ok (.iconst 3, 1) := dk_6 (dk_at dksX1_nextLine_1 23 rfl rfl)
theorem dX1_nextLine_48 : decode cX1_nextLine 48 = .ok (.invokevirtual 196, 3) := dk_182 0 196 (dk_at dksX1_nextLine_2 0 rfl rfl)
theorem dX1_nextLine_51 : decode cX1_nextLine 51 = .ok (.lstore 11, 2) := dk_55 11 (dk_at dksX1_nextLine_2 3 rfl rfl)
theorem dX1_nextLine_53 : decode cX1_nextLine 53 = .ok (.lload 11, 2) := dk_22 11 (dk_at dksX1_nextLine_2 5 rfl rfl)
theorem dX1_nextLine_55 : decode cX1_nextLine 55 = .ok (.aload_n 0, 1) := dk_42 (dk_at dksX1_nextLine_2 7 rfl rfl)
theorem dX1_nextLine_56 : decode cX1_nextLine 56 = .ok (.getfield 250, 3) := dk_180 0 250 (dk_at dksX1_nextLine_2 8 rfl rfl)
theorem dX1_nextLine_59 : decode cX1_nextLine 59 = .ok (.lcmp, 1) := dk_148 (dk_at dksX1_nextLine_2 11 rfl rfl)
theorem dX1_nextLine_60 : decode cX1_nextLine 60 = .ok (.ifCond .ge 88, 3) := dk_156 0 88 (dk_at dksX1_nextLine_2 12 rfl rfl)
theorem dX1_nextLine_63 : decode cX1_nextLine 63 = .ok (.iload_n 3, 1) := dk_29 (dk_at dksX1_nextLine_2 15 rfl rfl)
theorem dX1_nextLine_64 : decode cX1_nextLine 64 = .ok (.ifCond .eq 31, 3) := dk_153 0 31 (dk_at dksX1_nextLine_2 16 rfl rfl)
theorem dX1_nextLine_67 : decode cX1_nextLine 67 = .ok (.lload 9, 2) := dk_22 9 (dk_at dksX1_nextLine_2 19 rfl rfl)
theorem dX1_nextLine_69 : decode cX1_nextLine 69 = .ok (.aload_n 0, 1) := dk_42 (dk_at dksX1_nextLine_2 21 rfl rfl)
theorem dX1_nextLine_70 : decode cX1_nextLine 70 = .ok (.getfield 247, 3) := dk_180 0 247 (dk_at dksX1_nextLine_3 0 rfl rfl)
theorem dX1_nextLine_73 : decode cX1_nextLine 73 = .ok (.lsub, 1) := dk_101 (dk_at dksX1_nextLine_3 3 rfl rfl)
theorem dX1_nextLine_74 : decode cX1_nextLine 74 = .ok (.aload_n 0, 1) := dk_42 (dk_at dksX1_nextLine_3 4 rfl rfl)
theorem dX1_nextLine_75 : decode cX1_nextLine 75 = .ok (.getfield 250, 3) := dk_180 0 250 (dk_at dksX1_nextLine_3 5 rfl rfl)
theorem dX1_nextLine_78 : decode cX1_nextLine 78 = .ok (.lload 11, 2) := dk_22 11 (dk_at dksX1_nextLine_3 8 rfl rfl)
theorem dX1_nextLine_80 : decode cX1_nextLine 80 = .ok (.lsub, 1) := dk_101 (dk_at dksX1_nextLine_3 10 rfl rfl)
theorem dX1_nextLine_81 : decode cX1_nextLine 81 = .ok (.aload_n 0, 1) := dk_42 (dk_at dksX1_nextLine_3 11 rfl rfl)
theorem dX1_nextLine_82 : decode cX1_nextLine 82 = .ok (.getfield 253, 3) := dk_180 0 253 (dk_at dksX1_nextLine_3 12 rfl rfl)
theorem dX1_nextLine_85 : decode cX1_nextLine 85 = .ok (.aload_n 0, 1) := dk_42 (dk_at dksX1_nextLine_3 15 rfl rfl)
theorem dX1_nextLine_86 : decode cX1_nextLine 86 = .ok (.getfield 256, 3) := dk_180 1 0 (dk_at dksX1_nextLine_3 16 rfl rfl)
theorem dX1_nextLine_89 : decode cX1_nextLine 89 = .ok (.invokestatic 163, 3) := dk_184 0 163 (dk_at dksX1_nextLine_3 19 rfl rfl)
theorem dX1_nextLine_92 : decode cX1_nextLine 92 = .ok (.goto 4, 3) := dk_167 0 4 (dk_at dksX1_nextLine_4 0 rfl rfl)
theorem dX1_nextLine_95 : decode cX1_nextLine 95 = .ok (.iconst (-1), 1) := dk_2 (dk_at dksX1_nextLine_4 3 rfl rfl)
theorem dX1_nextLine_96 : decode cX1_nextLine 96 = .ok (.istore 13, 2) := dk_54 13 (dk_at dksX1_nextLine_4 4 rfl rfl)
theorem dX1_nextLine_98 : decode cX1_nextLine 98 = .ok (.iload 13, 2) := dk_21 13 (dk_at dksX1_nextLine_4 6 rfl rfl)
theorem dX1_nextLine_100 : decode cX1_nextLine 100 = .ok (.ifCond .lt 16, 3) := dk_155 0 16 (dk_at dksX1_nextLine_4 8 rfl rfl)
theorem dX1_nextLine_103 : decode cX1_nextLine 103 = .ok (.iload 13, 2) := dk_21 13 (dk_at dksX1_nextLine_4 11 rfl rfl)
theorem dX1_nextLine_105 : decode cX1_nextLine 105 = .ok (.ifCond .ne 41, 3) := dk_154 0 41 (dk_at dksX1_nextLine_4 13 rfl rfl)
theorem dX1_nextLine_108 : decode cX1_nextLine 108 = .ok (.lload 11, 2) := dk_22 11 (dk_at dksX1_nextLine_4 16 rfl rfl)
theorem dX1_nextLine_110 : decode cX1_nextLine 110 = .ok (.lload 6, 2) := dk_22 6 (dk_at dksX1_nextLine_4 18 rfl rfl)
theorem dX1_nextLine_112 : decode cX1_nextLine 112 = .ok (.lcmp, 1) := dk_148 (dk_at dksX1_nextLine_4 20 rfl rfl)
theorem dX1_nextLine_113 : decode cX1_nextLine 113 = .ok (.ifCond .ge 33, 3) := dk_156 0 33 (dk_at dksX1_nextLine_4 21 rfl rfl)
theorem dX1_nextLine_116 : decode cX1_nextLine 116 = .ok (.lload 9, 2) := dk_22 9 (dk_at dksX1_nextLine_5 0 rfl rfl)
theorem dX1_nextLine_118 : decode cX1_nextLine 118 = .ok (.lstore 4, 2) := dk_55 4 (dk_at dksX1_nextLine_5 2 rfl rfl)
theorem dX1_nextLine_120 : decode cX1_nextLine 120 = .ok (.lload 11, 2) := dk_22 11 (dk_at dksX1_nextLine_5 4 rfl rfl)
theorem dX1_nextLine_122 : decode cX1_nextLine 122 = .ok (.lstore 6, 2) := dk_55 6 (dk_at dksX1_nextLine_5 6 rfl rfl)
theorem dX1_nextLine_124 : decode cX1_nextLine 124 = .ok (.aload_n 0, 1) := dk_42 (dk_at dksX1_nextLine_5 8 rfl rfl)
theorem dX1_nextLine_125 : decode cX1_nextLine 125 = .ok (.lload 9, 2) := dk_22 9 (dk_at dksX1_nextLine_5 9 rfl rfl)
theorem dX1_nextLine_127 : decode cX1_nextLine 127 = .ok (.aload_n 0, 1) := dk_42 (dk_at dksX1_nextLine_5 11 rfl rfl)
theorem dX1_nextLine_128 : decode cX1_nextLine 128 = .ok (.getfield 247, 3) := dk_180 0 247 (dk_at dksX1_nextLine_5 12 rfl rfl)
theorem dX1_nextLine_131 : decode cX1_nextLine 131 = .ok (.lsub, 1) := dk_101 (dk_at dksX1_nextLine_5 15 rfl rfl)
theorem dX1_nextLine_132 : decode cX1_nextLine 132 = .ok (.putfield 253, 3) := dk_181 0 253 (dk_at dksX1_nextLine_5 16 rfl rfl)
theorem dX1_nextLine_135 : decode cX1_nextLine 135 = .ok (.aload_n 0, 1) := dk_42 (dk_at dksX1_nextLine_5 19 rfl rfl)
theorem dX1_nextLine_136 : decode cX1_nextLine 136 = .ok (.aload_n 0, 1) := dk_42 (dk_at dksX1_nextLine_5 20 rfl rfl)
theorem dX1_nextLine_137 : decode cX1_nextLine 137 = .ok (.getfield 250, 3) := dk_180 0 250 (dk_at dksX1_nextLine_5 21 rfl rfl)
theorem dX1_nextLine_140 : decode cX1_nextLine 140 = .ok (.lload 11, 2) := dk_22 11 (dk_at dksX1_nextLine_6 0 rfl rfl)
theorem dX1_nextLine_142 : decode cX1_nextLine 142 = .ok (.lsub, 1) := dk_101 (dk_at dksX1_nextLine_6 2 rfl rfl)
theorem dX1_nextLine_143 : decode cX1_nextLine 143 = .ok (.putfield 256, 3) := dk_181 1 0 (dk_at dksX1_nextLine_6 3 rfl rfl)
theorem dX1_nextLine_146 : decode cX1_nextLine 146 = .ok (.iconst 1, 1) := dk_4 (dk_at dksX1_nextLine_6 6 rfl rfl)
theorem dX1_nextLine_147 : decode cX1_nextLine 147 = .ok (.istore_n 3, 1) := dk_62 (dk_at dksX1_nextLine_6 7 rfl rfl)
theorem dX1_nextLine_148 : decode cX1_nextLine 148 = .ok (.aload_n 0, 1) := dk_42 (dk_at dksX1_nextLine_6 8 rfl rfl)
theorem dX1_nextLine_149 : decode cX1_nextLine 149 = .ok (.iconst 0, 1) := dk_3 (dk_at dksX1_nextLine_6 9 rfl rfl)
theorem dX1_nextLine_150 : decode cX1_nextLine 150 = .ok (.invokevirtual 184, 3) := dk_182 0 184 (dk_at dksX1_nextLine_6 10 rfl rfl)
theorem dX1_nextLine_153 : decode cX1_nextLine 153 = .ok (.istore 8, 2) := dk_54 8 (dk_at dksX1_nextLine_6 13 rfl rfl)
theorem dX1_nextLine_155 : decode cX1_nextLine 155 = .ok (.goto (-121), 3) := dk_167 255 135 (dk_at dksX1_nextLine_6 15 rfl rfl)
theorem dX1_nextLine_158 : decode cX1_nextLine 158 = .ok (.iload_n 3, 1) := dk_29 (dk_at dksX1_nextLine_6 18 rfl rfl)
theorem dX1_nextLine_159 : decode cX1_nextLine 159 = .ok (.ifCond .eq 15, 3) := dk_153 0 15 (dk_at dksX1_nextLine_6 19 rfl rfl)
theorem dX1_nextLine_162 : decode cX1_nextLine 162 = .ok (.aload_n 0, 1) := dk_42 (dk_at dksX1_nextLine_6 22 rfl rfl)
theorem dX1_nextLine_163 : decode cX1_nextLine 163 = .ok (.lload 4, 2) := dk_22 4 (dk_at dksX1_nextLine_7 0 rfl rfl)
theorem dX1_nextLine_165 : decode cX1_nextLine 165 = .ok (.putfield 247, 3) := dk_181 0 247 (dk_at dksX1_nextLine_7 2 rfl rfl)
theorem dX1_nextLine_168 : decode cX1_nextLine 168 = .ok (.aload_n 0, 1) := dk_42 (dk_at dksX1_nextLine_7 5 rfl rfl)
theorem dX1_nextLine_169 : decode cX1_nextLine 169 = .ok (.lload 6, 2) := dk_22 6 (dk_at dksX1_nextLine_7 6 rfl rfl)
theorem dX1_nextLine_171 : decode cX1_nextLine 171 = .ok (.putfield 250, 3) := dk_181 0 250 (dk_at dksX1_nextLine_7 8 rfl rfl)
theorem dX1_nextLine_174 : decode cX1_nextLine 174 = .ok (.iload_n 3, 1) := dk_29 (dk_at dksX1_nextLine_7 11 rfl rfl)
theorem dX1_nextLine_175 : decode cX1_nextLine 175 = .ok (.ireturn, 1) := dk_172 (dk_at dksX1_nextLine_7 12 rfl rfl)
abbrev cX1_piece : ByteArray := prog_20_method_59_code
def yX1_piece : MethodName := ⟨RX1, "piece", "(II)J"⟩
def dkwX1_piece_2 : List UInt8 := [47, 167, 0, 6, 20, 0, 220, 173]
abbrev dktX1_piece_2 : List UInt8 := dkwX1_piece_2 ++ []
def dkwX1_piece_1 : List UInt8 := [154, 0, 7, 20, 0, 209, 173, 27, 42, 180, 1, 21, 162, 0, 16, 42, 180, 0, 30, 7, 27, 104, 28, 96]
abbrev dktX1_piece_1 : List UInt8 := dkwX1_piece_1 ++ dktX1_piece_2
def dkwX1_piece_0 : List UInt8 := [27, 155, 0, 15, 28, 133, 9, 20, 1, 28, 184, 0, 48, 154, 0, 7, 20, 0, 207, 173, 42, 180, 1, 24]
abbrev dktX1_piece_0 : List UInt8 := dkwX1_piece_0 ++ dktX1_piece_1
theorem dksX1_piece_0 : cX1_piece.data.toList.drop 0 = dktX1_piece_0 := by decide +kernel
theorem dksX1_piece_1 : cX1_piece.data.toList.drop 24 = dktX1_piece_1 := dk_seg dksX1_piece_0 24 rfl rfl
theorem dksX1_piece_2 : cX1_piece.data.toList.drop 48 = dktX1_piece_2 := dk_seg dksX1_piece_1 24 rfl rfl
theorem dX1_piece_0 : decode cX1_piece 0 = .ok (.iload_n 1, 1) := dk_27 (dk_at dksX1_piece_0 0 rfl rfl)
theorem dX1_piece_1 : decode cX1_piece 1 = .ok (.ifCond .lt 15, 3) := dk_155 0 15 (dk_at dksX1_piece_0 1 rfl rfl)
theorem dX1_piece_4 : decode cX1_piece 4 = .ok (.iload_n 2, 1) := dk_28 (dk_at dksX1_piece_0 4 rfl rfl)
theorem dX1_piece_5 : decode cX1_piece 5 = .ok (.i2l, 1) := dk_133 (dk_at dksX1_piece_0 5 rfl rfl)
theorem dX1_piece_6 : decode cX1_piece 6 = .ok (.lconst 0, 1) := dk_9 (dk_at dksX1_piece_0 6 rfl rfl)
theorem dX1_piece_7 : decode cX1_piece 7 = .ok (.ldc2_w 284, 3) := dk_20 1 28 (dk_at dksX1_piece_0 7 rfl rfl)
theorem dX1_piece_10 : decode cX1_piece 10 = .ok (.invokestatic 48, 3) := dk_184 0 48 (dk_at dksX1_piece_0 10 rfl rfl)
theorem dX1_piece_13 : decode cX1_piece 13 = .ok (.ifCond .ne 7, 3) := dk_154 0 7 (dk_at dksX1_piece_0 13 rfl rfl)
theorem dX1_piece_16 : decode cX1_piece 16 = .ok (.ldc2_w 207, 3) := dk_20 0 207 (dk_at dksX1_piece_0 16 rfl rfl)
theorem dX1_piece_19 : decode cX1_piece 19 = .ok (.lreturn, 1) := dk_173 (dk_at dksX1_piece_0 19 rfl rfl)
theorem dX1_piece_20 : decode cX1_piece 20 = .ok (.aload_n 0, 1) := dk_42 (dk_at dksX1_piece_0 20 rfl rfl)
theorem dX1_piece_21 : decode cX1_piece 21 = .ok (.getfield 280, 3) := dk_180 1 24 (dk_at dksX1_piece_0 21 rfl rfl)
theorem dX1_piece_24 : decode cX1_piece 24 = .ok (.ifCond .ne 7, 3) := dk_154 0 7 (dk_at dksX1_piece_1 0 rfl rfl)
theorem dX1_piece_27 : decode cX1_piece 27 = .ok (.ldc2_w 209, 3) := dk_20 0 209 (dk_at dksX1_piece_1 3 rfl rfl)
theorem dX1_piece_30 : decode cX1_piece 30 = .ok (.lreturn, 1) := dk_173 (dk_at dksX1_piece_1 6 rfl rfl)
theorem dX1_piece_31 : decode cX1_piece 31 = .ok (.iload_n 1, 1) := dk_27 (dk_at dksX1_piece_1 7 rfl rfl)
theorem dX1_piece_32 : decode cX1_piece 32 = .ok (.aload_n 0, 1) := dk_42 (dk_at dksX1_piece_1 8 rfl rfl)
theorem dX1_piece_33 : decode cX1_piece 33 = .ok (.getfield 277, 3) := dk_180 1 21 (dk_at dksX1_piece_1 9 rfl rfl)
theorem dX1_piece_36 : decode cX1_piece 36 = .ok (.if_icmp .ge 16, 3) := dk_162 0 16 (dk_at dksX1_piece_1 12 rfl rfl)
theorem dX1_piece_39 : decode cX1_piece 39 = .ok (.aload_n 0, 1) := dk_42 (dk_at dksX1_piece_1 15 rfl rfl)
theorem dX1_piece_40 : decode cX1_piece 40 = .ok (.getfield 30, 3) := dk_180 0 30 (dk_at dksX1_piece_1 16 rfl rfl)
theorem dX1_piece_43 : decode cX1_piece 43 = .ok (.iconst 4, 1) := dk_7 (dk_at dksX1_piece_1 19 rfl rfl)
theorem dX1_piece_44 : decode cX1_piece 44 = .ok (.iload_n 1, 1) := dk_27 (dk_at dksX1_piece_1 20 rfl rfl)
theorem dX1_piece_45 : decode cX1_piece 45 = .ok (.imul, 1) := dk_104 (dk_at dksX1_piece_1 21 rfl rfl)
theorem dX1_piece_46 : decode cX1_piece 46 = .ok (.iload_n 2, 1) := dk_28 (dk_at dksX1_piece_1 22 rfl rfl)
theorem dX1_piece_47 : decode cX1_piece 47 = .ok (.iadd, 1) := dk_96 (dk_at dksX1_piece_1 23 rfl rfl)
theorem dX1_piece_48 : decode cX1_piece 48 = .ok (.laload, 1) := dk_47 (dk_at dksX1_piece_2 0 rfl rfl)
theorem dX1_piece_49 : decode cX1_piece 49 = .ok (.goto 6, 3) := dk_167 0 6 (dk_at dksX1_piece_2 1 rfl rfl)
theorem dX1_piece_52 : decode cX1_piece 52 = .ok (.ldc2_w 220, 3) := dk_20 0 220 (dk_at dksX1_piece_2 4 rfl rfl)
theorem dX1_piece_55 : decode cX1_piece 55 = .ok (.lreturn, 1) := dk_173 (dk_at dksX1_piece_2 7 rfl rfl)
abbrev cX1_feasible : ByteArray := prog_20_method_61_code
def yX1_feasible : MethodName := ⟨RX1, "feasible", "(I)J"⟩
def dkwX1_feasible_10 : List UInt8 := [180, 1, 45, 32, 109, 167, 0, 9, 42, 180, 1, 48, 32, 109, 173]
abbrev dktX1_feasible_10 : List UInt8 := dkwX1_feasible_10 ++ []
def dkwX1_feasible_9 : List UInt8 := [167, 0, 4, 10, 65, 42, 180, 1, 42, 154, 0, 9, 20, 0, 220, 167, 0, 23, 27, 5, 160, 0, 12, 42]
abbrev dktX1_feasible_9 : List UInt8 := dkwX1_feasible_9 ++ dktX1_feasible_10
def dkwX1_feasible_8 : List UInt8 := [180, 1, 39, 32, 109, 173, 42, 180, 1, 42, 153, 0, 17, 42, 180, 1, 45, 42, 180, 1, 48, 184, 0, 171]
abbrev dktX1_feasible_8 : List UInt8 := dkwX1_feasible_8 ++ dktX1_feasible_9
def dkwX1_feasible_7 : List UInt8 := [154, 0, 9, 20, 0, 220, 167, 0, 22, 27, 154, 0, 12, 42, 180, 1, 36, 32, 109, 167, 0, 9, 42]
abbrev dktX1_feasible_7 : List UInt8 := dkwX1_feasible_7 ++ dktX1_feasible_8
def dkwX1_feasible_6 : List UInt8 := [153, 0, 17, 42, 180, 1, 36, 42, 180, 1, 39, 184, 0, 171, 167, 0, 4, 10, 65, 42, 180, 1, 33]
abbrev dktX1_feasible_6 : List UInt8 := dkwX1_feasible_6 ++ dktX1_feasible_7
def dkwX1_feasible_5 : List UInt8 := [180, 1, 48, 184, 0, 163, 158, 0, 7, 20, 0, 209, 173, 27, 5, 162, 0, 59, 42, 180, 1, 33]
abbrev dktX1_feasible_5 : List UInt8 := dkwX1_feasible_5 ++ dktX1_feasible_6
def dkwX1_feasible_4 : List UInt8 := [153, 0, 36, 42, 180, 1, 42, 153, 0, 29, 42, 180, 1, 36, 42, 180, 1, 39, 42, 180, 1, 45, 42]
abbrev dktX1_feasible_4 : List UInt8 := dkwX1_feasible_4 ++ dktX1_feasible_5
def dkwX1_feasible_3 : List UInt8 := [182, 0, 184, 62, 167, 255, 232, 132, 2, 1, 167, 255, 208, 42, 180, 1, 30, 154, 0, 39, 42, 180, 1, 33]
abbrev dktX1_feasible_3 : List UInt8 := dkwX1_feasible_3 ++ dktX1_feasible_4
def dkwX1_feasible_2 : List UInt8 := [182, 0, 184, 62, 29, 153, 0, 26, 42, 42, 5, 182, 0, 196, 42, 6, 182, 0, 196, 182, 1, 51, 42, 3]
abbrev dktX1_feasible_2 : List UInt8 := dkwX1_feasible_2 ++ dktX1_feasible_3
def dkwX1_feasible_1 : List UInt8 := [181, 1, 42, 42, 3, 181, 1, 30, 3, 61, 28, 16, 8, 162, 0, 48, 42, 28, 28, 182, 0, 180, 42, 4]
abbrev dktX1_feasible_1 : List UInt8 := dkwX1_feasible_1 ++ dktX1_feasible_2
def dkwX1_feasible_0 : List UInt8 := [27, 133, 9, 20, 1, 28, 184, 0, 48, 154, 0, 7, 20, 0, 207, 173, 42, 3, 181, 1, 33, 42, 3]
abbrev dktX1_feasible_0 : List UInt8 := dkwX1_feasible_0 ++ dktX1_feasible_1
theorem dksX1_feasible_0 : cX1_feasible.data.toList.drop 0 = dktX1_feasible_0 := by decide +kernel
theorem dksX1_feasible_1 : cX1_feasible.data.toList.drop 23 = dktX1_feasible_1 := dk_seg dksX1_feasible_0 23 rfl rfl
theorem dksX1_feasible_2 : cX1_feasible.data.toList.drop 47 = dktX1_feasible_2 := dk_seg dksX1_feasible_1 24 rfl rfl
theorem dksX1_feasible_3 : cX1_feasible.data.toList.drop 71 = dktX1_feasible_3 := dk_seg dksX1_feasible_2 24 rfl rfl
theorem dksX1_feasible_4 : cX1_feasible.data.toList.drop 95 = dktX1_feasible_4 := dk_seg dksX1_feasible_3 24 rfl rfl
theorem dksX1_feasible_5 : cX1_feasible.data.toList.drop 118 = dktX1_feasible_5 := dk_seg dksX1_feasible_4 23 rfl rfl
theorem dksX1_feasible_6 : cX1_feasible.data.toList.drop 140 = dktX1_feasible_6 := dk_seg dksX1_feasible_5 22 rfl rfl
theorem dksX1_feasible_7 : cX1_feasible.data.toList.drop 163 = dktX1_feasible_7 := dk_seg dksX1_feasible_6 23 rfl rfl
theorem dksX1_feasible_8 : cX1_feasible.data.toList.drop 186 = dktX1_feasible_8 := dk_seg dksX1_feasible_7 23 rfl rfl
theorem dksX1_feasible_9 : cX1_feasible.data.toList.drop 210 = dktX1_feasible_9 := dk_seg dksX1_feasible_8 24 rfl rfl
theorem dksX1_feasible_10 : cX1_feasible.data.toList.drop 234 = dktX1_feasible_10 := dk_seg dksX1_feasible_9 24 rfl rfl
theorem dX1_feasible_0 : decode cX1_feasible 0 = .ok (.iload_n 1, 1) := dk_27 (dk_at dksX1_feasible_0 0 rfl rfl)
theorem dX1_feasible_1 : decode cX1_feasible 1 = .ok (.i2l, 1) := dk_133 (dk_at dksX1_feasible_0 1 rfl rfl)
theorem dX1_feasible_2 : decode cX1_feasible 2 = .ok (.lconst 0, 1) := dk_9 (dk_at dksX1_feasible_0 2 rfl rfl)
theorem dX1_feasible_3 : decode cX1_feasible 3 = .ok (.ldc2_w 284, 3) := dk_20 1 28 (dk_at dksX1_feasible_0 3 rfl rfl)
theorem dX1_feasible_6 : decode cX1_feasible 6 = .ok (.invokestatic 48, 3) := dk_184 0 48 (dk_at dksX1_feasible_0 6 rfl rfl)
theorem dX1_feasible_9 : decode cX1_feasible 9 = .ok (.ifCond .ne 7, 3) := dk_154 0 7 (dk_at dksX1_feasible_0 9 rfl rfl)
theorem dX1_feasible_12 : decode cX1_feasible 12 = .ok (.ldc2_w 207, 3) := dk_20 0 207 (dk_at dksX1_feasible_0 12 rfl rfl)
theorem dX1_feasible_15 : decode cX1_feasible 15 = .ok (.lreturn, 1) := dk_173 (dk_at dksX1_feasible_0 15 rfl rfl)
theorem dX1_feasible_16 : decode cX1_feasible 16 = .ok (.aload_n 0, 1) := dk_42 (dk_at dksX1_feasible_0 16 rfl rfl)
theorem dX1_feasible_17 : decode cX1_feasible 17 = .ok (.iconst 0, 1) := dk_3 (dk_at dksX1_feasible_0 17 rfl rfl)
theorem dX1_feasible_18 : decode cX1_feasible 18 = .ok (.putfield 289, 3) := dk_181 1 33 (dk_at dksX1_feasible_0 18 rfl rfl)
theorem dX1_feasible_21 : decode cX1_feasible 21 = .ok (.aload_n 0, 1) := dk_42 (dk_at dksX1_feasible_0 21 rfl rfl)
theorem dX1_feasible_22 : decode cX1_feasible 22 = .ok (.iconst 0, 1) := dk_3 (dk_at dksX1_feasible_0 22 rfl rfl)
theorem dX1_feasible_23 : decode cX1_feasible 23 = .ok (.putfield 298, 3) := dk_181 1 42 (dk_at dksX1_feasible_1 0 rfl rfl)
theorem dX1_feasible_26 : decode cX1_feasible 26 = .ok (.aload_n 0, 1) := dk_42 (dk_at dksX1_feasible_1 3 rfl rfl)
theorem dX1_feasible_27 : decode cX1_feasible 27 = .ok (.iconst 0, 1) := dk_3 (dk_at dksX1_feasible_1 4 rfl rfl)
theorem dX1_feasible_28 : decode cX1_feasible 28 = .ok (.putfield 286, 3) := dk_181 1 30 (dk_at dksX1_feasible_1 5 rfl rfl)
theorem dX1_feasible_31 : decode cX1_feasible 31 = .ok (.iconst 0, 1) := dk_3 (dk_at dksX1_feasible_1 8 rfl rfl)
theorem dX1_feasible_32 : decode cX1_feasible 32 = .ok (.istore_n 2, 1) := dk_61 (dk_at dksX1_feasible_1 9 rfl rfl)
theorem dX1_feasible_33 : decode cX1_feasible 33 = .ok (.iload_n 2, 1) := dk_28 (dk_at dksX1_feasible_1 10 rfl rfl)
theorem dX1_feasible_34 : decode cX1_feasible 34 = .ok (.bipush 8, 2) := dk_16 8 (dk_at dksX1_feasible_1 11 rfl rfl)
theorem dX1_feasible_36 : decode cX1_feasible 36 = .ok (.if_icmp .ge 48, 3) := dk_162 0 48 (dk_at dksX1_feasible_1 13 rfl rfl)
theorem dX1_feasible_39 : decode cX1_feasible 39 = .ok (.aload_n 0, 1) := dk_42 (dk_at dksX1_feasible_1 16 rfl rfl)
theorem dX1_feasible_40 : decode cX1_feasible 40 = .ok (.iload_n 2, 1) := dk_28 (dk_at dksX1_feasible_1 17 rfl rfl)
theorem dX1_feasible_41 : decode cX1_feasible 41 = .ok (.iload_n 2, 1) := dk_28 (dk_at dksX1_feasible_1 18 rfl rfl)
theorem dX1_feasible_42 : decode cX1_feasible 42 = .ok (.invokevirtual 180, 3) := dk_182 0 180 (dk_at dksX1_feasible_1 19 rfl rfl)
theorem dX1_feasible_45 : decode cX1_feasible 45 = .ok (.aload_n 0, 1) := dk_42 (dk_at dksX1_feasible_1 22 rfl rfl)
theorem dX1_feasible_46 : decode cX1_feasible 46 = .ok (.iconst 1, 1) := dk_4 (dk_at dksX1_feasible_1 23 rfl rfl)
theorem dX1_feasible_47 : decode cX1_feasible 47 = .ok (.invokevirtual 184, 3) := dk_182 0 184 (dk_at dksX1_feasible_2 0 rfl rfl)
theorem dX1_feasible_50 : decode cX1_feasible 50 = .ok (.istore_n 3, 1) := dk_62 (dk_at dksX1_feasible_2 3 rfl rfl)
theorem dX1_feasible_51 : decode cX1_feasible 51 = .ok (.iload_n 3, 1) := dk_29 (dk_at dksX1_feasible_2 4 rfl rfl)
theorem dX1_feasible_52 : decode cX1_feasible 52 = .ok (.ifCond .eq 26, 3) := dk_153 0 26 (dk_at dksX1_feasible_2 5 rfl rfl)
theorem dX1_feasible_55 : decode cX1_feasible 55 = .ok (.aload_n 0, 1) := dk_42 (dk_at dksX1_feasible_2 8 rfl rfl)
theorem dX1_feasible_56 : decode cX1_feasible 56 = .ok (.aload_n 0, 1) := dk_42 (dk_at dksX1_feasible_2 9 rfl rfl)
theorem dX1_feasible_57 : decode cX1_feasible 57 = .ok (.iconst 2, 1) := dk_5 (dk_at dksX1_feasible_2 10 rfl rfl)
theorem dX1_feasible_58 : decode cX1_feasible 58 = .ok (.invokevirtual 196, 3) := dk_182 0 196 (dk_at dksX1_feasible_2 11 rfl rfl)
theorem dX1_feasible_61 : decode cX1_feasible 61 = .ok (.aload_n 0, 1) := dk_42 (dk_at dksX1_feasible_2 14 rfl rfl)
theorem dX1_feasible_62 : decode cX1_feasible 62 = .ok (.iconst 3, 1) := dk_6 (dk_at dksX1_feasible_2 15 rfl rfl)
theorem dX1_feasible_63 : decode cX1_feasible 63 = .ok (.invokevirtual 196, 3) := dk_182 0 196 (dk_at dksX1_feasible_2 16 rfl rfl)
theorem dX1_feasible_66 : decode cX1_feasible 66 = .ok (.invokevirtual 307, 3) := dk_182 1 51 (dk_at dksX1_feasible_2 19 rfl rfl)
theorem dX1_feasible_69 : decode cX1_feasible 69 = .ok (.aload_n 0, 1) := dk_42 (dk_at dksX1_feasible_2 22 rfl rfl)
theorem dX1_feasible_70 : decode cX1_feasible 70 = .ok (.iconst 0, 1) := dk_3 (dk_at dksX1_feasible_2 23 rfl rfl)
theorem dX1_feasible_71 : decode cX1_feasible 71 = .ok (.invokevirtual 184, 3) := dk_182 0 184 (dk_at dksX1_feasible_3 0 rfl rfl)
theorem dX1_feasible_74 : decode cX1_feasible 74 = .ok (.istore_n 3, 1) := dk_62 (dk_at dksX1_feasible_3 3 rfl rfl)
theorem dX1_feasible_75 : decode cX1_feasible 75 = .ok (.goto (-24), 3) := dk_167 255 232 (dk_at dksX1_feasible_3 4 rfl rfl)
theorem dX1_feasible_78 : decode cX1_feasible 78 = .ok (.iinc 2 1, 3) := dk_132 2 1 (dk_at dksX1_feasible_3 7 rfl rfl)
theorem dX1_feasible_81 : decode cX1_feasible 81 = .ok (.goto (-48), 3) := dk_167 255 208 (dk_at dksX1_feasible_3 10 rfl rfl)
theorem dX1_feasible_84 : decode cX1_feasible 84 = .ok (.aload_n 0, 1) := dk_42 (dk_at dksX1_feasible_3 13 rfl rfl)
theorem dX1_feasible_85 : decode cX1_feasible 85 = .ok (.getfield 286, 3) := dk_180 1 30 (dk_at dksX1_feasible_3 14 rfl rfl)
theorem dX1_feasible_88 : decode cX1_feasible 88 = .ok (.ifCond .ne 39, 3) := dk_154 0 39 (dk_at dksX1_feasible_3 17 rfl rfl)
theorem dX1_feasible_91 : decode cX1_feasible 91 = .ok (.aload_n 0, 1) := dk_42 (dk_at dksX1_feasible_3 20 rfl rfl)
theorem dX1_feasible_92 : decode cX1_feasible 92 = .ok (.getfield 289, 3) := dk_180 1 33 (dk_at dksX1_feasible_3 21 rfl rfl)
theorem dX1_feasible_95 : decode cX1_feasible 95 = .ok (.ifCond .eq 36, 3) := dk_153 0 36 (dk_at dksX1_feasible_4 0 rfl rfl)
theorem dX1_feasible_98 : decode cX1_feasible 98 = .ok (.aload_n 0, 1) := dk_42 (dk_at dksX1_feasible_4 3 rfl rfl)
theorem dX1_feasible_99 : decode cX1_feasible 99 = .ok (.getfield 298, 3) := dk_180 1 42 (dk_at dksX1_feasible_4 4 rfl rfl)
theorem dX1_feasible_102 : decode cX1_feasible 102 = .ok (.ifCond .eq 29, 3) := dk_153 0 29 (dk_at dksX1_feasible_4 7 rfl rfl)
theorem dX1_feasible_105 : decode cX1_feasible 105 = .ok (.aload_n 0, 1) := dk_42 (dk_at dksX1_feasible_4 10 rfl rfl)
theorem dX1_feasible_106 : decode cX1_feasible 106 = .ok (.getfield 292, 3) := dk_180 1 36 (dk_at dksX1_feasible_4 11 rfl rfl)
theorem dX1_feasible_109 : decode cX1_feasible 109 = .ok (.aload_n 0, 1) := dk_42 (dk_at dksX1_feasible_4 14 rfl rfl)
theorem dX1_feasible_110 : decode cX1_feasible 110 = .ok (.getfield 295, 3) := dk_180 1 39 (dk_at dksX1_feasible_4 15 rfl rfl)
theorem dX1_feasible_113 : decode cX1_feasible 113 = .ok (.aload_n 0, 1) := dk_42 (dk_at dksX1_feasible_4 18 rfl rfl)
theorem dX1_feasible_114 : decode cX1_feasible 114 = .ok (.getfield 301, 3) := dk_180 1 45 (dk_at dksX1_feasible_4 19 rfl rfl)
theorem dX1_feasible_117 : decode cX1_feasible 117 = .ok (.aload_n 0, 1) := dk_42 (dk_at dksX1_feasible_4 22 rfl rfl)
theorem dX1_feasible_118 : decode cX1_feasible 118 = .ok (.getfield 304, 3) := dk_180 1 48 (dk_at dksX1_feasible_5 0 rfl rfl)
theorem dX1_feasible_121 : decode cX1_feasible 121 = .ok (.invokestatic 163, 3) := dk_184 0 163 (dk_at dksX1_feasible_5 3 rfl rfl)
theorem dX1_feasible_124 : decode cX1_feasible 124 = .ok (.ifCond .le 7, 3) := dk_158 0 7 (dk_at dksX1_feasible_5 6 rfl rfl)
theorem dX1_feasible_127 : decode cX1_feasible 127 = .ok (.ldc2_w 209, 3) := dk_20 0 209 (dk_at dksX1_feasible_5 9 rfl rfl)
theorem dX1_feasible_130 : decode cX1_feasible 130 = .ok (.lreturn, 1) := dk_173 (dk_at dksX1_feasible_5 12 rfl rfl)
theorem dX1_feasible_131 : decode cX1_feasible 131 = .ok (.iload_n 1, 1) := dk_27 (dk_at dksX1_feasible_5 13 rfl rfl)
theorem dX1_feasible_132 : decode cX1_feasible 132 = .ok (.iconst 2, 1) := dk_5 (dk_at dksX1_feasible_5 14 rfl rfl)
theorem dX1_feasible_133 : decode cX1_feasible 133 = .ok (.if_icmp .ge 59, 3) := dk_162 0 59 (dk_at dksX1_feasible_5 15 rfl rfl)
theorem dX1_feasible_136 : decode cX1_feasible 136 = .ok (.aload_n 0, 1) := dk_42 (dk_at dksX1_feasible_5 18 rfl rfl)
theorem dX1_feasible_137 : decode cX1_feasible 137 = .ok (.getfield 289, 3) := dk_180 1 33 (dk_at dksX1_feasible_5 19 rfl rfl)
theorem dX1_feasible_140 : decode cX1_feasible 140 = .ok (.ifCond .eq 17, 3) := dk_153 0 17 (dk_at dksX1_feasible_6 0 rfl rfl)
theorem dX1_feasible_143 : decode cX1_feasible 143 = .ok (.aload_n 0, 1) := dk_42 (dk_at dksX1_feasible_6 3 rfl rfl)
theorem dX1_feasible_144 : decode cX1_feasible 144 = .ok (.getfield 292, 3) := dk_180 1 36 (dk_at dksX1_feasible_6 4 rfl rfl)
theorem dX1_feasible_147 : decode cX1_feasible 147 = .ok (.aload_n 0, 1) := dk_42 (dk_at dksX1_feasible_6 7 rfl rfl)
theorem dX1_feasible_148 : decode cX1_feasible 148 = .ok (.getfield 295, 3) := dk_180 1 39 (dk_at dksX1_feasible_6 8 rfl rfl)
theorem dX1_feasible_151 : decode cX1_feasible 151 = .ok (.invokestatic 171, 3) := dk_184 0 171 (dk_at dksX1_feasible_6 11 rfl rfl)
theorem dX1_feasible_154 : decode cX1_feasible 154 = .ok (.goto 4, 3) := dk_167 0 4 (dk_at dksX1_feasible_6 14 rfl rfl)
theorem dX1_feasible_157 : decode cX1_feasible 157 = .ok (.lconst 1, 1) := dk_10 (dk_at dksX1_feasible_6 17 rfl rfl)
theorem dX1_feasible_158 : decode cX1_feasible 158 = .ok (.lstore_n 2, 1) := dk_65 (dk_at dksX1_feasible_6 18 rfl rfl)
theorem dX1_feasible_159 : decode cX1_feasible 159 = .ok (.aload_n 0, 1) := dk_42 (dk_at dksX1_feasible_6 19 rfl rfl)
theorem dX1_feasible_160 : decode cX1_feasible 160 = .ok (.getfield 289, 3) := dk_180 1 33 (dk_at dksX1_feasible_6 20 rfl rfl)
theorem dX1_feasible_163 : decode cX1_feasible 163 = .ok (.ifCond .ne 9, 3) := dk_154 0 9 (dk_at dksX1_feasible_7 0 rfl rfl)
theorem dX1_feasible_166 : decode cX1_feasible 166 = .ok (.ldc2_w 220, 3) := dk_20 0 220 (dk_at dksX1_feasible_7 3 rfl rfl)
theorem dX1_feasible_169 : decode cX1_feasible 169 = .ok (.goto 22, 3) := dk_167 0 22 (dk_at dksX1_feasible_7 6 rfl rfl)
theorem dX1_feasible_172 : decode cX1_feasible 172 = .ok (.iload_n 1, 1) := dk_27 (dk_at dksX1_feasible_7 9 rfl rfl)
theorem dX1_feasible_173 : decode cX1_feasible 173 = .ok (.ifCond .ne 12, 3) := dk_154 0 12 (dk_at dksX1_feasible_7 10 rfl rfl)
theorem dX1_feasible_176 : decode cX1_feasible 176 = .ok (.aload_n 0, 1) := dk_42 (dk_at dksX1_feasible_7 13 rfl rfl)
theorem dX1_feasible_177 : decode cX1_feasible 177 = .ok (.getfield 292, 3) := dk_180 1 36 (dk_at dksX1_feasible_7 14 rfl rfl)
theorem dX1_feasible_180 : decode cX1_feasible 180 = .ok (.lload_n 2, 1) := dk_32 (dk_at dksX1_feasible_7 17 rfl rfl)
theorem dX1_feasible_181 : decode cX1_feasible 181 = .ok (.ldiv, 1) := dk_109 (dk_at dksX1_feasible_7 18 rfl rfl)
theorem dX1_feasible_182 : decode cX1_feasible 182 = .ok (.goto 9, 3) := dk_167 0 9 (dk_at dksX1_feasible_7 19 rfl rfl)
theorem dX1_feasible_185 : decode cX1_feasible 185 = .ok (.aload_n 0, 1) := dk_42 (dk_at dksX1_feasible_7 22 rfl rfl)
theorem dX1_feasible_186 : decode cX1_feasible 186 = .ok (.getfield 295, 3) := dk_180 1 39 (dk_at dksX1_feasible_8 0 rfl rfl)
theorem dX1_feasible_189 : decode cX1_feasible 189 = .ok (.lload_n 2, 1) := dk_32 (dk_at dksX1_feasible_8 3 rfl rfl)
theorem dX1_feasible_190 : decode cX1_feasible 190 = .ok (.ldiv, 1) := dk_109 (dk_at dksX1_feasible_8 4 rfl rfl)
theorem dX1_feasible_191 : decode cX1_feasible 191 = .ok (.lreturn, 1) := dk_173 (dk_at dksX1_feasible_8 5 rfl rfl)
theorem dX1_feasible_192 : decode cX1_feasible 192 = .ok (.aload_n 0, 1) := dk_42 (dk_at dksX1_feasible_8 6 rfl rfl)
theorem dX1_feasible_193 : decode cX1_feasible 193 = .ok (.getfield 298, 3) := dk_180 1 42 (dk_at dksX1_feasible_8 7 rfl rfl)
theorem dX1_feasible_196 : decode cX1_feasible 196 = .ok (.ifCond .eq 17, 3) := dk_153 0 17 (dk_at dksX1_feasible_8 10 rfl rfl)
theorem dX1_feasible_199 : decode cX1_feasible 199 = .ok (.aload_n 0, 1) := dk_42 (dk_at dksX1_feasible_8 13 rfl rfl)
theorem dX1_feasible_200 : decode cX1_feasible 200 = .ok (.getfield 301, 3) := dk_180 1 45 (dk_at dksX1_feasible_8 14 rfl rfl)
theorem dX1_feasible_203 : decode cX1_feasible 203 = .ok (.aload_n 0, 1) := dk_42 (dk_at dksX1_feasible_8 17 rfl rfl)
theorem dX1_feasible_204 : decode cX1_feasible 204 = .ok (.getfield 304, 3) := dk_180 1 48 (dk_at dksX1_feasible_8 18 rfl rfl)
theorem dX1_feasible_207 : decode cX1_feasible 207 = .ok (.invokestatic 171, 3) := dk_184 0 171 (dk_at dksX1_feasible_8 21 rfl rfl)
theorem dX1_feasible_210 : decode cX1_feasible 210 = .ok (.goto 4, 3) := dk_167 0 4 (dk_at dksX1_feasible_9 0 rfl rfl)
theorem dX1_feasible_213 : decode cX1_feasible 213 = .ok (.lconst 1, 1) := dk_10 (dk_at dksX1_feasible_9 3 rfl rfl)
theorem dX1_feasible_214 : decode cX1_feasible 214 = .ok (.lstore_n 2, 1) := dk_65 (dk_at dksX1_feasible_9 4 rfl rfl)
theorem dX1_feasible_215 : decode cX1_feasible 215 = .ok (.aload_n 0, 1) := dk_42 (dk_at dksX1_feasible_9 5 rfl rfl)
theorem dX1_feasible_216 : decode cX1_feasible 216 = .ok (.getfield 298, 3) := dk_180 1 42 (dk_at dksX1_feasible_9 6 rfl rfl)
theorem dX1_feasible_219 : decode cX1_feasible 219 = .ok (.ifCond .ne 9, 3) := dk_154 0 9 (dk_at dksX1_feasible_9 9 rfl rfl)
theorem dX1_feasible_222 : decode cX1_feasible 222 = .ok (.ldc2_w 220, 3) := dk_20 0 220 (dk_at dksX1_feasible_9 12 rfl rfl)
theorem dX1_feasible_225 : decode cX1_feasible 225 = .ok (.goto 23, 3) := dk_167 0 23 (dk_at dksX1_feasible_9 15 rfl rfl)
theorem dX1_feasible_228 : decode cX1_feasible 228 = .ok (.iload_n 1, 1) := dk_27 (dk_at dksX1_feasible_9 18 rfl rfl)
theorem dX1_feasible_229 : decode cX1_feasible 229 = .ok (.iconst 2, 1) := dk_5 (dk_at dksX1_feasible_9 19 rfl rfl)
theorem dX1_feasible_230 : decode cX1_feasible 230 = .ok (.if_icmp .ne 12, 3) := dk_160 0 12 (dk_at dksX1_feasible_9 20 rfl rfl)
theorem dX1_feasible_233 : decode cX1_feasible 233 = .ok (.aload_n 0, 1) := dk_42 (dk_at dksX1_feasible_9 23 rfl rfl)
theorem dX1_feasible_234 : decode cX1_feasible 234 = .ok (.getfield 301, 3) := dk_180 1 45 (dk_at dksX1_feasible_10 0 rfl rfl)
theorem dX1_feasible_237 : decode cX1_feasible 237 = .ok (.lload_n 2, 1) := dk_32 (dk_at dksX1_feasible_10 3 rfl rfl)
theorem dX1_feasible_238 : decode cX1_feasible 238 = .ok (.ldiv, 1) := dk_109 (dk_at dksX1_feasible_10 4 rfl rfl)
theorem dX1_feasible_239 : decode cX1_feasible 239 = .ok (.goto 9, 3) := dk_167 0 9 (dk_at dksX1_feasible_10 5 rfl rfl)
theorem dX1_feasible_242 : decode cX1_feasible 242 = .ok (.aload_n 0, 1) := dk_42 (dk_at dksX1_feasible_10 8 rfl rfl)
theorem dX1_feasible_243 : decode cX1_feasible 243 = .ok (.getfield 304, 3) := dk_180 1 48 (dk_at dksX1_feasible_10 9 rfl rfl)
theorem dX1_feasible_246 : decode cX1_feasible 246 = .ok (.lload_n 2, 1) := dk_32 (dk_at dksX1_feasible_10 12 rfl rfl)
theorem dX1_feasible_247 : decode cX1_feasible 247 = .ok (.ldiv, 1) := dk_109 (dk_at dksX1_feasible_10 13 rfl rfl)
theorem dX1_feasible_248 : decode cX1_feasible 248 = .ok (.lreturn, 1) := dk_173 (dk_at dksX1_feasible_10 14 rfl rfl)
abbrev cX1_bounds : ByteArray := prog_20_method_60_code
def yX1_bounds : MethodName := ⟨RX1, "bounds", "(JJ)V"⟩
def dkwX1_bounds_5 : List UInt8 := [42, 33, 117, 181, 1, 48, 177]
abbrev dktX1_bounds_5 : List UInt8 := dkwX1_bounds_5 ++ []
def dkwX1_bounds_4 : List UInt8 := [42, 180, 1, 45, 42, 180, 1, 48, 184, 0, 163, 156, 0, 19, 42, 4, 181, 1, 42, 42, 31, 181, 1, 45]
abbrev dktX1_bounds_4 : List UInt8 := dkwX1_bounds_4 ++ dktX1_bounds_5
def dkwX1_bounds_3 : List UInt8 := [42, 33, 181, 1, 39, 167, 0, 49, 33, 9, 148, 156, 0, 43, 42, 180, 1, 42, 153, 0, 20, 31, 33, 117]
abbrev dktX1_bounds_3 : List UInt8 := dkwX1_bounds_3 ++ dktX1_bounds_4
def dkwX1_bounds_2 : List UInt8 := [180, 1, 36, 42, 180, 1, 39, 184, 0, 163, 158, 0, 22, 42, 4, 181, 1, 33, 42, 31, 117, 181, 1, 36]
abbrev dktX1_bounds_2 : List UInt8 := dkwX1_bounds_2 ++ dktX1_bounds_3
def dkwX1_bounds_1 : List UInt8 := [3, 181, 1, 30, 167, 0, 98, 33, 9, 148, 158, 0, 46, 42, 180, 1, 33, 153, 0, 20, 31, 117, 33, 42]
abbrev dktX1_bounds_1 : List UInt8 := dkwX1_bounds_1 ++ dktX1_bounds_2
def dkwX1_bounds_0 : List UInt8 := [33, 9, 148, 154, 0, 28, 42, 42, 180, 1, 30, 154, 0, 9, 31, 9, 148, 156, 0, 7, 4, 167, 0, 4]
abbrev dktX1_bounds_0 : List UInt8 := dkwX1_bounds_0 ++ dktX1_bounds_1
theorem dksX1_bounds_0 : cX1_bounds.data.toList.drop 0 = dktX1_bounds_0 := by decide +kernel
theorem dksX1_bounds_1 : cX1_bounds.data.toList.drop 24 = dktX1_bounds_1 := dk_seg dksX1_bounds_0 24 rfl rfl
theorem dksX1_bounds_2 : cX1_bounds.data.toList.drop 48 = dktX1_bounds_2 := dk_seg dksX1_bounds_1 24 rfl rfl
theorem dksX1_bounds_3 : cX1_bounds.data.toList.drop 72 = dktX1_bounds_3 := dk_seg dksX1_bounds_2 24 rfl rfl
theorem dksX1_bounds_4 : cX1_bounds.data.toList.drop 96 = dktX1_bounds_4 := dk_seg dksX1_bounds_3 24 rfl rfl
theorem dksX1_bounds_5 : cX1_bounds.data.toList.drop 120 = dktX1_bounds_5 := dk_seg dksX1_bounds_4 24 rfl rfl
theorem dX1_bounds_0 : decode cX1_bounds 0 = .ok (.lload_n 3, 1) := dk_33 (dk_at dksX1_bounds_0 0 rfl rfl)
theorem dX1_bounds_1 : decode cX1_bounds 1 = .ok (.lconst 0, 1) := dk_9 (dk_at dksX1_bounds_0 1 rfl rfl)
theorem dX1_bounds_2 : decode cX1_bounds 2 = .ok (.lcmp, 1) := dk_148 (dk_at dksX1_bounds_0 2 rfl rfl)
theorem dX1_bounds_3 : decode cX1_bounds 3 = .ok (.ifCond .ne 28, 3) := dk_154 0 28 (dk_at dksX1_bounds_0 3 rfl rfl)
theorem dX1_bounds_6 : decode cX1_bounds 6 = .ok (.aload_n 0, 1) := dk_42 (dk_at dksX1_bounds_0 6 rfl rfl)
theorem dX1_bounds_7 : decode cX1_bounds 7 = .ok (.aload_n 0, 1) := dk_42 (dk_at dksX1_bounds_0 7 rfl rfl)
theorem dX1_bounds_8 : decode cX1_bounds 8 = .ok (.getfield 286, 3) := dk_180 1 30 (dk_at dksX1_bounds_0 8 rfl rfl)
theorem dX1_bounds_11 : decode cX1_bounds 11 = .ok (.ifCond .ne 9, 3) := dk_154 0 9 (dk_at dksX1_bounds_0 11 rfl rfl)
theorem dX1_bounds_14 : decode cX1_bounds 14 = .ok (.lload_n 1, 1) := dk_31 (dk_at dksX1_bounds_0 14 rfl rfl)
theorem dX1_bounds_15 : decode cX1_bounds 15 = .ok (.lconst 0, 1) := dk_9 (dk_at dksX1_bounds_0 15 rfl rfl)
theorem dX1_bounds_16 : decode cX1_bounds 16 = .ok (.lcmp, 1) := dk_148 (dk_at dksX1_bounds_0 16 rfl rfl)
theorem dX1_bounds_17 : decode cX1_bounds 17 = .ok (.ifCond .ge 7, 3) := dk_156 0 7 (dk_at dksX1_bounds_0 17 rfl rfl)
theorem dX1_bounds_20 : decode cX1_bounds 20 = .ok (.iconst 1, 1) := dk_4 (dk_at dksX1_bounds_0 20 rfl rfl)
theorem dX1_bounds_21 : decode cX1_bounds 21 = .ok (.goto 4, 3) := dk_167 0 4 (dk_at dksX1_bounds_0 21 rfl rfl)
theorem dX1_bounds_24 : decode cX1_bounds 24 = .ok (.iconst 0, 1) := dk_3 (dk_at dksX1_bounds_1 0 rfl rfl)
theorem dX1_bounds_25 : decode cX1_bounds 25 = .ok (.putfield 286, 3) := dk_181 1 30 (dk_at dksX1_bounds_1 1 rfl rfl)
theorem dX1_bounds_28 : decode cX1_bounds 28 = .ok (.goto 98, 3) := dk_167 0 98 (dk_at dksX1_bounds_1 4 rfl rfl)
theorem dX1_bounds_31 : decode cX1_bounds 31 = .ok (.lload_n 3, 1) := dk_33 (dk_at dksX1_bounds_1 7 rfl rfl)
theorem dX1_bounds_32 : decode cX1_bounds 32 = .ok (.lconst 0, 1) := dk_9 (dk_at dksX1_bounds_1 8 rfl rfl)
theorem dX1_bounds_33 : decode cX1_bounds 33 = .ok (.lcmp, 1) := dk_148 (dk_at dksX1_bounds_1 9 rfl rfl)
theorem dX1_bounds_34 : decode cX1_bounds 34 = .ok (.ifCond .le 46, 3) := dk_158 0 46 (dk_at dksX1_bounds_1 10 rfl rfl)
theorem dX1_bounds_37 : decode cX1_bounds 37 = .ok (.aload_n 0, 1) := dk_42 (dk_at dksX1_bounds_1 13 rfl rfl)
theorem dX1_bounds_38 : decode cX1_bounds 38 = .ok (.getfield 289, 3) := dk_180 1 33 (dk_at dksX1_bounds_1 14 rfl rfl)
theorem dX1_bounds_41 : decode cX1_bounds 41 = .ok (.ifCond .eq 20, 3) := dk_153 0 20 (dk_at dksX1_bounds_1 17 rfl rfl)
theorem dX1_bounds_44 : decode cX1_bounds 44 = .ok (.lload_n 1, 1) := dk_31 (dk_at dksX1_bounds_1 20 rfl rfl)
theorem dX1_bounds_45 : decode cX1_bounds 45 = .ok (.lneg, 1) := dk_117 (dk_at dksX1_bounds_1 21 rfl rfl)
theorem dX1_bounds_46 : decode cX1_bounds 46 = .ok (.lload_n 3, 1) := dk_33 (dk_at dksX1_bounds_1 22 rfl rfl)
theorem dX1_bounds_47 : decode cX1_bounds 47 = .ok (.aload_n 0, 1) := dk_42 (dk_at dksX1_bounds_1 23 rfl rfl)
theorem dX1_bounds_48 : decode cX1_bounds 48 = .ok (.getfield 292, 3) := dk_180 1 36 (dk_at dksX1_bounds_2 0 rfl rfl)
theorem dX1_bounds_51 : decode cX1_bounds 51 = .ok (.aload_n 0, 1) := dk_42 (dk_at dksX1_bounds_2 3 rfl rfl)
theorem dX1_bounds_52 : decode cX1_bounds 52 = .ok (.getfield 295, 3) := dk_180 1 39 (dk_at dksX1_bounds_2 4 rfl rfl)
theorem dX1_bounds_55 : decode cX1_bounds 55 = .ok (.invokestatic 163, 3) := dk_184 0 163 (dk_at dksX1_bounds_2 7 rfl rfl)
theorem dX1_bounds_58 : decode cX1_bounds 58 = .ok (.ifCond .le 22, 3) := dk_158 0 22 (dk_at dksX1_bounds_2 10 rfl rfl)
theorem dX1_bounds_61 : decode cX1_bounds 61 = .ok (.aload_n 0, 1) := dk_42 (dk_at dksX1_bounds_2 13 rfl rfl)
theorem dX1_bounds_62 : decode cX1_bounds 62 = .ok (.iconst 1, 1) := dk_4 (dk_at dksX1_bounds_2 14 rfl rfl)
theorem dX1_bounds_63 : decode cX1_bounds 63 = .ok (.putfield 289, 3) := dk_181 1 33 (dk_at dksX1_bounds_2 15 rfl rfl)
theorem dX1_bounds_66 : decode cX1_bounds 66 = .ok (.aload_n 0, 1) := dk_42 (dk_at dksX1_bounds_2 18 rfl rfl)
theorem dX1_bounds_67 : decode cX1_bounds 67 = .ok (.lload_n 1, 1) := dk_31 (dk_at dksX1_bounds_2 19 rfl rfl)
theorem dX1_bounds_68 : decode cX1_bounds 68 = .ok (.lneg, 1) := dk_117 (dk_at dksX1_bounds_2 20 rfl rfl)
theorem dX1_bounds_69 : decode cX1_bounds 69 = .ok (.putfield 292, 3) := dk_181 1 36 (dk_at dksX1_bounds_2 21 rfl rfl)
theorem dX1_bounds_72 : decode cX1_bounds 72 = .ok (.aload_n 0, 1) := dk_42 (dk_at dksX1_bounds_3 0 rfl rfl)
theorem dX1_bounds_73 : decode cX1_bounds 73 = .ok (.lload_n 3, 1) := dk_33 (dk_at dksX1_bounds_3 1 rfl rfl)
theorem dX1_bounds_74 : decode cX1_bounds 74 = .ok (.putfield 295, 3) := dk_181 1 39 (dk_at dksX1_bounds_3 2 rfl rfl)
theorem dX1_bounds_77 : decode cX1_bounds 77 = .ok (.goto 49, 3) := dk_167 0 49 (dk_at dksX1_bounds_3 5 rfl rfl)
theorem dX1_bounds_80 : decode cX1_bounds 80 = .ok (.lload_n 3, 1) := dk_33 (dk_at dksX1_bounds_3 8 rfl rfl)
theorem dX1_bounds_81 : decode cX1_bounds 81 = .ok (.lconst 0, 1) := dk_9 (dk_at dksX1_bounds_3 9 rfl rfl)
theorem dX1_bounds_82 : decode cX1_bounds 82 = .ok (.lcmp, 1) := dk_148 (dk_at dksX1_bounds_3 10 rfl rfl)
theorem dX1_bounds_83 : decode cX1_bounds 83 = .ok (.ifCond .ge 43, 3) := dk_156 0 43 (dk_at dksX1_bounds_3 11 rfl rfl)
theorem dX1_bounds_86 : decode cX1_bounds 86 = .ok (.aload_n 0, 1) := dk_42 (dk_at dksX1_bounds_3 14 rfl rfl)
theorem dX1_bounds_87 : decode cX1_bounds 87 = .ok (.getfield 298, 3) := dk_180 1 42 (dk_at dksX1_bounds_3 15 rfl rfl)
theorem dX1_bounds_90 : decode cX1_bounds 90 = .ok (.ifCond .eq 20, 3) := dk_153 0 20 (dk_at dksX1_bounds_3 18 rfl rfl)
theorem dX1_bounds_93 : decode cX1_bounds 93 = .ok (.lload_n 1, 1) := dk_31 (dk_at dksX1_bounds_3 21 rfl rfl)
theorem dX1_bounds_94 : decode cX1_bounds 94 = .ok (.lload_n 3, 1) := dk_33 (dk_at dksX1_bounds_3 22 rfl rfl)
theorem dX1_bounds_95 : decode cX1_bounds 95 = .ok (.lneg, 1) := dk_117 (dk_at dksX1_bounds_3 23 rfl rfl)
theorem dX1_bounds_96 : decode cX1_bounds 96 = .ok (.aload_n 0, 1) := dk_42 (dk_at dksX1_bounds_4 0 rfl rfl)
theorem dX1_bounds_97 : decode cX1_bounds 97 = .ok (.getfield 301, 3) := dk_180 1 45 (dk_at dksX1_bounds_4 1 rfl rfl)
theorem dX1_bounds_100 : decode cX1_bounds 100 = .ok (.aload_n 0, 1) := dk_42 (dk_at dksX1_bounds_4 4 rfl rfl)
theorem dX1_bounds_101 : decode cX1_bounds 101 = .ok (.getfield 304, 3) := dk_180 1 48 (dk_at dksX1_bounds_4 5 rfl rfl)
theorem dX1_bounds_104 : decode cX1_bounds 104 = .ok (.invokestatic 163, 3) := dk_184 0 163 (dk_at dksX1_bounds_4 8 rfl rfl)
theorem dX1_bounds_107 : decode cX1_bounds 107 = .ok (.ifCond .ge 19, 3) := dk_156 0 19 (dk_at dksX1_bounds_4 11 rfl rfl)
theorem dX1_bounds_110 : decode cX1_bounds 110 = .ok (.aload_n 0, 1) := dk_42 (dk_at dksX1_bounds_4 14 rfl rfl)
theorem dX1_bounds_111 : decode cX1_bounds 111 = .ok (.iconst 1, 1) := dk_4 (dk_at dksX1_bounds_4 15 rfl rfl)
theorem dX1_bounds_112 : decode cX1_bounds 112 = .ok (.putfield 298, 3) := dk_181 1 42 (dk_at dksX1_bounds_4 16 rfl rfl)
theorem dX1_bounds_115 : decode cX1_bounds 115 = .ok (.aload_n 0, 1) := dk_42 (dk_at dksX1_bounds_4 19 rfl rfl)
theorem dX1_bounds_116 : decode cX1_bounds 116 = .ok (.lload_n 1, 1) := dk_31 (dk_at dksX1_bounds_4 20 rfl rfl)
theorem dX1_bounds_117 : decode cX1_bounds 117 = .ok (.putfield 301, 3) := dk_181 1 45 (dk_at dksX1_bounds_4 21 rfl rfl)
theorem dX1_bounds_120 : decode cX1_bounds 120 = .ok (.aload_n 0, 1) := dk_42 (dk_at dksX1_bounds_5 0 rfl rfl)
theorem dX1_bounds_121 : decode cX1_bounds 121 = .ok (.lload_n 3, 1) := dk_33 (dk_at dksX1_bounds_5 1 rfl rfl)
theorem dX1_bounds_122 : decode cX1_bounds 122 = .ok (.lneg, 1) := dk_117 (dk_at dksX1_bounds_5 2 rfl rfl)
theorem dX1_bounds_123 : decode cX1_bounds 123 = .ok (.putfield 304, 3) := dk_181 1 48 (dk_at dksX1_bounds_5 3 rfl rfl)
theorem dX1_bounds_126 : decode cX1_bounds 126 = .ok (.return_, 1) := dk_177 (dk_at dksX1_bounds_5 6 rfl rfl)
abbrev cX1_convert : ByteArray := prog_20_method_62_code
def yX1_convert : MethodName := ⟨RX1, "convert", "(II)I"⟩
def dkwX1_convert_3 : List UInt8 := [16, 6, 182, 0, 188, 2, 182, 0, 192, 42, 3, 182, 0, 184, 62, 167, 255, 230, 42, 182, 0, 202, 172]
abbrev dktX1_convert_3 : List UInt8 := dkwX1_convert_3 ++ []
def dkwX1_convert_2 : List UInt8 := [42, 27, 28, 182, 0, 180, 42, 4, 182, 0, 184, 62, 29, 153, 0, 28, 42, 42, 8, 182, 0, 188, 42]
abbrev dktX1_convert_2 : List UInt8 := dkwX1_convert_2 ++ dktX1_convert_3
def dkwX1_convert_1 : List UInt8 := [28, 160, 0, 23, 42, 3, 181, 0, 153, 42, 10, 181, 0, 156, 42, 10, 181, 0, 160, 42, 182, 0, 202, 172]
abbrev dktX1_convert_1 : List UInt8 := dkwX1_convert_1 ++ dktX1_convert_2
def dkwX1_convert_0 : List UInt8 := [27, 184, 0, 64, 153, 0, 10, 28, 184, 0, 64, 154, 0, 6, 18, 72, 172, 42, 18, 25, 181, 0, 153, 27]
abbrev dktX1_convert_0 : List UInt8 := dkwX1_convert_0 ++ dktX1_convert_1
theorem dksX1_convert_0 : cX1_convert.data.toList.drop 0 = dktX1_convert_0 := by decide +kernel
theorem dksX1_convert_1 : cX1_convert.data.toList.drop 24 = dktX1_convert_1 := dk_seg dksX1_convert_0 24 rfl rfl
theorem dksX1_convert_2 : cX1_convert.data.toList.drop 48 = dktX1_convert_2 := dk_seg dksX1_convert_1 24 rfl rfl
theorem dksX1_convert_3 : cX1_convert.data.toList.drop 71 = dktX1_convert_3 := dk_seg dksX1_convert_2 23 rfl rfl
theorem dX1_convert_0 : decode cX1_convert 0 = .ok (.iload_n 1, 1) := dk_27 (dk_at dksX1_convert_0 0 rfl rfl)
theorem dX1_convert_1 : decode cX1_convert 1 = .ok (.invokestatic 64, 3) := dk_184 0 64 (dk_at dksX1_convert_0 1 rfl rfl)
theorem dX1_convert_4 : decode cX1_convert 4 = .ok (.ifCond .eq 10, 3) := dk_153 0 10 (dk_at dksX1_convert_0 4 rfl rfl)
theorem dX1_convert_7 : decode cX1_convert 7 = .ok (.iload_n 2, 1) := dk_28 (dk_at dksX1_convert_0 7 rfl rfl)
theorem dX1_convert_8 : decode cX1_convert 8 = .ok (.invokestatic 64, 3) := dk_184 0 64 (dk_at dksX1_convert_0 8 rfl rfl)
theorem dX1_convert_11 : decode cX1_convert 11 = .ok (.ifCond .ne 6, 3) := dk_154 0 6 (dk_at dksX1_convert_0 11 rfl rfl)
theorem dX1_convert_14 : decode cX1_convert 14 = .ok (.ldc 72, 2) := dk_18 72 (dk_at dksX1_convert_0 14 rfl rfl)
theorem dX1_convert_16 : decode cX1_convert 16 = .ok (.ireturn, 1) := dk_172 (dk_at dksX1_convert_0 16 rfl rfl)
theorem dX1_convert_17 : decode cX1_convert 17 = .ok (.aload_n 0, 1) := dk_42 (dk_at dksX1_convert_0 17 rfl rfl)
theorem dX1_convert_18 : decode cX1_convert 18 = .ok (.ldc 25, 2) := dk_18 25 (dk_at dksX1_convert_0 18 rfl rfl)
theorem dX1_convert_20 : decode cX1_convert 20 = .ok (.putfield 153, 3) := dk_181 0 153 (dk_at dksX1_convert_0 20 rfl rfl)
theorem dX1_convert_23 : decode cX1_convert 23 = .ok (.iload_n 1, 1) := dk_27 (dk_at dksX1_convert_0 23 rfl rfl)
theorem dX1_convert_24 : decode cX1_convert 24 = .ok (.iload_n 2, 1) := dk_28 (dk_at dksX1_convert_1 0 rfl rfl)
theorem dX1_convert_25 : decode cX1_convert 25 = .ok (.if_icmp .ne 23, 3) := dk_160 0 23 (dk_at dksX1_convert_1 1 rfl rfl)
theorem dX1_convert_28 : decode cX1_convert 28 = .ok (.aload_n 0, 1) := dk_42 (dk_at dksX1_convert_1 4 rfl rfl)
theorem dX1_convert_29 : decode cX1_convert 29 = .ok (.iconst 0, 1) := dk_3 (dk_at dksX1_convert_1 5 rfl rfl)
theorem dX1_convert_30 : decode cX1_convert 30 = .ok (.putfield 153, 3) := dk_181 0 153 (dk_at dksX1_convert_1 6 rfl rfl)
theorem dX1_convert_33 : decode cX1_convert 33 = .ok (.aload_n 0, 1) := dk_42 (dk_at dksX1_convert_1 9 rfl rfl)
theorem dX1_convert_34 : decode cX1_convert 34 = .ok (.lconst 1, 1) := dk_10 (dk_at dksX1_convert_1 10 rfl rfl)
theorem dX1_convert_35 : decode cX1_convert 35 = .ok (.putfield 156, 3) := dk_181 0 156 (dk_at dksX1_convert_1 11 rfl rfl)
theorem dX1_convert_38 : decode cX1_convert 38 = .ok (.aload_n 0, 1) := dk_42 (dk_at dksX1_convert_1 14 rfl rfl)
theorem dX1_convert_39 : decode cX1_convert 39 = .ok (.lconst 1, 1) := dk_10 (dk_at dksX1_convert_1 15 rfl rfl)
theorem dX1_convert_40 : decode cX1_convert 40 = .ok (.putfield 160, 3) := dk_181 0 160 (dk_at dksX1_convert_1 16 rfl rfl)
theorem dX1_convert_43 : decode cX1_convert 43 = .ok (.aload_n 0, 1) := dk_42 (dk_at dksX1_convert_1 19 rfl rfl)
theorem dX1_convert_44 : decode cX1_convert 44 = .ok (.invokevirtual 202, 3) := dk_182 0 202 (dk_at dksX1_convert_1 20 rfl rfl)
theorem dX1_convert_47 : decode cX1_convert 47 = .ok (.ireturn, 1) := dk_172 (dk_at dksX1_convert_1 23 rfl rfl)
theorem dX1_convert_48 : decode cX1_convert 48 = .ok (.aload_n 0, 1) := dk_42 (dk_at dksX1_convert_2 0 rfl rfl)
theorem dX1_convert_49 : decode cX1_convert 49 = .ok (.iload_n 1, 1) := dk_27 (dk_at dksX1_convert_2 1 rfl rfl)
theorem dX1_convert_50 : decode cX1_convert 50 = .ok (.iload_n 2, 1) := dk_28 (dk_at dksX1_convert_2 2 rfl rfl)
theorem dX1_convert_51 : decode cX1_convert 51 = .ok (.invokevirtual 180, 3) := dk_182 0 180 (dk_at dksX1_convert_2 3 rfl rfl)
theorem dX1_convert_54 : decode cX1_convert 54 = .ok (.aload_n 0, 1) := dk_42 (dk_at dksX1_convert_2 6 rfl rfl)
theorem dX1_convert_55 : decode cX1_convert 55 = .ok (.iconst 1, 1) := dk_4 (dk_at dksX1_convert_2 7 rfl rfl)
theorem dX1_convert_56 : decode cX1_convert 56 = .ok (.invokevirtual 184, 3) := dk_182 0 184 (dk_at dksX1_convert_2 8 rfl rfl)
theorem dX1_convert_59 : decode cX1_convert 59 = .ok (.istore_n 3, 1) := dk_62 (dk_at dksX1_convert_2 11 rfl rfl)
theorem dX1_convert_60 : decode cX1_convert 60 = .ok (.iload_n 3, 1) := dk_29 (dk_at dksX1_convert_2 12 rfl rfl)
theorem dX1_convert_61 : decode cX1_convert 61 = .ok (.ifCond .eq 28, 3) := dk_153 0 28 (dk_at dksX1_convert_2 13 rfl rfl)
theorem dX1_convert_64 : decode cX1_convert 64 = .ok (.aload_n 0, 1) := dk_42 (dk_at dksX1_convert_2 16 rfl rfl)
theorem dX1_convert_65 : decode cX1_convert 65 = .ok (.aload_n 0, 1) := dk_42 (dk_at dksX1_convert_2 17 rfl rfl)
theorem dX1_convert_66 : decode cX1_convert 66 = .ok (.iconst 5, 1) := dk_8 (dk_at dksX1_convert_2 18 rfl rfl)
theorem dX1_convert_67 : decode cX1_convert 67 = .ok (.invokevirtual 188, 3) := dk_182 0 188 (dk_at dksX1_convert_2 19 rfl rfl)
theorem dX1_convert_70 : decode cX1_convert 70 = .ok (.aload_n 0, 1) := dk_42 (dk_at dksX1_convert_2 22 rfl rfl)
theorem dX1_convert_71 : decode cX1_convert 71 = .ok (.bipush 6, 2) := dk_16 6 (dk_at dksX1_convert_3 0 rfl rfl)
theorem dX1_convert_73 : decode cX1_convert 73 = .ok (.invokevirtual 188, 3) := dk_182 0 188 (dk_at dksX1_convert_3 2 rfl rfl)
theorem dX1_convert_76 : decode cX1_convert 76 = .ok (.iconst (-1), 1) := dk_2 (dk_at dksX1_convert_3 5 rfl rfl)
theorem dX1_convert_77 : decode cX1_convert 77 = .ok (.invokevirtual 192, 3) := dk_182 0 192 (dk_at dksX1_convert_3 6 rfl rfl)
theorem dX1_convert_80 : decode cX1_convert 80 = .ok (.aload_n 0, 1) := dk_42 (dk_at dksX1_convert_3 9 rfl rfl)
theorem dX1_convert_81 : decode cX1_convert 81 = .ok (.iconst 0, 1) := dk_3 (dk_at dksX1_convert_3 10 rfl rfl)
theorem dX1_convert_82 : decode cX1_convert 82 = .ok (.invokevirtual 184, 3) := dk_182 0 184 (dk_at dksX1_convert_3 11 rfl rfl)
theorem dX1_convert_85 : decode cX1_convert 85 = .ok (.istore_n 3, 1) := dk_62 (dk_at dksX1_convert_3 14 rfl rfl)
theorem dX1_convert_86 : decode cX1_convert 86 = .ok (.goto (-26), 3) := dk_167 255 230 (dk_at dksX1_convert_3 15 rfl rfl)
theorem dX1_convert_89 : decode cX1_convert 89 = .ok (.aload_n 0, 1) := dk_42 (dk_at dksX1_convert_3 18 rfl rfl)
theorem dX1_convert_90 : decode cX1_convert 90 = .ok (.invokevirtual 202, 3) := dk_182 0 202 (dk_at dksX1_convert_3 19 rfl rfl)
theorem dX1_convert_93 : decode cX1_convert 93 = .ok (.ireturn, 1) := dk_172 (dk_at dksX1_convert_3 22 rfl rfl)
abbrev cX1_count : ByteArray := prog_20_method_65_code
def yX1_count : MethodName := ⟨RX1, "count", "(I)I"⟩
def dkwX1_count_3 : List UInt8 := [182, 1, 58, 172, 42, 180, 1, 21, 172, 18, 72, 172]
abbrev dktX1_count_3 : List UInt8 := dkwX1_count_3 ++ []
def dkwX1_count_2 : List UInt8 := [42, 180, 0, 7, 16, 112, 46, 172, 42, 180, 0, 60, 172, 42, 180, 0, 90, 172, 42, 182, 1, 55, 172, 42]
abbrev dktX1_count_2 : List UInt8 := dkwX1_count_2 ++ dktX1_count_3
def dkwX1_count_1 : List UInt8 := [170, 0, 0, 0, 0, 0, 72, 0, 0, 0, 0, 0, 0, 0, 5, 0, 0, 0, 39, 0, 0, 0, 47, 0, 0, 0, 52, 0, 0, 0, 57, 0, 0, 0, 62, 0, 0, 0, 67]
abbrev dktX1_count_1 : List UInt8 := dkwX1_count_1 ++ dktX1_count_2
def dkwX1_count_0 : List UInt8 := [27]
abbrev dktX1_count_0 : List UInt8 := dkwX1_count_0 ++ dktX1_count_1
theorem dksX1_count_0 : cX1_count.data.toList.drop 0 = dktX1_count_0 := by decide +kernel
theorem dksX1_count_1 : cX1_count.data.toList.drop 1 = dktX1_count_1 := dk_seg dksX1_count_0 1 rfl rfl
theorem dksX1_count_2 : cX1_count.data.toList.drop 40 = dktX1_count_2 := dk_seg dksX1_count_1 39 rfl rfl
theorem dksX1_count_3 : cX1_count.data.toList.drop 64 = dktX1_count_3 := dk_seg dksX1_count_2 24 rfl rfl
theorem dX1_count_0 : decode cX1_count 0 = .ok (.iload_n 1, 1) := dk_27 (dk_at dksX1_count_0 0 rfl rfl)
theorem dX1_count_1 : decode cX1_count 1 = .ok (.tableswitch 72 0 5 #[39, 47, 52, 57, 62, 67], 39) := by decide +kernel
theorem dX1_count_40 : decode cX1_count 40 = .ok (.aload_n 0, 1) := dk_42 (dk_at dksX1_count_2 0 rfl rfl)
theorem dX1_count_41 : decode cX1_count 41 = .ok (.getfield 7, 3) := dk_180 0 7 (dk_at dksX1_count_2 1 rfl rfl)
theorem dX1_count_44 : decode cX1_count 44 = .ok (.bipush 112, 2) := dk_16 112 (dk_at dksX1_count_2 4 rfl rfl)
theorem dX1_count_46 : decode cX1_count 46 = .ok (.iaload, 1) := dk_46 (dk_at dksX1_count_2 6 rfl rfl)
theorem dX1_count_47 : decode cX1_count 47 = .ok (.ireturn, 1) := dk_172 (dk_at dksX1_count_2 7 rfl rfl)
theorem dX1_count_48 : decode cX1_count 48 = .ok (.aload_n 0, 1) := dk_42 (dk_at dksX1_count_2 8 rfl rfl)
theorem dX1_count_49 : decode cX1_count 49 = .ok (.getfield 60, 3) := dk_180 0 60 (dk_at dksX1_count_2 9 rfl rfl)
theorem dX1_count_52 : decode cX1_count 52 = .ok (.ireturn, 1) := dk_172 (dk_at dksX1_count_2 12 rfl rfl)
theorem dX1_count_53 : decode cX1_count 53 = .ok (.aload_n 0, 1) := dk_42 (dk_at dksX1_count_2 13 rfl rfl)
theorem dX1_count_54 : decode cX1_count 54 = .ok (.getfield 90, 3) := dk_180 0 90 (dk_at dksX1_count_2 14 rfl rfl)
theorem dX1_count_57 : decode cX1_count 57 = .ok (.ireturn, 1) := dk_172 (dk_at dksX1_count_2 17 rfl rfl)
theorem dX1_count_58 : decode cX1_count 58 = .ok (.aload_n 0, 1) := dk_42 (dk_at dksX1_count_2 18 rfl rfl)
theorem dX1_count_59 : decode cX1_count 59 = .ok (.invokevirtual 311, 3) := dk_182 1 55 (dk_at dksX1_count_2 19 rfl rfl)
theorem dX1_count_62 : decode cX1_count 62 = .ok (.ireturn, 1) := dk_172 (dk_at dksX1_count_2 22 rfl rfl)
theorem dX1_count_63 : decode cX1_count 63 = .ok (.aload_n 0, 1) := dk_42 (dk_at dksX1_count_2 23 rfl rfl)
theorem dX1_count_64 : decode cX1_count 64 = .ok (.invokevirtual 314, 3) := dk_182 1 58 (dk_at dksX1_count_3 0 rfl rfl)
theorem dX1_count_67 : decode cX1_count 67 = .ok (.ireturn, 1) := dk_172 (dk_at dksX1_count_3 3 rfl rfl)
theorem dX1_count_68 : decode cX1_count 68 = .ok (.aload_n 0, 1) := dk_42 (dk_at dksX1_count_3 4 rfl rfl)
theorem dX1_count_69 : decode cX1_count 69 = .ok (.getfield 277, 3) := dk_180 1 21 (dk_at dksX1_count_3 5 rfl rfl)
theorem dX1_count_72 : decode cX1_count 72 = .ok (.ireturn, 1) := dk_172 (dk_at dksX1_count_3 8 rfl rfl)
theorem dX1_count_73 : decode cX1_count 73 = .ok (.ldc 72, 2) := dk_18 72 (dk_at dksX1_count_3 9 rfl rfl)
theorem dX1_count_75 : decode cX1_count 75 = .ok (.ireturn, 1) := dk_172 (dk_at dksX1_count_3 11 rfl rfl)
abbrev cX1_weights : ByteArray := prog_20_method_63_code
def yX1_weights : MethodName := ⟨RX1, "weights", "()I"⟩
def dkwX1_weights_1 : List UInt8 := [132, 2, 1, 167, 255, 233, 27, 172]
abbrev dktX1_weights_1 : List UInt8 := dkwX1_weights_1 ++ []
def dkwX1_weights_0 : List UInt8 := [3, 60, 3, 61, 28, 42, 180, 0, 7, 16, 112, 46, 162, 0, 18, 27, 42, 28, 5, 182, 0, 80, 96, 60]
abbrev dktX1_weights_0 : List UInt8 := dkwX1_weights_0 ++ dktX1_weights_1
theorem dksX1_weights_0 : cX1_weights.data.toList.drop 0 = dktX1_weights_0 := by decide +kernel
theorem dksX1_weights_1 : cX1_weights.data.toList.drop 24 = dktX1_weights_1 := dk_seg dksX1_weights_0 24 rfl rfl
theorem dX1_weights_0 : decode cX1_weights 0 = .ok (.iconst 0, 1) := dk_3 (dk_at dksX1_weights_0 0 rfl rfl)
theorem dX1_weights_1 : decode cX1_weights 1 = .ok (.istore_n 1, 1) := dk_60 (dk_at dksX1_weights_0 1 rfl rfl)
theorem dX1_weights_2 : decode cX1_weights 2 = .ok (.iconst 0, 1) := dk_3 (dk_at dksX1_weights_0 2 rfl rfl)
theorem dX1_weights_3 : decode cX1_weights 3 = .ok (.istore_n 2, 1) := dk_61 (dk_at dksX1_weights_0 3 rfl rfl)
theorem dX1_weights_4 : decode cX1_weights 4 = .ok (.iload_n 2, 1) := dk_28 (dk_at dksX1_weights_0 4 rfl rfl)
theorem dX1_weights_5 : decode cX1_weights 5 = .ok (.aload_n 0, 1) := dk_42 (dk_at dksX1_weights_0 5 rfl rfl)
theorem dX1_weights_6 : decode cX1_weights 6 = .ok (.getfield 7, 3) := dk_180 0 7 (dk_at dksX1_weights_0 6 rfl rfl)
theorem dX1_weights_9 : decode cX1_weights 9 = .ok (.bipush 112, 2) := dk_16 112 (dk_at dksX1_weights_0 9 rfl rfl)
theorem dX1_weights_11 : decode cX1_weights 11 = .ok (.iaload, 1) := dk_46 (dk_at dksX1_weights_0 11 rfl rfl)
theorem dX1_weights_12 : decode cX1_weights 12 = .ok (.if_icmp .ge 18, 3) := dk_162 0 18 (dk_at dksX1_weights_0 12 rfl rfl)
theorem dX1_weights_15 : decode cX1_weights 15 = .ok (.iload_n 1, 1) := dk_27 (dk_at dksX1_weights_0 15 rfl rfl)
theorem dX1_weights_16 : decode cX1_weights 16 = .ok (.aload_n 0, 1) := dk_42 (dk_at dksX1_weights_0 16 rfl rfl)
theorem dX1_weights_17 : decode cX1_weights 17 = .ok (.iload_n 2, 1) := dk_28 (dk_at dksX1_weights_0 17 rfl rfl)
theorem dX1_weights_18 : decode cX1_weights 18 = .ok (.iconst 2, 1) := dk_5 (dk_at dksX1_weights_0 18 rfl rfl)
theorem dX1_weights_19 : decode cX1_weights 19 = .ok (.invokevirtual 80, 3) := dk_182 0 80 (dk_at dksX1_weights_0 19 rfl rfl)
theorem dX1_weights_22 : decode cX1_weights 22 = .ok (.iadd, 1) := dk_96 (dk_at dksX1_weights_0 22 rfl rfl)
theorem dX1_weights_23 : decode cX1_weights 23 = .ok (.istore_n 1, 1) := dk_60 (dk_at dksX1_weights_0 23 rfl rfl)
theorem dX1_weights_24 : decode cX1_weights 24 = .ok (.iinc 2 1, 3) := dk_132 2 1 (dk_at dksX1_weights_1 0 rfl rfl)
theorem dX1_weights_27 : decode cX1_weights 27 = .ok (.goto (-23), 3) := dk_167 255 233 (dk_at dksX1_weights_1 3 rfl rfl)
theorem dX1_weights_30 : decode cX1_weights 30 = .ok (.iload_n 1, 1) := dk_27 (dk_at dksX1_weights_1 6 rfl rfl)
theorem dX1_weights_31 : decode cX1_weights 31 = .ok (.ireturn, 1) := dk_172 (dk_at dksX1_weights_1 7 rfl rfl)
abbrev cX1_pairs : ByteArray := prog_20_method_64_code
def yX1_pairs : MethodName := ⟨RX1, "pairs", "()I"⟩
def dkwX1_pairs_4 : List UInt8 := [27, 172]
abbrev dktX1_pairs_4 : List UInt8 := dkwX1_pairs_4 ++ []
def dkwX1_pairs_3 : List UInt8 := [162, 0, 18, 27, 29, 21, 4, 122, 4, 126, 96, 60, 132, 4, 1, 167, 255, 237, 132, 2, 1, 167, 255, 170]
abbrev dktX1_pairs_3 : List UInt8 := dkwX1_pairs_3 ++ dktX1_pairs_4
def dkwX1_pairs_2 : List UInt8 := [182, 0, 230, 167, 0, 4, 3, 128, 62, 132, 4, 1, 167, 255, 212, 3, 54, 4, 21, 4, 16, 8]
abbrev dktX1_pairs_2 : List UInt8 := dkwX1_pairs_2 ++ dktX1_pairs_3
def dkwX1_pairs_1 : List UInt8 := [162, 0, 38, 29, 42, 21, 4, 3, 182, 0, 80, 28, 160, 0, 17, 42, 42, 21, 4, 4, 182, 0, 80]
abbrev dktX1_pairs_1 : List UInt8 := dkwX1_pairs_1 ++ dktX1_pairs_2
def dkwX1_pairs_0 : List UInt8 := [3, 60, 3, 61, 28, 16, 8, 162, 0, 86, 3, 62, 3, 54, 4, 21, 4, 42, 180, 0, 7, 16, 112, 46]
abbrev dktX1_pairs_0 : List UInt8 := dkwX1_pairs_0 ++ dktX1_pairs_1
theorem dksX1_pairs_0 : cX1_pairs.data.toList.drop 0 = dktX1_pairs_0 := by decide +kernel
theorem dksX1_pairs_1 : cX1_pairs.data.toList.drop 24 = dktX1_pairs_1 := dk_seg dksX1_pairs_0 24 rfl rfl
theorem dksX1_pairs_2 : cX1_pairs.data.toList.drop 47 = dktX1_pairs_2 := dk_seg dksX1_pairs_1 23 rfl rfl
theorem dksX1_pairs_3 : cX1_pairs.data.toList.drop 69 = dktX1_pairs_3 := dk_seg dksX1_pairs_2 22 rfl rfl
theorem dksX1_pairs_4 : cX1_pairs.data.toList.drop 93 = dktX1_pairs_4 := dk_seg dksX1_pairs_3 24 rfl rfl
theorem dX1_pairs_0 : decode cX1_pairs 0 = .ok (.iconst 0, 1) := dk_3 (dk_at dksX1_pairs_0 0 rfl rfl)
theorem dX1_pairs_1 : decode cX1_pairs 1 = .ok (.istore_n 1, 1) := dk_60 (dk_at dksX1_pairs_0 1 rfl rfl)
theorem dX1_pairs_2 : decode cX1_pairs 2 = .ok (.iconst 0, 1) := dk_3 (dk_at dksX1_pairs_0 2 rfl rfl)
theorem dX1_pairs_3 : decode cX1_pairs 3 = .ok (.istore_n 2, 1) := dk_61 (dk_at dksX1_pairs_0 3 rfl rfl)
theorem dX1_pairs_4 : decode cX1_pairs 4 = .ok (.iload_n 2, 1) := dk_28 (dk_at dksX1_pairs_0 4 rfl rfl)
theorem dX1_pairs_5 : decode cX1_pairs 5 = .ok (.bipush 8, 2) := dk_16 8 (dk_at dksX1_pairs_0 5 rfl rfl)
theorem dX1_pairs_7 : decode cX1_pairs 7 = .ok (.if_icmp .ge 86, 3) := dk_162 0 86 (dk_at dksX1_pairs_0 7 rfl rfl)
theorem dX1_pairs_10 : decode cX1_pairs 10 = .ok (.iconst 0, 1) := dk_3 (dk_at dksX1_pairs_0 10 rfl rfl)
theorem dX1_pairs_11 : decode cX1_pairs 11 = .ok (.istore_n 3, 1) := dk_62 (dk_at dksX1_pairs_0 11 rfl rfl)
theorem dX1_pairs_12 : decode cX1_pairs 12 = .ok (.iconst 0, 1) := dk_3 (dk_at dksX1_pairs_0 12 rfl rfl)
theorem dX1_pairs_13 : decode cX1_pairs 13 = .ok (.istore 4, 2) := dk_54 4 (dk_at dksX1_pairs_0 13 rfl rfl)
theorem dX1_pairs_15 : decode cX1_pairs 15 = .ok (.iload 4, 2) := dk_21 4 (dk_at dksX1_pairs_0 15 rfl rfl)
theorem dX1_pairs_17 : decode cX1_pairs 17 = .ok (.aload_n 0, 1) := dk_42 (dk_at dksX1_pairs_0 17 rfl rfl)
theorem dX1_pairs_18 : decode cX1_pairs 18 = .ok (.getfield 7, 3) := dk_180 0 7 (dk_at dksX1_pairs_0 18 rfl rfl)
theorem dX1_pairs_21 : decode cX1_pairs 21 = .ok (.bipush 112, 2) := dk_16 112 (dk_at dksX1_pairs_0 21 rfl rfl)
theorem dX1_pairs_23 : decode cX1_pairs 23 = .ok (.iaload, 1) := dk_46 (dk_at dksX1_pairs_0 23 rfl rfl)
theorem dX1_pairs_24 : decode cX1_pairs 24 = .ok (.if_icmp .ge 38, 3) := dk_162 0 38 (dk_at dksX1_pairs_1 0 rfl rfl)
theorem dX1_pairs_27 : decode cX1_pairs 27 = .ok (.iload_n 3, 1) := dk_29 (dk_at dksX1_pairs_1 3 rfl rfl)
theorem dX1_pairs_28 : decode cX1_pairs 28 = .ok (.aload_n 0, 1) := dk_42 (dk_at dksX1_pairs_1 4 rfl rfl)
theorem dX1_pairs_29 : decode cX1_pairs 29 = .ok (.iload 4, 2) := dk_21 4 (dk_at dksX1_pairs_1 5 rfl rfl)
theorem dX1_pairs_31 : decode cX1_pairs 31 = .ok (.iconst 0, 1) := dk_3 (dk_at dksX1_pairs_1 7 rfl rfl)
theorem dX1_pairs_32 : decode cX1_pairs 32 = .ok (.invokevirtual 80, 3) := dk_182 0 80 (dk_at dksX1_pairs_1 8 rfl rfl)
theorem dX1_pairs_35 : decode cX1_pairs 35 = .ok (.iload_n 2, 1) := dk_28 (dk_at dksX1_pairs_1 11 rfl rfl)
theorem dX1_pairs_36 : decode cX1_pairs 36 = .ok (.if_icmp .ne 17, 3) := dk_160 0 17 (dk_at dksX1_pairs_1 12 rfl rfl)
theorem dX1_pairs_39 : decode cX1_pairs 39 = .ok (.aload_n 0, 1) := dk_42 (dk_at dksX1_pairs_1 15 rfl rfl)
theorem dX1_pairs_40 : decode cX1_pairs 40 = .ok (.aload_n 0, 1) := dk_42 (dk_at dksX1_pairs_1 16 rfl rfl)
theorem dX1_pairs_41 : decode cX1_pairs 41 = .ok (.iload 4, 2) := dk_21 4 (dk_at dksX1_pairs_1 17 rfl rfl)
theorem dX1_pairs_43 : decode cX1_pairs 43 = .ok (.iconst 1, 1) := dk_4 (dk_at dksX1_pairs_1 19 rfl rfl)
theorem dX1_pairs_44 : decode cX1_pairs 44 = .ok (.invokevirtual 80, 3) := dk_182 0 80 (dk_at dksX1_pairs_1 20 rfl rfl)
theorem dX1_pairs_47 : decode cX1_pairs 47 = .ok (.invokevirtual 230, 3) := dk_182 0 230 (dk_at dksX1_pairs_2 0 rfl rfl)
theorem dX1_pairs_50 : decode cX1_pairs 50 = .ok (.goto 4, 3) := dk_167 0 4 (dk_at dksX1_pairs_2 3 rfl rfl)
theorem dX1_pairs_53 : decode cX1_pairs 53 = .ok (.iconst 0, 1) := dk_3 (dk_at dksX1_pairs_2 6 rfl rfl)
theorem dX1_pairs_54 : decode cX1_pairs 54 = .ok (.ior, 1) := dk_128 (dk_at dksX1_pairs_2 7 rfl rfl)
theorem dX1_pairs_55 : decode cX1_pairs 55 = .ok (.istore_n 3, 1) := dk_62 (dk_at dksX1_pairs_2 8 rfl rfl)
theorem dX1_pairs_56 : decode cX1_pairs 56 = .ok (.iinc 4 1, 3) := dk_132 4 1 (dk_at dksX1_pairs_2 9 rfl rfl)
theorem dX1_pairs_59 : decode cX1_pairs 59 = .ok (.goto (-44), 3) := dk_167 255 212 (dk_at dksX1_pairs_2 12 rfl rfl)
theorem dX1_pairs_62 : decode cX1_pairs 62 = .ok (.iconst 0, 1) := dk_3 (dk_at dksX1_pairs_2 15 rfl rfl)
theorem dX1_pairs_63 : decode cX1_pairs 63 = .ok (.istore 4, 2) := dk_54 4 (dk_at dksX1_pairs_2 16 rfl rfl)
theorem dX1_pairs_65 : decode cX1_pairs 65 = .ok (.iload 4, 2) := dk_21 4 (dk_at dksX1_pairs_2 18 rfl rfl)
theorem dX1_pairs_67 : decode cX1_pairs 67 = .ok (.bipush 8, 2) := dk_16 8 (dk_at dksX1_pairs_2 20 rfl rfl)
theorem dX1_pairs_69 : decode cX1_pairs 69 = .ok (.if_icmp .ge 18, 3) := dk_162 0 18 (dk_at dksX1_pairs_3 0 rfl rfl)
theorem dX1_pairs_72 : decode cX1_pairs 72 = .ok (.iload_n 1, 1) := dk_27 (dk_at dksX1_pairs_3 3 rfl rfl)
theorem dX1_pairs_73 : decode cX1_pairs 73 = .ok (.iload_n 3, 1) := dk_29 (dk_at dksX1_pairs_3 4 rfl rfl)
theorem dX1_pairs_74 : decode cX1_pairs 74 = .ok (.iload 4, 2) := dk_21 4 (dk_at dksX1_pairs_3 5 rfl rfl)
theorem dX1_pairs_76 : decode cX1_pairs 76 = .ok (.ishr, 1) := dk_122 (dk_at dksX1_pairs_3 7 rfl rfl)
theorem dX1_pairs_77 : decode cX1_pairs 77 = .ok (.iconst 1, 1) := dk_4 (dk_at dksX1_pairs_3 8 rfl rfl)
theorem dX1_pairs_78 : decode cX1_pairs 78 = .ok (.iand, 1) := dk_126 (dk_at dksX1_pairs_3 9 rfl rfl)
theorem dX1_pairs_79 : decode cX1_pairs 79 = .ok (.iadd, 1) := dk_96 (dk_at dksX1_pairs_3 10 rfl rfl)
theorem dX1_pairs_80 : decode cX1_pairs 80 = .ok (.istore_n 1, 1) := dk_60 (dk_at dksX1_pairs_3 11 rfl rfl)
theorem dX1_pairs_81 : decode cX1_pairs 81 = .ok (.iinc 4 1, 3) := dk_132 4 1 (dk_at dksX1_pairs_3 12 rfl rfl)
theorem dX1_pairs_84 : decode cX1_pairs 84 = .ok (.goto (-19), 3) := dk_167 255 237 (dk_at dksX1_pairs_3 15 rfl rfl)
theorem dX1_pairs_87 : decode cX1_pairs 87 = .ok (.iinc 2 1, 3) := dk_132 2 1 (dk_at dksX1_pairs_3 18 rfl rfl)
theorem dX1_pairs_90 : decode cX1_pairs 90 = .ok (.goto (-86), 3) := dk_167 255 170 (dk_at dksX1_pairs_3 21 rfl rfl)
theorem dX1_pairs_93 : decode cX1_pairs 93 = .ok (.iload_n 1, 1) := dk_27 (dk_at dksX1_pairs_4 0 rfl rfl)
theorem dX1_pairs_94 : decode cX1_pairs 94 = .ok (.ireturn, 1) := dk_172 (dk_at dksX1_pairs_4 1 rfl rfl)
abbrev cX1_digest : ByteArray := prog_20_method_67_code
def yX1_digest : MethodName := ⟨RX1, "digest", "()J"⟩
def dkwX1_digest_10 : List UInt8 := [42, 42, 180, 0, 19, 27, 46, 133, 182, 1, 71, 132, 1, 1, 167, 255, 234, 42, 180, 1, 63, 173]
abbrev dktX1_digest_10 : List UInt8 := dkwX1_digest_10 ++ []
def dkwX1_digest_9 : List UInt8 := [180, 0, 30, 27, 47, 182, 1, 71, 132, 1, 1, 167, 255, 233, 3, 60, 27, 42, 180, 0, 90, 162, 0, 20]
abbrev dktX1_digest_9 : List UInt8 := dkwX1_digest_9 ++ dktX1_digest_10
def dkwX1_digest_8 : List UInt8 := [133, 182, 1, 71, 132, 1, 1, 167, 255, 234, 3, 60, 27, 7, 42, 180, 1, 21, 104, 162, 0, 19, 42, 42]
abbrev dktX1_digest_8 : List UInt8 := dkwX1_digest_8 ++ dktX1_digest_9
def dkwX1_digest_7 : List UInt8 := [42, 180, 0, 177, 182, 1, 71, 3, 60, 27, 42, 180, 0, 26, 162, 0, 20, 42, 42, 180, 0, 22, 27, 46]
abbrev dktX1_digest_7 : List UInt8 := dkwX1_digest_7 ++ dktX1_digest_8
def dkwX1_digest_6 : List UInt8 := [132, 1, 1, 167, 255, 239, 42, 180, 0, 26, 18, 25, 159, 0, 46, 42, 42, 180, 0, 174, 182, 1, 71, 42]
abbrev dktX1_digest_6 : List UInt8 := dkwX1_digest_6 ++ dktX1_digest_7
def dkwX1_digest_5 : List UInt8 := [132, 1, 1, 167, 255, 238, 3, 60, 27, 7, 162, 0, 18, 42, 42, 27, 182, 1, 84, 182, 1, 71]
abbrev dktX1_digest_5 : List UInt8 := dkwX1_digest_5 ++ dktX1_digest_6
def dkwX1_digest_4 : List UInt8 := [182, 1, 78, 133, 182, 1, 71, 3, 60, 27, 6, 162, 0, 19, 42, 42, 27, 182, 1, 81, 133, 182, 1, 71]
abbrev dktX1_digest_4 : List UInt8 := dkwX1_digest_4 ++ dktX1_digest_5
def dkwX1_digest_3 : List UInt8 := [16, 8, 162, 0, 18, 42, 42, 27, 182, 1, 75, 182, 1, 71, 132, 1, 1, 167, 255, 238, 42, 42]
abbrev dktX1_digest_3 : List UInt8 := dkwX1_digest_3 ++ dktX1_digest_4
def dkwX1_digest_2 : List UInt8 := [162, 0, 20, 42, 42, 180, 0, 7, 27, 46, 133, 182, 1, 71, 132, 1, 1, 167, 255, 228, 3, 60, 27]
abbrev dktX1_digest_2 : List UInt8 := dkwX1_digest_2 ++ dktX1_digest_3
def dkwX1_digest_1 : List UInt8 := [182, 1, 71, 132, 1, 1, 167, 255, 237, 3, 60, 27, 16, 7, 42, 180, 0, 7, 16, 112, 46, 104]
abbrev dktX1_digest_1 : List UInt8 := dkwX1_digest_1 ++ dktX1_digest_2
def dkwX1_digest_0 : List UInt8 := [42, 20, 1, 66, 181, 1, 63, 3, 60, 27, 16, 6, 162, 0, 19, 42, 42, 27, 182, 1, 68, 133]
abbrev dktX1_digest_0 : List UInt8 := dkwX1_digest_0 ++ dktX1_digest_1
theorem dksX1_digest_0 : cX1_digest.data.toList.drop 0 = dktX1_digest_0 := by decide +kernel
theorem dksX1_digest_1 : cX1_digest.data.toList.drop 22 = dktX1_digest_1 := dk_seg dksX1_digest_0 22 rfl rfl
theorem dksX1_digest_2 : cX1_digest.data.toList.drop 44 = dktX1_digest_2 := dk_seg dksX1_digest_1 22 rfl rfl
theorem dksX1_digest_3 : cX1_digest.data.toList.drop 67 = dktX1_digest_3 := dk_seg dksX1_digest_2 23 rfl rfl
theorem dksX1_digest_4 : cX1_digest.data.toList.drop 89 = dktX1_digest_4 := dk_seg dksX1_digest_3 22 rfl rfl
theorem dksX1_digest_5 : cX1_digest.data.toList.drop 113 = dktX1_digest_5 := dk_seg dksX1_digest_4 24 rfl rfl
theorem dksX1_digest_6 : cX1_digest.data.toList.drop 135 = dktX1_digest_6 := dk_seg dksX1_digest_5 22 rfl rfl
theorem dksX1_digest_7 : cX1_digest.data.toList.drop 159 = dktX1_digest_7 := dk_seg dksX1_digest_6 24 rfl rfl
theorem dksX1_digest_8 : cX1_digest.data.toList.drop 183 = dktX1_digest_8 := dk_seg dksX1_digest_7 24 rfl rfl
theorem dksX1_digest_9 : cX1_digest.data.toList.drop 207 = dktX1_digest_9 := dk_seg dksX1_digest_8 24 rfl rfl
theorem dksX1_digest_10 : cX1_digest.data.toList.drop 231 = dktX1_digest_10 := dk_seg dksX1_digest_9 24 rfl rfl
theorem dX1_digest_0 : decode cX1_digest 0 = .ok (.aload_n 0, 1) := dk_42 (dk_at dksX1_digest_0 0 rfl rfl)
theorem dX1_digest_1 : decode cX1_digest 1 = .ok (.ldc2_w 322, 3) := dk_20 1 66 (dk_at dksX1_digest_0 1 rfl rfl)
theorem dX1_digest_4 : decode cX1_digest 4 = .ok (.putfield 319, 3) := dk_181 1 63 (dk_at dksX1_digest_0 4 rfl rfl)
theorem dX1_digest_7 : decode cX1_digest 7 = .ok (.iconst 0, 1) := dk_3 (dk_at dksX1_digest_0 7 rfl rfl)
theorem dX1_digest_8 : decode cX1_digest 8 = .ok (.istore_n 1, 1) := dk_60 (dk_at dksX1_digest_0 8 rfl rfl)
theorem dX1_digest_9 : decode cX1_digest 9 = .ok (.iload_n 1, 1) := dk_27 (dk_at dksX1_digest_0 9 rfl rfl)
theorem dX1_digest_10 : decode cX1_digest 10 = .ok (.bipush 6, 2) := dk_16 6 (dk_at dksX1_digest_0 10 rfl rfl)
theorem dX1_digest_12 : decode cX1_digest 12 = .ok (.if_icmp .ge 19, 3) := dk_162 0 19 (dk_at dksX1_digest_0 12 rfl rfl)
theorem dX1_digest_15 : decode cX1_digest 15 = .ok (.aload_n 0, 1) := dk_42 (dk_at dksX1_digest_0 15 rfl rfl)
theorem dX1_digest_16 : decode cX1_digest 16 = .ok (.aload_n 0, 1) := dk_42 (dk_at dksX1_digest_0 16 rfl rfl)
theorem dX1_digest_17 : decode cX1_digest 17 = .ok (.iload_n 1, 1) := dk_27 (dk_at dksX1_digest_0 17 rfl rfl)
theorem dX1_digest_18 : decode cX1_digest 18 = .ok (.invokevirtual 324, 3) := dk_182 1 68 (dk_at dksX1_digest_0 18 rfl rfl)
theorem dX1_digest_21 : decode cX1_digest 21 = .ok (.i2l, 1) := dk_133 (dk_at dksX1_digest_0 21 rfl rfl)
theorem dX1_digest_22 : decode cX1_digest 22 = .ok (.invokevirtual 327, 3) := dk_182 1 71 (dk_at dksX1_digest_1 0 rfl rfl)
theorem dX1_digest_25 : decode cX1_digest 25 = .ok (.iinc 1 1, 3) := dk_132 1 1 (dk_at dksX1_digest_1 3 rfl rfl)
theorem dX1_digest_28 : decode cX1_digest 28 = .ok (.goto (-19), 3) := dk_167 255 237 (dk_at dksX1_digest_1 6 rfl rfl)
theorem dX1_digest_31 : decode cX1_digest 31 = .ok (.iconst 0, 1) := dk_3 (dk_at dksX1_digest_1 9 rfl rfl)
theorem dX1_digest_32 : decode cX1_digest 32 = .ok (.istore_n 1, 1) := dk_60 (dk_at dksX1_digest_1 10 rfl rfl)
theorem dX1_digest_33 : decode cX1_digest 33 = .ok (.iload_n 1, 1) := dk_27 (dk_at dksX1_digest_1 11 rfl rfl)
theorem dX1_digest_34 : decode cX1_digest 34 = .ok (.bipush 7, 2) := dk_16 7 (dk_at dksX1_digest_1 12 rfl rfl)
theorem dX1_digest_36 : decode cX1_digest 36 = .ok (.aload_n 0, 1) := dk_42 (dk_at dksX1_digest_1 14 rfl rfl)
theorem dX1_digest_37 : decode cX1_digest 37 = .ok (.getfield 7, 3) := dk_180 0 7 (dk_at dksX1_digest_1 15 rfl rfl)
theorem dX1_digest_40 : decode cX1_digest 40 = .ok (.bipush 112, 2) := dk_16 112 (dk_at dksX1_digest_1 18 rfl rfl)
theorem dX1_digest_42 : decode cX1_digest 42 = .ok (.iaload, 1) := dk_46 (dk_at dksX1_digest_1 20 rfl rfl)
theorem dX1_digest_43 : decode cX1_digest 43 = .ok (.imul, 1) := dk_104 (dk_at dksX1_digest_1 21 rfl rfl)
theorem dX1_digest_44 : decode cX1_digest 44 = .ok (.if_icmp .ge 20, 3) := dk_162 0 20 (dk_at dksX1_digest_2 0 rfl rfl)
theorem dX1_digest_47 : decode cX1_digest 47 = .ok (.aload_n 0, 1) := dk_42 (dk_at dksX1_digest_2 3 rfl rfl)
theorem dX1_digest_48 : decode cX1_digest 48 = .ok (.aload_n 0, 1) := dk_42 (dk_at dksX1_digest_2 4 rfl rfl)
theorem dX1_digest_49 : decode cX1_digest 49 = .ok (.getfield 7, 3) := dk_180 0 7 (dk_at dksX1_digest_2 5 rfl rfl)
theorem dX1_digest_52 : decode cX1_digest 52 = .ok (.iload_n 1, 1) := dk_27 (dk_at dksX1_digest_2 8 rfl rfl)
theorem dX1_digest_53 : decode cX1_digest 53 = .ok (.iaload, 1) := dk_46 (dk_at dksX1_digest_2 9 rfl rfl)
theorem dX1_digest_54 : decode cX1_digest 54 = .ok (.i2l, 1) := dk_133 (dk_at dksX1_digest_2 10 rfl rfl)
theorem dX1_digest_55 : decode cX1_digest 55 = .ok (.invokevirtual 327, 3) := dk_182 1 71 (dk_at dksX1_digest_2 11 rfl rfl)
theorem dX1_digest_58 : decode cX1_digest 58 = .ok (.iinc 1 1, 3) := dk_132 1 1 (dk_at dksX1_digest_2 14 rfl rfl)
theorem dX1_digest_61 : decode cX1_digest 61 = .ok (.goto (-28), 3) := dk_167 255 228 (dk_at dksX1_digest_2 17 rfl rfl)
theorem dX1_digest_64 : decode cX1_digest 64 = .ok (.iconst 0, 1) := dk_3 (dk_at dksX1_digest_2 20 rfl rfl)
theorem dX1_digest_65 : decode cX1_digest 65 = .ok (.istore_n 1, 1) := dk_60 (dk_at dksX1_digest_2 21 rfl rfl)
theorem dX1_digest_66 : decode cX1_digest 66 = .ok (.iload_n 1, 1) := dk_27 (dk_at dksX1_digest_2 22 rfl rfl)
theorem dX1_digest_67 : decode cX1_digest 67 = .ok (.bipush 8, 2) := dk_16 8 (dk_at dksX1_digest_3 0 rfl rfl)
theorem dX1_digest_69 : decode cX1_digest 69 = .ok (.if_icmp .ge 18, 3) := dk_162 0 18 (dk_at dksX1_digest_3 2 rfl rfl)
theorem dX1_digest_72 : decode cX1_digest 72 = .ok (.aload_n 0, 1) := dk_42 (dk_at dksX1_digest_3 5 rfl rfl)
theorem dX1_digest_73 : decode cX1_digest 73 = .ok (.aload_n 0, 1) := dk_42 (dk_at dksX1_digest_3 6 rfl rfl)
theorem dX1_digest_74 : decode cX1_digest 74 = .ok (.iload_n 1, 1) := dk_27 (dk_at dksX1_digest_3 7 rfl rfl)
theorem dX1_digest_75 : decode cX1_digest 75 = .ok (.invokevirtual 331, 3) := dk_182 1 75 (dk_at dksX1_digest_3 8 rfl rfl)
theorem dX1_digest_78 : decode cX1_digest 78 = .ok (.invokevirtual 327, 3) := dk_182 1 71 (dk_at dksX1_digest_3 11 rfl rfl)
theorem dX1_digest_81 : decode cX1_digest 81 = .ok (.iinc 1 1, 3) := dk_132 1 1 (dk_at dksX1_digest_3 14 rfl rfl)
theorem dX1_digest_84 : decode cX1_digest 84 = .ok (.goto (-18), 3) := dk_167 255 238 (dk_at dksX1_digest_3 17 rfl rfl)
theorem dX1_digest_87 : decode cX1_digest 87 = .ok (.aload_n 0, 1) := dk_42 (dk_at dksX1_digest_3 20 rfl rfl)
theorem dX1_digest_88 : decode cX1_digest 88 = .ok (.aload_n 0, 1) := dk_42 (dk_at dksX1_digest_3 21 rfl rfl)
theorem dX1_digest_89 : decode cX1_digest 89 = .ok (.invokevirtual 334, 3) := dk_182 1 78 (dk_at dksX1_digest_4 0 rfl rfl)
theorem dX1_digest_92 : decode cX1_digest 92 = .ok (.i2l, 1) := dk_133 (dk_at dksX1_digest_4 3 rfl rfl)
theorem dX1_digest_93 : decode cX1_digest 93 = .ok (.invokevirtual 327, 3) := dk_182 1 71 (dk_at dksX1_digest_4 4 rfl rfl)
theorem dX1_digest_96 : decode cX1_digest 96 = .ok (.iconst 0, 1) := dk_3 (dk_at dksX1_digest_4 7 rfl rfl)
theorem dX1_digest_97 : decode cX1_digest 97 = .ok (.istore_n 1, 1) := dk_60 (dk_at dksX1_digest_4 8 rfl rfl)
theorem dX1_digest_98 : decode cX1_digest 98 = .ok (.iload_n 1, 1) := dk_27 (dk_at dksX1_digest_4 9 rfl rfl)
theorem dX1_digest_99 : decode cX1_digest 99 = .ok (.iconst 3, 1) := dk_6 (dk_at dksX1_digest_4 10 rfl rfl)
theorem dX1_digest_100 : decode cX1_digest 100 = .ok (.if_icmp .ge 19, 3) := dk_162 0 19 (dk_at dksX1_digest_4 11 rfl rfl)
theorem dX1_digest_103 : decode cX1_digest 103 = .ok (.aload_n 0, 1) := dk_42 (dk_at dksX1_digest_4 14 rfl rfl)
theorem dX1_digest_104 : decode cX1_digest 104 = .ok (.aload_n 0, 1) := dk_42 (dk_at dksX1_digest_4 15 rfl rfl)
theorem dX1_digest_105 : decode cX1_digest 105 = .ok (.iload_n 1, 1) := dk_27 (dk_at dksX1_digest_4 16 rfl rfl)
theorem dX1_digest_106 : decode cX1_digest 106 = .ok (.invokevirtual 337, 3) := dk_182 1 81 (dk_at dksX1_digest_4 17 rfl rfl)
theorem dX1_digest_109 : decode cX1_digest 109 = .ok (.i2l, 1) := dk_133 (dk_at dksX1_digest_4 20 rfl rfl)
theorem dX1_digest_110 : decode cX1_digest 110 = .ok (.invokevirtual 327, 3) := dk_182 1 71 (dk_at dksX1_digest_4 21 rfl rfl)
theorem dX1_digest_113 : decode cX1_digest 113 = .ok (.iinc 1 1, 3) := dk_132 1 1 (dk_at dksX1_digest_5 0 rfl rfl)
theorem dX1_digest_116 : decode cX1_digest 116 = .ok (.goto (-18), 3) := dk_167 255 238 (dk_at dksX1_digest_5 3 rfl rfl)
theorem dX1_digest_119 : decode cX1_digest 119 = .ok (.iconst 0, 1) := dk_3 (dk_at dksX1_digest_5 6 rfl rfl)
theorem dX1_digest_120 : decode cX1_digest 120 = .ok (.istore_n 1, 1) := dk_60 (dk_at dksX1_digest_5 7 rfl rfl)
theorem dX1_digest_121 : decode cX1_digest 121 = .ok (.iload_n 1, 1) := dk_27 (dk_at dksX1_digest_5 8 rfl rfl)
theorem dX1_digest_122 : decode cX1_digest 122 = .ok (.iconst 4, 1) := dk_7 (dk_at dksX1_digest_5 9 rfl rfl)
theorem dX1_digest_123 : decode cX1_digest 123 = .ok (.if_icmp .ge 18, 3) := dk_162 0 18 (dk_at dksX1_digest_5 10 rfl rfl)
theorem dX1_digest_126 : decode cX1_digest 126 = .ok (.aload_n 0, 1) := dk_42 (dk_at dksX1_digest_5 13 rfl rfl)
theorem dX1_digest_127 : decode cX1_digest 127 = .ok (.aload_n 0, 1) := dk_42 (dk_at dksX1_digest_5 14 rfl rfl)
theorem dX1_digest_128 : decode cX1_digest 128 = .ok (.iload_n 1, 1) := dk_27 (dk_at dksX1_digest_5 15 rfl rfl)
theorem dX1_digest_129 : decode cX1_digest 129 = .ok (.invokevirtual 340, 3) := dk_182 1 84 (dk_at dksX1_digest_5 16 rfl rfl)
theorem dX1_digest_132 : decode cX1_digest 132 = .ok (.invokevirtual 327, 3) := dk_182 1 71 (dk_at dksX1_digest_5 19 rfl rfl)
theorem dX1_digest_135 : decode cX1_digest 135 = .ok (.iinc 1 1, 3) := dk_132 1 1 (dk_at dksX1_digest_6 0 rfl rfl)
theorem dX1_digest_138 : decode cX1_digest 138 = .ok (.goto (-17), 3) := dk_167 255 239 (dk_at dksX1_digest_6 3 rfl rfl)
theorem dX1_digest_141 : decode cX1_digest 141 = .ok (.aload_n 0, 1) := dk_42 (dk_at dksX1_digest_6 6 rfl rfl)
theorem dX1_digest_142 : decode cX1_digest 142 = .ok (.getfield 26, 3) := dk_180 0 26 (dk_at dksX1_digest_6 7 rfl rfl)
theorem dX1_digest_145 : decode cX1_digest 145 = .ok (.ldc 25, 2) := dk_18 25 (dk_at dksX1_digest_6 10 rfl rfl)
theorem dX1_digest_147 : decode cX1_digest 147 = .ok (.if_icmp .eq 46, 3) := dk_159 0 46 (dk_at dksX1_digest_6 12 rfl rfl)
theorem dX1_digest_150 : decode cX1_digest 150 = .ok (.aload_n 0, 1) := dk_42 (dk_at dksX1_digest_6 15 rfl rfl)
theorem dX1_digest_151 : decode cX1_digest 151 = .ok (.aload_n 0, 1) := dk_42 (dk_at dksX1_digest_6 16 rfl rfl)
theorem dX1_digest_152 : decode cX1_digest 152 = .ok (.getfield 174, 3) := dk_180 0 174 (dk_at dksX1_digest_6 17 rfl rfl)
theorem dX1_digest_155 : decode cX1_digest 155 = .ok (.invokevirtual 327, 3) := dk_182 1 71 (dk_at dksX1_digest_6 20 rfl rfl)
theorem dX1_digest_158 : decode cX1_digest 158 = .ok (.aload_n 0, 1) := dk_42 (dk_at dksX1_digest_6 23 rfl rfl)
theorem dX1_digest_159 : decode cX1_digest 159 = .ok (.aload_n 0, 1) := dk_42 (dk_at dksX1_digest_7 0 rfl rfl)
theorem dX1_digest_160 : decode cX1_digest 160 = .ok (.getfield 177, 3) := dk_180 0 177 (dk_at dksX1_digest_7 1 rfl rfl)
theorem dX1_digest_163 : decode cX1_digest 163 = .ok (.invokevirtual 327, 3) := dk_182 1 71 (dk_at dksX1_digest_7 4 rfl rfl)
theorem dX1_digest_166 : decode cX1_digest 166 = .ok (.iconst 0, 1) := dk_3 (dk_at dksX1_digest_7 7 rfl rfl)
theorem dX1_digest_167 : decode cX1_digest 167 = .ok (.istore_n 1, 1) := dk_60 (dk_at dksX1_digest_7 8 rfl rfl)
theorem dX1_digest_168 : decode cX1_digest 168 = .ok (.iload_n 1, 1) := dk_27 (dk_at dksX1_digest_7 9 rfl rfl)
theorem dX1_digest_169 : decode cX1_digest 169 = .ok (.aload_n 0, 1) := dk_42 (dk_at dksX1_digest_7 10 rfl rfl)
theorem dX1_digest_170 : decode cX1_digest 170 = .ok (.getfield 26, 3) := dk_180 0 26 (dk_at dksX1_digest_7 11 rfl rfl)
theorem dX1_digest_173 : decode cX1_digest 173 = .ok (.if_icmp .ge 20, 3) := dk_162 0 20 (dk_at dksX1_digest_7 14 rfl rfl)
theorem dX1_digest_176 : decode cX1_digest 176 = .ok (.aload_n 0, 1) := dk_42 (dk_at dksX1_digest_7 17 rfl rfl)
theorem dX1_digest_177 : decode cX1_digest 177 = .ok (.aload_n 0, 1) := dk_42 (dk_at dksX1_digest_7 18 rfl rfl)
theorem dX1_digest_178 : decode cX1_digest 178 = .ok (.getfield 22, 3) := dk_180 0 22 (dk_at dksX1_digest_7 19 rfl rfl)
theorem dX1_digest_181 : decode cX1_digest 181 = .ok (.iload_n 1, 1) := dk_27 (dk_at dksX1_digest_7 22 rfl rfl)
theorem dX1_digest_182 : decode cX1_digest 182 = .ok (.iaload, 1) := dk_46 (dk_at dksX1_digest_7 23 rfl rfl)
theorem dX1_digest_183 : decode cX1_digest 183 = .ok (.i2l, 1) := dk_133 (dk_at dksX1_digest_8 0 rfl rfl)
theorem dX1_digest_184 : decode cX1_digest 184 = .ok (.invokevirtual 327, 3) := dk_182 1 71 (dk_at dksX1_digest_8 1 rfl rfl)
theorem dX1_digest_187 : decode cX1_digest 187 = .ok (.iinc 1 1, 3) := dk_132 1 1 (dk_at dksX1_digest_8 4 rfl rfl)
theorem dX1_digest_190 : decode cX1_digest 190 = .ok (.goto (-22), 3) := dk_167 255 234 (dk_at dksX1_digest_8 7 rfl rfl)
theorem dX1_digest_193 : decode cX1_digest 193 = .ok (.iconst 0, 1) := dk_3 (dk_at dksX1_digest_8 10 rfl rfl)
theorem dX1_digest_194 : decode cX1_digest 194 = .ok (.istore_n 1, 1) := dk_60 (dk_at dksX1_digest_8 11 rfl rfl)
theorem dX1_digest_195 : decode cX1_digest 195 = .ok (.iload_n 1, 1) := dk_27 (dk_at dksX1_digest_8 12 rfl rfl)
theorem dX1_digest_196 : decode cX1_digest 196 = .ok (.iconst 4, 1) := dk_7 (dk_at dksX1_digest_8 13 rfl rfl)
theorem dX1_digest_197 : decode cX1_digest 197 = .ok (.aload_n 0, 1) := dk_42 (dk_at dksX1_digest_8 14 rfl rfl)
theorem dX1_digest_198 : decode cX1_digest 198 = .ok (.getfield 277, 3) := dk_180 1 21 (dk_at dksX1_digest_8 15 rfl rfl)
theorem dX1_digest_201 : decode cX1_digest 201 = .ok (.imul, 1) := dk_104 (dk_at dksX1_digest_8 18 rfl rfl)
theorem dX1_digest_202 : decode cX1_digest 202 = .ok (.if_icmp .ge 19, 3) := dk_162 0 19 (dk_at dksX1_digest_8 19 rfl rfl)
theorem dX1_digest_205 : decode cX1_digest 205 = .ok (.aload_n 0, 1) := dk_42 (dk_at dksX1_digest_8 22 rfl rfl)
theorem dX1_digest_206 : decode cX1_digest 206 = .ok (.aload_n 0, 1) := dk_42 (dk_at dksX1_digest_8 23 rfl rfl)
theorem dX1_digest_207 : decode cX1_digest 207 = .ok (.getfield 30, 3) := dk_180 0 30 (dk_at dksX1_digest_9 0 rfl rfl)
theorem dX1_digest_210 : decode cX1_digest 210 = .ok (.iload_n 1, 1) := dk_27 (dk_at dksX1_digest_9 3 rfl rfl)
theorem dX1_digest_211 : decode cX1_digest 211 = .ok (.laload, 1) := dk_47 (dk_at dksX1_digest_9 4 rfl rfl)
theorem dX1_digest_212 : decode cX1_digest 212 = .ok (.invokevirtual 327, 3) := dk_182 1 71 (dk_at dksX1_digest_9 5 rfl rfl)
theorem dX1_digest_215 : decode cX1_digest 215 = .ok (.iinc 1 1, 3) := dk_132 1 1 (dk_at dksX1_digest_9 8 rfl rfl)
theorem dX1_digest_218 : decode cX1_digest 218 = .ok (.goto (-23), 3) := dk_167 255 233 (dk_at dksX1_digest_9 11 rfl rfl)
theorem dX1_digest_221 : decode cX1_digest 221 = .ok (.iconst 0, 1) := dk_3 (dk_at dksX1_digest_9 14 rfl rfl)
theorem dX1_digest_222 : decode cX1_digest 222 = .ok (.istore_n 1, 1) := dk_60 (dk_at dksX1_digest_9 15 rfl rfl)
theorem dX1_digest_223 : decode cX1_digest 223 = .ok (.iload_n 1, 1) := dk_27 (dk_at dksX1_digest_9 16 rfl rfl)
theorem dX1_digest_224 : decode cX1_digest 224 = .ok (.aload_n 0, 1) := dk_42 (dk_at dksX1_digest_9 17 rfl rfl)
theorem dX1_digest_225 : decode cX1_digest 225 = .ok (.getfield 90, 3) := dk_180 0 90 (dk_at dksX1_digest_9 18 rfl rfl)
theorem dX1_digest_228 : decode cX1_digest 228 = .ok (.if_icmp .ge 20, 3) := dk_162 0 20 (dk_at dksX1_digest_9 21 rfl rfl)
theorem dX1_digest_231 : decode cX1_digest 231 = .ok (.aload_n 0, 1) := dk_42 (dk_at dksX1_digest_10 0 rfl rfl)
theorem dX1_digest_232 : decode cX1_digest 232 = .ok (.aload_n 0, 1) := dk_42 (dk_at dksX1_digest_10 1 rfl rfl)
theorem dX1_digest_233 : decode cX1_digest 233 = .ok (.getfield 19, 3) := dk_180 0 19 (dk_at dksX1_digest_10 2 rfl rfl)
theorem dX1_digest_236 : decode cX1_digest 236 = .ok (.iload_n 1, 1) := dk_27 (dk_at dksX1_digest_10 5 rfl rfl)
theorem dX1_digest_237 : decode cX1_digest 237 = .ok (.iaload, 1) := dk_46 (dk_at dksX1_digest_10 6 rfl rfl)
theorem dX1_digest_238 : decode cX1_digest 238 = .ok (.i2l, 1) := dk_133 (dk_at dksX1_digest_10 7 rfl rfl)
theorem dX1_digest_239 : decode cX1_digest 239 = .ok (.invokevirtual 327, 3) := dk_182 1 71 (dk_at dksX1_digest_10 8 rfl rfl)
theorem dX1_digest_242 : decode cX1_digest 242 = .ok (.iinc 1 1, 3) := dk_132 1 1 (dk_at dksX1_digest_10 11 rfl rfl)
theorem dX1_digest_245 : decode cX1_digest 245 = .ok (.goto (-22), 3) := dk_167 255 234 (dk_at dksX1_digest_10 14 rfl rfl)
theorem dX1_digest_248 : decode cX1_digest 248 = .ok (.aload_n 0, 1) := dk_42 (dk_at dksX1_digest_10 17 rfl rfl)
theorem dX1_digest_249 : decode cX1_digest 249 = .ok (.getfield 319, 3) := dk_180 1 63 (dk_at dksX1_digest_10 18 rfl rfl)
theorem dX1_digest_252 : decode cX1_digest 252 = .ok (.lreturn, 1) := dk_173 (dk_at dksX1_digest_10 21 rfl rfl)
abbrev cX1_mixes : ByteArray := prog_20_method_66_code
def yX1_mixes : MethodName := ⟨RX1, "mixes", "(J)V"⟩
def dkwX1_mixes_0 : List UInt8 := [42, 20, 1, 61, 42, 180, 1, 63, 105, 31, 97, 181, 1, 63, 177]
abbrev dktX1_mixes_0 : List UInt8 := dkwX1_mixes_0 ++ []
theorem dksX1_mixes_0 : cX1_mixes.data.toList.drop 0 = dktX1_mixes_0 := by decide +kernel
theorem dX1_mixes_0 : decode cX1_mixes 0 = .ok (.aload_n 0, 1) := dk_42 (dk_at dksX1_mixes_0 0 rfl rfl)
theorem dX1_mixes_1 : decode cX1_mixes 1 = .ok (.ldc2_w 317, 3) := dk_20 1 61 (dk_at dksX1_mixes_0 1 rfl rfl)
theorem dX1_mixes_4 : decode cX1_mixes 4 = .ok (.aload_n 0, 1) := dk_42 (dk_at dksX1_mixes_0 4 rfl rfl)
theorem dX1_mixes_5 : decode cX1_mixes 5 = .ok (.getfield 319, 3) := dk_180 1 63 (dk_at dksX1_mixes_0 5 rfl rfl)
theorem dX1_mixes_8 : decode cX1_mixes 8 = .ok (.lmul, 1) := dk_105 (dk_at dksX1_mixes_0 8 rfl rfl)
theorem dX1_mixes_9 : decode cX1_mixes 9 = .ok (.lload_n 1, 1) := dk_31 (dk_at dksX1_mixes_0 9 rfl rfl)
theorem dX1_mixes_10 : decode cX1_mixes 10 = .ok (.ladd, 1) := dk_97 (dk_at dksX1_mixes_0 10 rfl rfl)
theorem dX1_mixes_11 : decode cX1_mixes 11 = .ok (.putfield 319, 3) := dk_181 1 63 (dk_at dksX1_mixes_0 11 rfl rfl)
theorem dX1_mixes_14 : decode cX1_mixes 14 = .ok (.return_, 1) := dk_177 (dk_at dksX1_mixes_0 14 rfl rfl)
theorem q71 : (Jvm.Cond.initialized "RatioGraphModel") ∈ lw_all := lw_g (lw_at lw_m1 7 rfl) rfl
theorem q280 : (Jvm.Cond.selects "RatioGraphModel" ({ cls := "java/lang/Object", name := "getClass", desc := "()Ljava/lang/Class;" } : Jvm.MethodName) ({ cls := "java/lang/Object", name := "getClass", desc := "()Ljava/lang/Class;" } : Jvm.MethodName)) ∈ lw_all := lw_g (lw_at lw_m1 216 rfl) rfl
theorem q1364 : (Jvm.Cond.instantiable "RatioGraphModel" (39 : Nat)) ∈ lw_all := lw_g (lw_at lw_m6 100 rfl) rfl
theorem q1366 : (Jvm.Cond.instanceMethod ({ cls := "RatioGraphModel", name := "<init>", desc := "()V" } : Jvm.MethodName)) ∈ lw_all := lw_g (lw_at lw_m6 102 rfl) rfl
theorem q1367 : (Jvm.Cond.code ({ cls := "RatioGraphModel", name := "<init>", desc := "()V" } : Jvm.MethodName) prog_20_method_1_code (1 : Nat) (Option.none : Option Jvm.ClassFile.FieldType)) ∈ lw_all := lw_g (lw_at lw_m6 103 rfl) rfl
theorem q1368 : (Jvm.Cond.methodLink "RatioGraphModel" (1 : Nat) ({ cls := "java/lang/Object", name := "<init>", desc := "()V" } : Jvm.MethodName)) ∈ lw_all := lw_g (lw_at lw_m6 104 rfl) rfl
theorem q1369 : (Jvm.Cond.constant "RatioGraphModel" (25 : Nat) (-1000001 : Int32)) ∈ lw_all := lw_g (lw_at lw_m6 105 rfl) rfl
theorem q1370 : (Jvm.Cond.fieldLink "RatioGraphModel" (7 : Nat) "RatioGraphModel" "m" "[I") ∈ lw_all := lw_g (lw_at lw_m6 106 rfl) rfl
theorem q1371 : (Jvm.Cond.fieldLink "RatioGraphModel" (13 : Nat) "RatioGraphModel" "past" "[I") ∈ lw_all := lw_g (lw_at lw_m6 107 rfl) rfl
theorem q1372 : (Jvm.Cond.fieldLink "RatioGraphModel" (60 : Nat) "RatioGraphModel" "undos" "I") ∈ lw_all := lw_g (lw_at lw_m6 108 rfl) rfl
theorem q1373 : (Jvm.Cond.fieldLink "RatioGraphModel" (16 : Nat) "RatioGraphModel" "marks" "[I") ∈ lw_all := lw_g (lw_at lw_m6 109 rfl) rfl
theorem q1374 : (Jvm.Cond.fieldLink "RatioGraphModel" (19 : Nat) "RatioGraphModel" "text" "[I") ∈ lw_all := lw_g (lw_at lw_m6 110 rfl) rfl
theorem q1375 : (Jvm.Cond.fieldLink "RatioGraphModel" (90 : Nat) "RatioGraphModel" "textLength" "I") ∈ lw_all := lw_g (lw_at lw_m6 111 rfl) rfl
theorem q1376 : (Jvm.Cond.fieldLink "RatioGraphModel" (22 : Nat) "RatioGraphModel" "found" "[I") ∈ lw_all := lw_g (lw_at lw_m6 112 rfl) rfl
theorem q1377 : (Jvm.Cond.fieldLink "RatioGraphModel" (26 : Nat) "RatioGraphModel" "foundEdges" "I") ∈ lw_all := lw_g (lw_at lw_m6 113 rfl) rfl
theorem q1378 : (Jvm.Cond.fieldLink "RatioGraphModel" (174 : Nat) "RatioGraphModel" "valueUp" "J") ∈ lw_all := lw_g (lw_at lw_m6 114 rfl) rfl
theorem q1379 : (Jvm.Cond.fieldLink "RatioGraphModel" (177 : Nat) "RatioGraphModel" "valueDown" "J") ∈ lw_all := lw_g (lw_at lw_m6 115 rfl) rfl
theorem q1380 : (Jvm.Cond.fieldLink "RatioGraphModel" (30 : Nat) "RatioGraphModel" "piece" "[J") ∈ lw_all := lw_g (lw_at lw_m6 116 rfl) rfl
theorem q1381 : (Jvm.Cond.fieldLink "RatioGraphModel" (277 : Nat) "RatioGraphModel" "kept" "I") ∈ lw_all := lw_g (lw_at lw_m6 117 rfl) rfl
theorem q1382 : (Jvm.Cond.fieldLink "RatioGraphModel" (280 : Nat) "RatioGraphModel" "hasPieces" "Z") ∈ lw_all := lw_g (lw_at lw_m6 118 rfl) rfl
theorem q1383 : (Jvm.Cond.fieldLink "RatioGraphModel" (34 : Nat) "RatioGraphModel" "read" "[I") ∈ lw_all := lw_g (lw_at lw_m6 119 rfl) rfl
theorem q1384 : (Jvm.Cond.fieldLink "RatioGraphModel" (114 : Nat) "RatioGraphModel" "reads" "I") ∈ lw_all := lw_g (lw_at lw_m6 120 rfl) rfl
theorem q1385 : (Jvm.Cond.fieldLink "RatioGraphModel" (93 : Nat) "RatioGraphModel" "at" "I") ∈ lw_all := lw_g (lw_at lw_m6 121 rfl) rfl
theorem q1386 : (Jvm.Cond.fieldLink "RatioGraphModel" (100 : Nat) "RatioGraphModel" "fault" "I") ∈ lw_all := lw_g (lw_at lw_m6 122 rfl) rfl
theorem q1387 : (Jvm.Cond.fieldLink "RatioGraphModel" (37 : Nat) "RatioGraphModel" "walk" "[I") ∈ lw_all := lw_g (lw_at lw_m6 123 rfl) rfl
theorem q1388 : (Jvm.Cond.fieldLink "RatioGraphModel" (131 : Nat) "RatioGraphModel" "steps" "I") ∈ lw_all := lw_g (lw_at lw_m6 124 rfl) rfl
theorem q1389 : (Jvm.Cond.fieldLink "RatioGraphModel" (140 : Nat) "RatioGraphModel" "taken" "I") ∈ lw_all := lw_g (lw_at lw_m6 125 rfl) rfl
theorem q1390 : (Jvm.Cond.fieldLink "RatioGraphModel" (134 : Nat) "RatioGraphModel" "first" "I") ∈ lw_all := lw_g (lw_at lw_m6 126 rfl) rfl
theorem q1391 : (Jvm.Cond.fieldLink "RatioGraphModel" (137 : Nat) "RatioGraphModel" "last" "I") ∈ lw_all := lw_g (lw_at lw_m6 127 rfl) rfl
theorem q1392 : (Jvm.Cond.fieldLink "RatioGraphModel" (40 : Nat) "RatioGraphModel" "best" "[I") ∈ lw_all := lw_g (lw_at lw_m6 128 rfl) rfl
theorem q1393 : (Jvm.Cond.fieldLink "RatioGraphModel" (153 : Nat) "RatioGraphModel" "bestSteps" "I") ∈ lw_all := lw_g (lw_at lw_m6 129 rfl) rfl
theorem q1394 : (Jvm.Cond.fieldLink "RatioGraphModel" (156 : Nat) "RatioGraphModel" "bestUp" "J") ∈ lw_all := lw_g (lw_at lw_m6 130 rfl) rfl
theorem q1395 : (Jvm.Cond.fieldLink "RatioGraphModel" (160 : Nat) "RatioGraphModel" "bestDown" "J") ∈ lw_all := lw_g (lw_at lw_m6 131 rfl) rfl
theorem q1396 : (Jvm.Cond.fieldLink "RatioGraphModel" (43 : Nat) "RatioGraphModel" "far" "[J") ∈ lw_all := lw_g (lw_at lw_m6 132 rfl) rfl
theorem q1397 : (Jvm.Cond.fieldLink "RatioGraphModel" (247 : Nat) "RatioGraphModel" "lineA" "J") ∈ lw_all := lw_g (lw_at lw_m6 133 rfl) rfl
theorem q1398 : (Jvm.Cond.fieldLink "RatioGraphModel" (250 : Nat) "RatioGraphModel" "lineB" "J") ∈ lw_all := lw_g (lw_at lw_m6 134 rfl) rfl
theorem q1399 : (Jvm.Cond.fieldLink "RatioGraphModel" (253 : Nat) "RatioGraphModel" "beginUp" "J") ∈ lw_all := lw_g (lw_at lw_m6 135 rfl) rfl
theorem q1400 : (Jvm.Cond.fieldLink "RatioGraphModel" (256 : Nat) "RatioGraphModel" "beginDown" "J") ∈ lw_all := lw_g (lw_at lw_m6 136 rfl) rfl
theorem q1401 : (Jvm.Cond.fieldLink "RatioGraphModel" (289 : Nat) "RatioGraphModel" "hasLeast" "Z") ∈ lw_all := lw_g (lw_at lw_m6 137 rfl) rfl
theorem q1402 : (Jvm.Cond.fieldLink "RatioGraphModel" (298 : Nat) "RatioGraphModel" "hasMost" "Z") ∈ lw_all := lw_g (lw_at lw_m6 138 rfl) rfl
theorem q1403 : (Jvm.Cond.fieldLink "RatioGraphModel" (292 : Nat) "RatioGraphModel" "leastUp" "J") ∈ lw_all := lw_g (lw_at lw_m6 139 rfl) rfl
theorem q1404 : (Jvm.Cond.fieldLink "RatioGraphModel" (295 : Nat) "RatioGraphModel" "leastDown" "J") ∈ lw_all := lw_g (lw_at lw_m6 140 rfl) rfl
theorem q1405 : (Jvm.Cond.fieldLink "RatioGraphModel" (301 : Nat) "RatioGraphModel" "mostUp" "J") ∈ lw_all := lw_g (lw_at lw_m6 141 rfl) rfl
theorem q1406 : (Jvm.Cond.fieldLink "RatioGraphModel" (304 : Nat) "RatioGraphModel" "mostDown" "J") ∈ lw_all := lw_g (lw_at lw_m6 142 rfl) rfl
theorem q1407 : (Jvm.Cond.fieldLink "RatioGraphModel" (286 : Nat) "RatioGraphModel" "isEmpty" "Z") ∈ lw_all := lw_g (lw_at lw_m6 143 rfl) rfl
theorem q1408 : (Jvm.Cond.fieldLink "RatioGraphModel" (319 : Nat) "RatioGraphModel" "hash" "J") ∈ lw_all := lw_g (lw_at lw_m6 144 rfl) rfl
theorem q1409 : (Jvm.Cond.laysFinal "RatioGraphModel" "RatioGraphModel" "m" "[I") ∈ lw_all := lw_g (lw_at lw_m6 145 rfl) rfl
theorem q1410 : (Jvm.Cond.soleField "RatioGraphModel" "m") ∈ lw_all := lw_g (lw_at lw_m6 146 rfl) rfl
theorem q1411 : (Jvm.Cond.laysFinal "RatioGraphModel" "RatioGraphModel" "past" "[I") ∈ lw_all := lw_g (lw_at lw_m6 147 rfl) rfl
theorem q1412 : (Jvm.Cond.soleField "RatioGraphModel" "past") ∈ lw_all := lw_g (lw_at lw_m6 148 rfl) rfl
theorem q1413 : (Jvm.Cond.lays "RatioGraphModel" "RatioGraphModel" "undos" "I") ∈ lw_all := lw_g (lw_at lw_m6 149 rfl) rfl
theorem q1414 : (Jvm.Cond.soleField "RatioGraphModel" "undos") ∈ lw_all := lw_g (lw_at lw_m6 150 rfl) rfl
theorem q1415 : (Jvm.Cond.laysFinal "RatioGraphModel" "RatioGraphModel" "marks" "[I") ∈ lw_all := lw_g (lw_at lw_m6 151 rfl) rfl
theorem q1416 : (Jvm.Cond.soleField "RatioGraphModel" "marks") ∈ lw_all := lw_g (lw_at lw_m6 152 rfl) rfl
theorem q1417 : (Jvm.Cond.laysFinal "RatioGraphModel" "RatioGraphModel" "text" "[I") ∈ lw_all := lw_g (lw_at lw_m6 153 rfl) rfl
theorem q1418 : (Jvm.Cond.soleField "RatioGraphModel" "text") ∈ lw_all := lw_g (lw_at lw_m6 154 rfl) rfl
theorem q1419 : (Jvm.Cond.lays "RatioGraphModel" "RatioGraphModel" "textLength" "I") ∈ lw_all := lw_g (lw_at lw_m6 155 rfl) rfl
theorem q1420 : (Jvm.Cond.soleField "RatioGraphModel" "textLength") ∈ lw_all := lw_g (lw_at lw_m6 156 rfl) rfl
theorem q1421 : (Jvm.Cond.laysFinal "RatioGraphModel" "RatioGraphModel" "found" "[I") ∈ lw_all := lw_g (lw_at lw_m6 157 rfl) rfl
theorem q1422 : (Jvm.Cond.soleField "RatioGraphModel" "found") ∈ lw_all := lw_g (lw_at lw_m6 158 rfl) rfl
theorem q1423 : (Jvm.Cond.lays "RatioGraphModel" "RatioGraphModel" "foundEdges" "I") ∈ lw_all := lw_g (lw_at lw_m6 159 rfl) rfl
theorem q1424 : (Jvm.Cond.soleField "RatioGraphModel" "foundEdges") ∈ lw_all := lw_g (lw_at lw_m6 160 rfl) rfl
theorem q1425 : (Jvm.Cond.lays "RatioGraphModel" "RatioGraphModel" "valueUp" "J") ∈ lw_all := lw_g (lw_at lw_m6 161 rfl) rfl
theorem q1426 : (Jvm.Cond.soleField "RatioGraphModel" "valueUp") ∈ lw_all := lw_g (lw_at lw_m6 162 rfl) rfl
theorem q1427 : (Jvm.Cond.lays "RatioGraphModel" "RatioGraphModel" "valueDown" "J") ∈ lw_all := lw_g (lw_at lw_m6 163 rfl) rfl
theorem q1428 : (Jvm.Cond.soleField "RatioGraphModel" "valueDown") ∈ lw_all := lw_g (lw_at lw_m6 164 rfl) rfl
theorem q1429 : (Jvm.Cond.laysFinal "RatioGraphModel" "RatioGraphModel" "piece" "[J") ∈ lw_all := lw_g (lw_at lw_m6 165 rfl) rfl
theorem q1430 : (Jvm.Cond.soleField "RatioGraphModel" "piece") ∈ lw_all := lw_g (lw_at lw_m6 166 rfl) rfl
theorem q1431 : (Jvm.Cond.lays "RatioGraphModel" "RatioGraphModel" "kept" "I") ∈ lw_all := lw_g (lw_at lw_m6 167 rfl) rfl
theorem q1432 : (Jvm.Cond.soleField "RatioGraphModel" "kept") ∈ lw_all := lw_g (lw_at lw_m6 168 rfl) rfl
theorem q1433 : (Jvm.Cond.lays "RatioGraphModel" "RatioGraphModel" "hasPieces" "Z") ∈ lw_all := lw_g (lw_at lw_m6 169 rfl) rfl
theorem q1434 : (Jvm.Cond.soleField "RatioGraphModel" "hasPieces") ∈ lw_all := lw_g (lw_at lw_m6 170 rfl) rfl
theorem q1435 : (Jvm.Cond.laysFinal "RatioGraphModel" "RatioGraphModel" "read" "[I") ∈ lw_all := lw_g (lw_at lw_m6 171 rfl) rfl
theorem q1436 : (Jvm.Cond.soleField "RatioGraphModel" "read") ∈ lw_all := lw_g (lw_at lw_m6 172 rfl) rfl
theorem q1437 : (Jvm.Cond.lays "RatioGraphModel" "RatioGraphModel" "reads" "I") ∈ lw_all := lw_g (lw_at lw_m6 173 rfl) rfl
theorem q1438 : (Jvm.Cond.soleField "RatioGraphModel" "reads") ∈ lw_all := lw_g (lw_at lw_m6 174 rfl) rfl
theorem q1439 : (Jvm.Cond.lays "RatioGraphModel" "RatioGraphModel" "at" "I") ∈ lw_all := lw_g (lw_at lw_m6 175 rfl) rfl
theorem q1440 : (Jvm.Cond.soleField "RatioGraphModel" "at") ∈ lw_all := lw_g (lw_at lw_m6 176 rfl) rfl
theorem q1441 : (Jvm.Cond.lays "RatioGraphModel" "RatioGraphModel" "fault" "I") ∈ lw_all := lw_g (lw_at lw_m6 177 rfl) rfl
theorem q1442 : (Jvm.Cond.soleField "RatioGraphModel" "fault") ∈ lw_all := lw_g (lw_at lw_m6 178 rfl) rfl
theorem q1443 : (Jvm.Cond.laysFinal "RatioGraphModel" "RatioGraphModel" "walk" "[I") ∈ lw_all := lw_g (lw_at lw_m6 179 rfl) rfl
theorem q1444 : (Jvm.Cond.soleField "RatioGraphModel" "walk") ∈ lw_all := lw_g (lw_at lw_m6 180 rfl) rfl
theorem q1445 : (Jvm.Cond.lays "RatioGraphModel" "RatioGraphModel" "steps" "I") ∈ lw_all := lw_g (lw_at lw_m6 181 rfl) rfl
theorem q1446 : (Jvm.Cond.soleField "RatioGraphModel" "steps") ∈ lw_all := lw_g (lw_at lw_m6 182 rfl) rfl
theorem q1447 : (Jvm.Cond.lays "RatioGraphModel" "RatioGraphModel" "taken" "I") ∈ lw_all := lw_g (lw_at lw_m6 183 rfl) rfl
theorem q1448 : (Jvm.Cond.soleField "RatioGraphModel" "taken") ∈ lw_all := lw_g (lw_at lw_m6 184 rfl) rfl
theorem q1449 : (Jvm.Cond.lays "RatioGraphModel" "RatioGraphModel" "first" "I") ∈ lw_all := lw_g (lw_at lw_m6 185 rfl) rfl
theorem q1450 : (Jvm.Cond.soleField "RatioGraphModel" "first") ∈ lw_all := lw_g (lw_at lw_m6 186 rfl) rfl
theorem q1451 : (Jvm.Cond.lays "RatioGraphModel" "RatioGraphModel" "last" "I") ∈ lw_all := lw_g (lw_at lw_m6 187 rfl) rfl
theorem q1452 : (Jvm.Cond.soleField "RatioGraphModel" "last") ∈ lw_all := lw_g (lw_at lw_m6 188 rfl) rfl
theorem q1453 : (Jvm.Cond.laysFinal "RatioGraphModel" "RatioGraphModel" "best" "[I") ∈ lw_all := lw_g (lw_at lw_m6 189 rfl) rfl
theorem q1454 : (Jvm.Cond.soleField "RatioGraphModel" "best") ∈ lw_all := lw_g (lw_at lw_m6 190 rfl) rfl
theorem q1455 : (Jvm.Cond.lays "RatioGraphModel" "RatioGraphModel" "bestSteps" "I") ∈ lw_all := lw_g (lw_at lw_m6 191 rfl) rfl
theorem q1456 : (Jvm.Cond.soleField "RatioGraphModel" "bestSteps") ∈ lw_all := lw_g (lw_at lw_m6 192 rfl) rfl
theorem q1457 : (Jvm.Cond.lays "RatioGraphModel" "RatioGraphModel" "bestUp" "J") ∈ lw_all := lw_g (lw_at lw_m6 193 rfl) rfl
theorem q1458 : (Jvm.Cond.soleField "RatioGraphModel" "bestUp") ∈ lw_all := lw_g (lw_at lw_m6 194 rfl) rfl
theorem q1459 : (Jvm.Cond.lays "RatioGraphModel" "RatioGraphModel" "bestDown" "J") ∈ lw_all := lw_g (lw_at lw_m6 195 rfl) rfl
theorem q1460 : (Jvm.Cond.soleField "RatioGraphModel" "bestDown") ∈ lw_all := lw_g (lw_at lw_m6 196 rfl) rfl
theorem q1461 : (Jvm.Cond.laysFinal "RatioGraphModel" "RatioGraphModel" "far" "[J") ∈ lw_all := lw_g (lw_at lw_m6 197 rfl) rfl
theorem q1462 : (Jvm.Cond.soleField "RatioGraphModel" "far") ∈ lw_all := lw_g (lw_at lw_m6 198 rfl) rfl
theorem q1463 : (Jvm.Cond.lays "RatioGraphModel" "RatioGraphModel" "lineA" "J") ∈ lw_all := lw_g (lw_at lw_m6 199 rfl) rfl
theorem q1464 : (Jvm.Cond.soleField "RatioGraphModel" "lineA") ∈ lw_all := lw_g (lw_at lw_m6 200 rfl) rfl
theorem q1465 : (Jvm.Cond.lays "RatioGraphModel" "RatioGraphModel" "lineB" "J") ∈ lw_all := lw_g (lw_at lw_m6 201 rfl) rfl
theorem q1466 : (Jvm.Cond.soleField "RatioGraphModel" "lineB") ∈ lw_all := lw_g (lw_at lw_m6 202 rfl) rfl
theorem q1467 : (Jvm.Cond.lays "RatioGraphModel" "RatioGraphModel" "beginUp" "J") ∈ lw_all := lw_g (lw_at lw_m6 203 rfl) rfl
theorem q1468 : (Jvm.Cond.soleField "RatioGraphModel" "beginUp") ∈ lw_all := lw_g (lw_at lw_m6 204 rfl) rfl
theorem q1469 : (Jvm.Cond.lays "RatioGraphModel" "RatioGraphModel" "beginDown" "J") ∈ lw_all := lw_g (lw_at lw_m6 205 rfl) rfl
theorem q1470 : (Jvm.Cond.soleField "RatioGraphModel" "beginDown") ∈ lw_all := lw_g (lw_at lw_m6 206 rfl) rfl
theorem q1471 : (Jvm.Cond.lays "RatioGraphModel" "RatioGraphModel" "hasLeast" "Z") ∈ lw_all := lw_g (lw_at lw_m6 207 rfl) rfl
theorem q1472 : (Jvm.Cond.soleField "RatioGraphModel" "hasLeast") ∈ lw_all := lw_g (lw_at lw_m6 208 rfl) rfl
theorem q1473 : (Jvm.Cond.lays "RatioGraphModel" "RatioGraphModel" "hasMost" "Z") ∈ lw_all := lw_g (lw_at lw_m6 209 rfl) rfl
theorem q1474 : (Jvm.Cond.soleField "RatioGraphModel" "hasMost") ∈ lw_all := lw_g (lw_at lw_m6 210 rfl) rfl
theorem q1475 : (Jvm.Cond.lays "RatioGraphModel" "RatioGraphModel" "leastUp" "J") ∈ lw_all := lw_g (lw_at lw_m6 211 rfl) rfl
theorem q1476 : (Jvm.Cond.soleField "RatioGraphModel" "leastUp") ∈ lw_all := lw_g (lw_at lw_m6 212 rfl) rfl
theorem q1477 : (Jvm.Cond.lays "RatioGraphModel" "RatioGraphModel" "leastDown" "J") ∈ lw_all := lw_g (lw_at lw_m6 213 rfl) rfl
theorem q1478 : (Jvm.Cond.soleField "RatioGraphModel" "leastDown") ∈ lw_all := lw_g (lw_at lw_m6 214 rfl) rfl
theorem q1479 : (Jvm.Cond.lays "RatioGraphModel" "RatioGraphModel" "mostUp" "J") ∈ lw_all := lw_g (lw_at lw_m6 215 rfl) rfl
theorem q1480 : (Jvm.Cond.soleField "RatioGraphModel" "mostUp") ∈ lw_all := lw_g (lw_at lw_m6 216 rfl) rfl
theorem q1481 : (Jvm.Cond.lays "RatioGraphModel" "RatioGraphModel" "mostDown" "J") ∈ lw_all := lw_g (lw_at lw_m6 217 rfl) rfl
theorem q1482 : (Jvm.Cond.soleField "RatioGraphModel" "mostDown") ∈ lw_all := lw_g (lw_at lw_m6 218 rfl) rfl
theorem q1483 : (Jvm.Cond.lays "RatioGraphModel" "RatioGraphModel" "isEmpty" "Z") ∈ lw_all := lw_g (lw_at lw_m6 219 rfl) rfl
theorem q1484 : (Jvm.Cond.soleField "RatioGraphModel" "isEmpty") ∈ lw_all := lw_g (lw_at lw_m6 220 rfl) rfl
theorem q1485 : (Jvm.Cond.lays "RatioGraphModel" "RatioGraphModel" "hash" "J") ∈ lw_all := lw_g (lw_at lw_m6 221 rfl) rfl
theorem q1486 : (Jvm.Cond.soleField "RatioGraphModel" "hash") ∈ lw_all := lw_g (lw_at lw_m6 222 rfl) rfl
theorem q1487 : (Jvm.Cond.superclass "RatioGraphModel" "java/lang/Object") ∈ lw_all := lw_g (lw_at lw_m6 223 rfl) rfl
theorem q1489 : (Jvm.Cond.instanceMethod ({ cls := "RatioGraphModel", name := "undo", desc := "()I" } : Jvm.MethodName)) ∈ lw_all := lw_g (lw_at lw_m6 225 rfl) rfl
theorem q1490 : (Jvm.Cond.selects "RatioGraphModel" ({ cls := "RatioGraphModel", name := "undo", desc := "()I" } : Jvm.MethodName) ({ cls := "RatioGraphModel", name := "undo", desc := "()I" } : Jvm.MethodName)) ∈ lw_all := lw_g (lw_at lw_m6 226 rfl) rfl
theorem q1491 : (Jvm.Cond.code ({ cls := "RatioGraphModel", name := "undo", desc := "()I" } : Jvm.MethodName) prog_20_method_8_code (2 : Nat) (Option.some Jvm.ClassFile.FieldType.int)) ∈ lw_all := lw_g (lw_at lw_m6 227 rfl) rfl
theorem q1492 : (Jvm.Cond.constant "RatioGraphModel" (63 : Nat) (-1000003 : Int32)) ∈ lw_all := lw_g (lw_at lw_m6 228 rfl) rfl
theorem q1494 : (Jvm.Cond.instanceMethod ({ cls := "RatioGraphModel", name := "addEdge", desc := "(IIIII)I" } : Jvm.MethodName)) ∈ lw_all := lw_g (lw_at lw_m6 230 rfl) rfl
theorem q1495 : (Jvm.Cond.selects "RatioGraphModel" ({ cls := "RatioGraphModel", name := "addEdge", desc := "(IIIII)I" } : Jvm.MethodName) ({ cls := "RatioGraphModel", name := "addEdge", desc := "(IIIII)I" } : Jvm.MethodName)) ∈ lw_all := lw_g (lw_at lw_m6 231 rfl) rfl
theorem q1496 : (Jvm.Cond.code ({ cls := "RatioGraphModel", name := "addEdge", desc := "(IIIII)I" } : Jvm.MethodName) prog_20_method_9_code (7 : Nat) (Option.some Jvm.ClassFile.FieldType.int)) ∈ lw_all := lw_g (lw_at lw_m6 232 rfl) rfl
theorem q1497 : (Jvm.Cond.methodLink "RatioGraphModel" (64 : Nat) ({ cls := "RatioGraphModel", name := "isNode", desc := "(I)Z" } : Jvm.MethodName)) ∈ lw_all := lw_g (lw_at lw_m6 233 rfl) rfl
theorem q1498 : (Jvm.Cond.static ({ cls := "RatioGraphModel", name := "isNode", desc := "(I)Z" } : Jvm.MethodName)) ∈ lw_all := lw_g (lw_at lw_m6 234 rfl) rfl
theorem q1499 : (Jvm.Cond.code ({ cls := "RatioGraphModel", name := "isNode", desc := "(I)Z" } : Jvm.MethodName) prog_20_method_3_code (1 : Nat) (Option.some Jvm.ClassFile.FieldType.boolean)) ∈ lw_all := lw_g (lw_at lw_m6 235 rfl) rfl
theorem q1500 : (Jvm.Cond.constantLong "RatioGraphModel" (46 : Nat) (7 : Int64)) ∈ lw_all := lw_g (lw_at lw_m6 236 rfl) rfl
theorem q1501 : (Jvm.Cond.methodLink "RatioGraphModel" (48 : Nat) ({ cls := "RatioGraphModel", name := "in", desc := "(JJJ)Z" } : Jvm.MethodName)) ∈ lw_all := lw_g (lw_at lw_m6 237 rfl) rfl
theorem q1502 : (Jvm.Cond.static ({ cls := "RatioGraphModel", name := "in", desc := "(JJJ)Z" } : Jvm.MethodName)) ∈ lw_all := lw_g (lw_at lw_m6 238 rfl) rfl
theorem q1503 : (Jvm.Cond.code ({ cls := "RatioGraphModel", name := "in", desc := "(JJJ)Z" } : Jvm.MethodName) prog_20_method_2_code (6 : Nat) (Option.some Jvm.ClassFile.FieldType.boolean)) ∈ lw_all := lw_g (lw_at lw_m6 239 rfl) rfl
theorem q1504 : (Jvm.Cond.methodLink "RatioGraphModel" (68 : Nat) ({ cls := "RatioGraphModel", name := "isValue", desc := "(II)Z" } : Jvm.MethodName)) ∈ lw_all := lw_g (lw_at lw_m7 0 rfl) rfl
theorem q1505 : (Jvm.Cond.static ({ cls := "RatioGraphModel", name := "isValue", desc := "(II)Z" } : Jvm.MethodName)) ∈ lw_all := lw_g (lw_at lw_m7 1 rfl) rfl
theorem q1506 : (Jvm.Cond.code ({ cls := "RatioGraphModel", name := "isValue", desc := "(II)Z" } : Jvm.MethodName) prog_20_method_6_code (2 : Nat) (Option.some Jvm.ClassFile.FieldType.boolean)) ∈ lw_all := lw_g (lw_at lw_m7 2 rfl) rfl
theorem q1507 : (Jvm.Cond.constantLong "RatioGraphModel" (52 : Nat) (-99 : Int64)) ∈ lw_all := lw_g (lw_at lw_m7 3 rfl) rfl
theorem q1508 : (Jvm.Cond.constantLong "RatioGraphModel" (54 : Nat) (99 : Int64)) ∈ lw_all := lw_g (lw_at lw_m7 4 rfl) rfl
theorem q1509 : (Jvm.Cond.constantLong "RatioGraphModel" (56 : Nat) (-9 : Int64)) ∈ lw_all := lw_g (lw_at lw_m7 5 rfl) rfl
theorem q1510 : (Jvm.Cond.constantLong "RatioGraphModel" (58 : Nat) (9 : Int64)) ∈ lw_all := lw_g (lw_at lw_m7 6 rfl) rfl
theorem q1511 : (Jvm.Cond.constant "RatioGraphModel" (72 : Nat) (-1000002 : Int32)) ∈ lw_all := lw_g (lw_at lw_m7 7 rfl) rfl
theorem q1512 : (Jvm.Cond.constant "RatioGraphModel" (73 : Nat) (-1000004 : Int32)) ∈ lw_all := lw_g (lw_at lw_m7 8 rfl) rfl
theorem q1513 : (Jvm.Cond.methodLink "RatioGraphModel" (74 : Nat) ({ cls := "RatioGraphModel", name := "keeps", desc := "()V" } : Jvm.MethodName)) ∈ lw_all := lw_g (lw_at lw_m7 9 rfl) rfl
theorem q1514 : (Jvm.Cond.privateMethod ({ cls := "RatioGraphModel", name := "keeps", desc := "()V" } : Jvm.MethodName)) ∈ lw_tbl := lw_at lw_m7 10 rfl
theorem q1515 : (Jvm.Cond.instanceMethod ({ cls := "RatioGraphModel", name := "keeps", desc := "()V" } : Jvm.MethodName)) ∈ lw_all := lw_g (lw_at lw_m7 11 rfl) rfl
theorem q1516 : (Jvm.Cond.code ({ cls := "RatioGraphModel", name := "keeps", desc := "()V" } : Jvm.MethodName) prog_20_method_7_code (2 : Nat) (Option.none : Option Jvm.ClassFile.FieldType)) ∈ lw_all := lw_g (lw_at lw_m7 12 rfl) rfl
theorem q1518 : (Jvm.Cond.instanceMethod ({ cls := "RatioGraphModel", name := "removeEdge", desc := "(I)I" } : Jvm.MethodName)) ∈ lw_all := lw_g (lw_at lw_m7 14 rfl) rfl
theorem q1519 : (Jvm.Cond.selects "RatioGraphModel" ({ cls := "RatioGraphModel", name := "removeEdge", desc := "(I)I" } : Jvm.MethodName) ({ cls := "RatioGraphModel", name := "removeEdge", desc := "(I)I" } : Jvm.MethodName)) ∈ lw_all := lw_g (lw_at lw_m7 15 rfl) rfl
theorem q1520 : (Jvm.Cond.code ({ cls := "RatioGraphModel", name := "removeEdge", desc := "(I)I" } : Jvm.MethodName) prog_20_method_10_code (3 : Nat) (Option.some Jvm.ClassFile.FieldType.int)) ∈ lw_all := lw_g (lw_at lw_m7 16 rfl) rfl
theorem q1521 : (Jvm.Cond.methodLink "RatioGraphModel" (77 : Nat) ({ cls := "RatioGraphModel", name := "isEdge", desc := "(I)Z" } : Jvm.MethodName)) ∈ lw_all := lw_g (lw_at lw_m7 17 rfl) rfl
theorem q1522 : (Jvm.Cond.privateMethod ({ cls := "RatioGraphModel", name := "isEdge", desc := "(I)Z" } : Jvm.MethodName)) ∈ lw_tbl := lw_at lw_m7 18 rfl
theorem q1523 : (Jvm.Cond.instanceMethod ({ cls := "RatioGraphModel", name := "isEdge", desc := "(I)Z" } : Jvm.MethodName)) ∈ lw_all := lw_g (lw_at lw_m7 19 rfl) rfl
theorem q1524 : (Jvm.Cond.code ({ cls := "RatioGraphModel", name := "isEdge", desc := "(I)Z" } : Jvm.MethodName) prog_20_method_5_code (2 : Nat) (Option.some Jvm.ClassFile.FieldType.boolean)) ∈ lw_all := lw_g (lw_at lw_m7 20 rfl) rfl
theorem q1526 : (Jvm.Cond.instanceMethod ({ cls := "RatioGraphModel", name := "setEdge", desc := "(III)I" } : Jvm.MethodName)) ∈ lw_all := lw_g (lw_at lw_m7 22 rfl) rfl
theorem q1527 : (Jvm.Cond.selects "RatioGraphModel" ({ cls := "RatioGraphModel", name := "setEdge", desc := "(III)I" } : Jvm.MethodName) ({ cls := "RatioGraphModel", name := "setEdge", desc := "(III)I" } : Jvm.MethodName)) ∈ lw_all := lw_g (lw_at lw_m7 23 rfl) rfl
theorem q1528 : (Jvm.Cond.code ({ cls := "RatioGraphModel", name := "setEdge", desc := "(III)I" } : Jvm.MethodName) prog_20_method_11_code (5 : Nat) (Option.some Jvm.ClassFile.FieldType.int)) ∈ lw_all := lw_g (lw_at lw_m7 24 rfl) rfl
theorem q1529 : (Jvm.Cond.methodLink "RatioGraphModel" (80 : Nat) ({ cls := "RatioGraphModel", name := "of", desc := "(II)I" } : Jvm.MethodName)) ∈ lw_all := lw_g (lw_at lw_m7 25 rfl) rfl
theorem q1530 : (Jvm.Cond.privateMethod ({ cls := "RatioGraphModel", name := "of", desc := "(II)I" } : Jvm.MethodName)) ∈ lw_tbl := lw_at lw_m7 26 rfl
theorem q1531 : (Jvm.Cond.instanceMethod ({ cls := "RatioGraphModel", name := "of", desc := "(II)I" } : Jvm.MethodName)) ∈ lw_all := lw_g (lw_at lw_m7 27 rfl) rfl
theorem q1532 : (Jvm.Cond.code ({ cls := "RatioGraphModel", name := "of", desc := "(II)I" } : Jvm.MethodName) prog_20_method_4_code (3 : Nat) (Option.some Jvm.ClassFile.FieldType.int)) ∈ lw_all := lw_g (lw_at lw_m7 28 rfl) rfl
theorem q1534 : (Jvm.Cond.instanceMethod ({ cls := "RatioGraphModel", name := "setRate", desc := "(III)I" } : Jvm.MethodName)) ∈ lw_all := lw_g (lw_at lw_m7 30 rfl) rfl
theorem q1535 : (Jvm.Cond.selects "RatioGraphModel" ({ cls := "RatioGraphModel", name := "setRate", desc := "(III)I" } : Jvm.MethodName) ({ cls := "RatioGraphModel", name := "setRate", desc := "(III)I" } : Jvm.MethodName)) ∈ lw_all := lw_g (lw_at lw_m7 31 rfl) rfl
theorem q1536 : (Jvm.Cond.code ({ cls := "RatioGraphModel", name := "setRate", desc := "(III)I" } : Jvm.MethodName) prog_20_method_12_code (5 : Nat) (Option.some Jvm.ClassFile.FieldType.int)) ∈ lw_all := lw_g (lw_at lw_m7 32 rfl) rfl
theorem q1537 : (Jvm.Cond.constantLong "RatioGraphModel" (84 : Nat) (30 : Int64)) ∈ lw_all := lw_g (lw_at lw_m7 33 rfl) rfl
theorem q1539 : (Jvm.Cond.instanceMethod ({ cls := "RatioGraphModel", name := "edge", desc := "(II)I" } : Jvm.MethodName)) ∈ lw_all := lw_g (lw_at lw_m7 35 rfl) rfl
theorem q1540 : (Jvm.Cond.selects "RatioGraphModel" ({ cls := "RatioGraphModel", name := "edge", desc := "(II)I" } : Jvm.MethodName) ({ cls := "RatioGraphModel", name := "edge", desc := "(II)I" } : Jvm.MethodName)) ∈ lw_all := lw_g (lw_at lw_m7 36 rfl) rfl
theorem q1541 : (Jvm.Cond.code ({ cls := "RatioGraphModel", name := "edge", desc := "(II)I" } : Jvm.MethodName) prog_20_method_13_code (3 : Nat) (Option.some Jvm.ClassFile.FieldType.int)) ∈ lw_all := lw_g (lw_at lw_m7 37 rfl) rfl
theorem q1542 : (Jvm.Cond.constantLong "RatioGraphModel" (86 : Nat) (6 : Int64)) ∈ lw_all := lw_g (lw_at lw_m7 38 rfl) rfl
theorem q1544 : (Jvm.Cond.instanceMethod ({ cls := "RatioGraphModel", name := "clear", desc := "()I" } : Jvm.MethodName)) ∈ lw_all := lw_g (lw_at lw_m7 40 rfl) rfl
theorem q1545 : (Jvm.Cond.selects "RatioGraphModel" ({ cls := "RatioGraphModel", name := "clear", desc := "()I" } : Jvm.MethodName) ({ cls := "RatioGraphModel", name := "clear", desc := "()I" } : Jvm.MethodName)) ∈ lw_all := lw_g (lw_at lw_m7 41 rfl) rfl
theorem q1546 : (Jvm.Cond.code ({ cls := "RatioGraphModel", name := "clear", desc := "()I" } : Jvm.MethodName) prog_20_method_14_code (2 : Nat) (Option.some Jvm.ClassFile.FieldType.int)) ∈ lw_all := lw_g (lw_at lw_m7 42 rfl) rfl
theorem q1548 : (Jvm.Cond.instanceMethod ({ cls := "RatioGraphModel", name := "type", desc := "(I)I" } : Jvm.MethodName)) ∈ lw_all := lw_g (lw_at lw_m7 44 rfl) rfl
theorem q1549 : (Jvm.Cond.selects "RatioGraphModel" ({ cls := "RatioGraphModel", name := "type", desc := "(I)I" } : Jvm.MethodName) ({ cls := "RatioGraphModel", name := "type", desc := "(I)I" } : Jvm.MethodName)) ∈ lw_all := lw_g (lw_at lw_m7 45 rfl) rfl
theorem q1550 : (Jvm.Cond.code ({ cls := "RatioGraphModel", name := "type", desc := "(I)I" } : Jvm.MethodName) prog_20_method_15_code (2 : Nat) (Option.some Jvm.ClassFile.FieldType.int)) ∈ lw_all := lw_g (lw_at lw_m7 46 rfl) rfl
theorem q1551 : (Jvm.Cond.constantLong "RatioGraphModel" (88 : Nat) (127 : Int64)) ∈ lw_all := lw_g (lw_at lw_m7 47 rfl) rfl
theorem q1553 : (Jvm.Cond.instanceMethod ({ cls := "RatioGraphModel", name := "clearText", desc := "()I" } : Jvm.MethodName)) ∈ lw_all := lw_g (lw_at lw_m7 49 rfl) rfl
theorem q1554 : (Jvm.Cond.selects "RatioGraphModel" ({ cls := "RatioGraphModel", name := "clearText", desc := "()I" } : Jvm.MethodName) ({ cls := "RatioGraphModel", name := "clearText", desc := "()I" } : Jvm.MethodName)) ∈ lw_all := lw_g (lw_at lw_m7 50 rfl) rfl
theorem q1555 : (Jvm.Cond.code ({ cls := "RatioGraphModel", name := "clearText", desc := "()I" } : Jvm.MethodName) prog_20_method_16_code (2 : Nat) (Option.some Jvm.ClassFile.FieldType.int)) ∈ lw_all := lw_g (lw_at lw_m7 51 rfl) rfl
theorem q1557 : (Jvm.Cond.instanceMethod ({ cls := "RatioGraphModel", name := "fault", desc := "()I" } : Jvm.MethodName)) ∈ lw_all := lw_g (lw_at lw_m7 53 rfl) rfl
theorem q1558 : (Jvm.Cond.selects "RatioGraphModel" ({ cls := "RatioGraphModel", name := "fault", desc := "()I" } : Jvm.MethodName) ({ cls := "RatioGraphModel", name := "fault", desc := "()I" } : Jvm.MethodName)) ∈ lw_all := lw_g (lw_at lw_m7 54 rfl) rfl
theorem q1559 : (Jvm.Cond.code ({ cls := "RatioGraphModel", name := "fault", desc := "()I" } : Jvm.MethodName) prog_20_method_24_code (1 : Nat) (Option.some Jvm.ClassFile.FieldType.int)) ∈ lw_all := lw_g (lw_at lw_m7 55 rfl) rfl
theorem q1560 : (Jvm.Cond.methodLink "RatioGraphModel" (103 : Nat) ({ cls := "RatioGraphModel", name := "blanks", desc := "()V" } : Jvm.MethodName)) ∈ lw_all := lw_g (lw_at lw_m7 56 rfl) rfl
theorem q1561 : (Jvm.Cond.privateMethod ({ cls := "RatioGraphModel", name := "blanks", desc := "()V" } : Jvm.MethodName)) ∈ lw_tbl := lw_at lw_m7 57 rfl
theorem q1562 : (Jvm.Cond.instanceMethod ({ cls := "RatioGraphModel", name := "blanks", desc := "()V" } : Jvm.MethodName)) ∈ lw_all := lw_g (lw_at lw_m7 58 rfl) rfl
theorem q1563 : (Jvm.Cond.code ({ cls := "RatioGraphModel", name := "blanks", desc := "()V" } : Jvm.MethodName) prog_20_method_18_code (1 : Nat) (Option.none : Option Jvm.ClassFile.FieldType)) ∈ lw_all := lw_g (lw_at lw_m7 59 rfl) rfl
theorem q1564 : (Jvm.Cond.methodLink "RatioGraphModel" (96 : Nat) ({ cls := "RatioGraphModel", name := "next", desc := "()I" } : Jvm.MethodName)) ∈ lw_all := lw_g (lw_at lw_m7 60 rfl) rfl
theorem q1565 : (Jvm.Cond.privateMethod ({ cls := "RatioGraphModel", name := "next", desc := "()I" } : Jvm.MethodName)) ∈ lw_tbl := lw_at lw_m7 61 rfl
theorem q1566 : (Jvm.Cond.instanceMethod ({ cls := "RatioGraphModel", name := "next", desc := "()I" } : Jvm.MethodName)) ∈ lw_all := lw_g (lw_at lw_m7 62 rfl) rfl
theorem q1567 : (Jvm.Cond.code ({ cls := "RatioGraphModel", name := "next", desc := "()I" } : Jvm.MethodName) prog_20_method_17_code (1 : Nat) (Option.some Jvm.ClassFile.FieldType.int)) ∈ lw_all := lw_g (lw_at lw_m7 63 rfl) rfl
theorem q1568 : (Jvm.Cond.methodLink "RatioGraphModel" (126 : Nat) ({ cls := "RatioGraphModel", name := "readsEdge", desc := "()V" } : Jvm.MethodName)) ∈ lw_all := lw_g (lw_at lw_m7 64 rfl) rfl
theorem q1569 : (Jvm.Cond.privateMethod ({ cls := "RatioGraphModel", name := "readsEdge", desc := "()V" } : Jvm.MethodName)) ∈ lw_tbl := lw_at lw_m7 65 rfl
theorem q1570 : (Jvm.Cond.instanceMethod ({ cls := "RatioGraphModel", name := "readsEdge", desc := "()V" } : Jvm.MethodName)) ∈ lw_all := lw_g (lw_at lw_m7 66 rfl) rfl
theorem q1571 : (Jvm.Cond.code ({ cls := "RatioGraphModel", name := "readsEdge", desc := "()V" } : Jvm.MethodName) prog_20_method_23_code (6 : Nat) (Option.none : Option Jvm.ClassFile.FieldType)) ∈ lw_all := lw_g (lw_at lw_m7 67 rfl) rfl
theorem q1572 : (Jvm.Cond.methodLink "RatioGraphModel" (106 : Nat) ({ cls := "RatioGraphModel", name := "fails", desc := "(I)V" } : Jvm.MethodName)) ∈ lw_all := lw_g (lw_at lw_m7 68 rfl) rfl
theorem q1573 : (Jvm.Cond.privateMethod ({ cls := "RatioGraphModel", name := "fails", desc := "(I)V" } : Jvm.MethodName)) ∈ lw_tbl := lw_at lw_m7 69 rfl
theorem q1574 : (Jvm.Cond.instanceMethod ({ cls := "RatioGraphModel", name := "fails", desc := "(I)V" } : Jvm.MethodName)) ∈ lw_all := lw_g (lw_at lw_m7 70 rfl) rfl
theorem q1575 : (Jvm.Cond.code ({ cls := "RatioGraphModel", name := "fails", desc := "(I)V" } : Jvm.MethodName) prog_20_method_19_code (2 : Nat) (Option.none : Option Jvm.ClassFile.FieldType)) ∈ lw_all := lw_g (lw_at lw_m7 71 rfl) rfl
theorem q1576 : (Jvm.Cond.methodLink "RatioGraphModel" (117 : Nat) ({ cls := "RatioGraphModel", name := "one", desc := "(II)I" } : Jvm.MethodName)) ∈ lw_all := lw_g (lw_at lw_m7 72 rfl) rfl
theorem q1577 : (Jvm.Cond.privateMethod ({ cls := "RatioGraphModel", name := "one", desc := "(II)I" } : Jvm.MethodName)) ∈ lw_tbl := lw_at lw_m7 73 rfl
theorem q1578 : (Jvm.Cond.instanceMethod ({ cls := "RatioGraphModel", name := "one", desc := "(II)I" } : Jvm.MethodName)) ∈ lw_all := lw_g (lw_at lw_m7 74 rfl) rfl
theorem q1579 : (Jvm.Cond.code ({ cls := "RatioGraphModel", name := "one", desc := "(II)I" } : Jvm.MethodName) prog_20_method_21_code (4 : Nat) (Option.some Jvm.ClassFile.FieldType.int)) ∈ lw_all := lw_g (lw_at lw_m7 75 rfl) rfl
theorem q1580 : (Jvm.Cond.methodLink "RatioGraphModel" (120 : Nat) ({ cls := "RatioGraphModel", name := "takes", desc := "(I)Z" } : Jvm.MethodName)) ∈ lw_all := lw_g (lw_at lw_m7 76 rfl) rfl
theorem q1581 : (Jvm.Cond.privateMethod ({ cls := "RatioGraphModel", name := "takes", desc := "(I)Z" } : Jvm.MethodName)) ∈ lw_tbl := lw_at lw_m7 77 rfl
theorem q1582 : (Jvm.Cond.instanceMethod ({ cls := "RatioGraphModel", name := "takes", desc := "(I)Z" } : Jvm.MethodName)) ∈ lw_all := lw_g (lw_at lw_m7 78 rfl) rfl
theorem q1583 : (Jvm.Cond.code ({ cls := "RatioGraphModel", name := "takes", desc := "(I)Z" } : Jvm.MethodName) prog_20_method_20_code (3 : Nat) (Option.some Jvm.ClassFile.FieldType.boolean)) ∈ lw_all := lw_g (lw_at lw_m7 79 rfl) rfl
theorem q1584 : (Jvm.Cond.methodLink "RatioGraphModel" (123 : Nat) ({ cls := "RatioGraphModel", name := "number", desc := "(II)I" } : Jvm.MethodName)) ∈ lw_all := lw_g (lw_at lw_m7 80 rfl) rfl
theorem q1585 : (Jvm.Cond.privateMethod ({ cls := "RatioGraphModel", name := "number", desc := "(II)I" } : Jvm.MethodName)) ∈ lw_tbl := lw_at lw_m7 81 rfl
theorem q1586 : (Jvm.Cond.instanceMethod ({ cls := "RatioGraphModel", name := "number", desc := "(II)I" } : Jvm.MethodName)) ∈ lw_all := lw_g (lw_at lw_m7 82 rfl) rfl
theorem q1587 : (Jvm.Cond.code ({ cls := "RatioGraphModel", name := "number", desc := "(II)I" } : Jvm.MethodName) prog_20_method_22_code (5 : Nat) (Option.some Jvm.ClassFile.FieldType.int)) ∈ lw_all := lw_g (lw_at lw_m7 83 rfl) rfl
theorem q1588 : (Jvm.Cond.constantLong "RatioGraphModel" (110 : Nat) (48 : Int64)) ∈ lw_all := lw_g (lw_at lw_m7 84 rfl) rfl
theorem q1589 : (Jvm.Cond.constantLong "RatioGraphModel" (112 : Nat) (57 : Int64)) ∈ lw_all := lw_g (lw_at lw_m7 85 rfl) rfl
theorem q1591 : (Jvm.Cond.instanceMethod ({ cls := "RatioGraphModel", name := "load", desc := "()I" } : Jvm.MethodName)) ∈ lw_all := lw_g (lw_at lw_m7 87 rfl) rfl
theorem q1592 : (Jvm.Cond.selects "RatioGraphModel" ({ cls := "RatioGraphModel", name := "load", desc := "()I" } : Jvm.MethodName) ({ cls := "RatioGraphModel", name := "load", desc := "()I" } : Jvm.MethodName)) ∈ lw_all := lw_g (lw_at lw_m7 88 rfl) rfl
theorem q1593 : (Jvm.Cond.code ({ cls := "RatioGraphModel", name := "load", desc := "()I" } : Jvm.MethodName) prog_20_method_25_code (2 : Nat) (Option.some Jvm.ClassFile.FieldType.int)) ∈ lw_all := lw_g (lw_at lw_m7 89 rfl) rfl
theorem q1594 : (Jvm.Cond.methodLink "RatioGraphModel" (129 : Nat) ({ cls := "RatioGraphModel", name := "fault", desc := "()I" } : Jvm.MethodName)) ∈ lw_all := lw_g (lw_at lw_m7 90 rfl) rfl
theorem q1596 : (Jvm.Cond.instanceMethod ({ cls := "RatioGraphModel", name := "meanCycle", desc := "()I" } : Jvm.MethodName)) ∈ lw_all := lw_g (lw_at lw_m7 92 rfl) rfl
theorem q1597 : (Jvm.Cond.selects "RatioGraphModel" ({ cls := "RatioGraphModel", name := "meanCycle", desc := "()I" } : Jvm.MethodName) ({ cls := "RatioGraphModel", name := "meanCycle", desc := "()I" } : Jvm.MethodName)) ∈ lw_all := lw_g (lw_at lw_m7 93 rfl) rfl
theorem q1598 : (Jvm.Cond.code ({ cls := "RatioGraphModel", name := "meanCycle", desc := "()I" } : Jvm.MethodName) prog_20_method_39_code (1 : Nat) (Option.some Jvm.ClassFile.FieldType.int)) ∈ lw_all := lw_g (lw_at lw_m7 94 rfl) rfl
theorem q1599 : (Jvm.Cond.methodLink "RatioGraphModel" (199 : Nat) ({ cls := "RatioGraphModel", name := "searches", desc := "(I)V" } : Jvm.MethodName)) ∈ lw_all := lw_g (lw_at lw_m7 95 rfl) rfl
theorem q1600 : (Jvm.Cond.privateMethod ({ cls := "RatioGraphModel", name := "searches", desc := "(I)V" } : Jvm.MethodName)) ∈ lw_tbl := lw_at lw_m7 96 rfl
theorem q1601 : (Jvm.Cond.instanceMethod ({ cls := "RatioGraphModel", name := "searches", desc := "(I)V" } : Jvm.MethodName)) ∈ lw_all := lw_g (lw_at lw_m7 97 rfl) rfl
theorem q1602 : (Jvm.Cond.code ({ cls := "RatioGraphModel", name := "searches", desc := "(I)V" } : Jvm.MethodName) prog_20_method_38_code (4 : Nat) (Option.none : Option Jvm.ClassFile.FieldType)) ∈ lw_all := lw_g (lw_at lw_m7 98 rfl) rfl
theorem q1603 : (Jvm.Cond.methodLink "RatioGraphModel" (180 : Nat) ({ cls := "RatioGraphModel", name := "starts", desc := "(II)V" } : Jvm.MethodName)) ∈ lw_all := lw_g (lw_at lw_m7 99 rfl) rfl
theorem q1604 : (Jvm.Cond.privateMethod ({ cls := "RatioGraphModel", name := "starts", desc := "(II)V" } : Jvm.MethodName)) ∈ lw_tbl := lw_at lw_m7 100 rfl
theorem q1605 : (Jvm.Cond.instanceMethod ({ cls := "RatioGraphModel", name := "starts", desc := "(II)V" } : Jvm.MethodName)) ∈ lw_all := lw_g (lw_at lw_m7 101 rfl) rfl
theorem q1606 : (Jvm.Cond.code ({ cls := "RatioGraphModel", name := "starts", desc := "(II)V" } : Jvm.MethodName) prog_20_method_26_code (3 : Nat) (Option.none : Option Jvm.ClassFile.FieldType)) ∈ lw_all := lw_g (lw_at lw_m7 102 rfl) rfl
theorem q1607 : (Jvm.Cond.methodLink "RatioGraphModel" (184 : Nat) ({ cls := "RatioGraphModel", name := "goesOn", desc := "(Z)Z" } : Jvm.MethodName)) ∈ lw_all := lw_g (lw_at lw_m7 103 rfl) rfl
theorem q1608 : (Jvm.Cond.privateMethod ({ cls := "RatioGraphModel", name := "goesOn", desc := "(Z)Z" } : Jvm.MethodName)) ∈ lw_tbl := lw_at lw_m7 104 rfl
theorem q1609 : (Jvm.Cond.instanceMethod ({ cls := "RatioGraphModel", name := "goesOn", desc := "(Z)Z" } : Jvm.MethodName)) ∈ lw_all := lw_g (lw_at lw_m7 105 rfl) rfl
theorem q1610 : (Jvm.Cond.code ({ cls := "RatioGraphModel", name := "goesOn", desc := "(Z)Z" } : Jvm.MethodName) prog_20_method_29_code (5 : Nat) (Option.some Jvm.ClassFile.FieldType.boolean)) ∈ lw_all := lw_g (lw_at lw_m7 106 rfl) rfl
theorem q1611 : (Jvm.Cond.methodLink "RatioGraphModel" (146 : Nat) ({ cls := "RatioGraphModel", name := "forth", desc := "(I)Z" } : Jvm.MethodName)) ∈ lw_all := lw_g (lw_at lw_m7 107 rfl) rfl
theorem q1612 : (Jvm.Cond.privateMethod ({ cls := "RatioGraphModel", name := "forth", desc := "(I)Z" } : Jvm.MethodName)) ∈ lw_tbl := lw_at lw_m7 108 rfl
theorem q1613 : (Jvm.Cond.instanceMethod ({ cls := "RatioGraphModel", name := "forth", desc := "(I)Z" } : Jvm.MethodName)) ∈ lw_all := lw_g (lw_at lw_m7 109 rfl) rfl
theorem q1614 : (Jvm.Cond.code ({ cls := "RatioGraphModel", name := "forth", desc := "(I)Z" } : Jvm.MethodName) prog_20_method_28_code (5 : Nat) (Option.some Jvm.ClassFile.FieldType.boolean)) ∈ lw_all := lw_g (lw_at lw_m7 110 rfl) rfl
theorem q1615 : (Jvm.Cond.methodLink "RatioGraphModel" (143 : Nat) ({ cls := "RatioGraphModel", name := "here", desc := "()I" } : Jvm.MethodName)) ∈ lw_all := lw_g (lw_at lw_m7 111 rfl) rfl
theorem q1616 : (Jvm.Cond.privateMethod ({ cls := "RatioGraphModel", name := "here", desc := "()I" } : Jvm.MethodName)) ∈ lw_tbl := lw_at lw_m7 112 rfl
theorem q1617 : (Jvm.Cond.instanceMethod ({ cls := "RatioGraphModel", name := "here", desc := "()I" } : Jvm.MethodName)) ∈ lw_all := lw_g (lw_at lw_m7 113 rfl) rfl
theorem q1618 : (Jvm.Cond.code ({ cls := "RatioGraphModel", name := "here", desc := "()I" } : Jvm.MethodName) prog_20_method_27_code (1 : Nat) (Option.some Jvm.ClassFile.FieldType.int)) ∈ lw_all := lw_g (lw_at lw_m7 114 rfl) rfl
theorem q1619 : (Jvm.Cond.methodLink "RatioGraphModel" (188 : Nat) ({ cls := "RatioGraphModel", name := "product", desc := "(I)J" } : Jvm.MethodName)) ∈ lw_all := lw_g (lw_at lw_m7 115 rfl) rfl
theorem q1620 : (Jvm.Cond.privateMethod ({ cls := "RatioGraphModel", name := "product", desc := "(I)J" } : Jvm.MethodName)) ∈ lw_tbl := lw_at lw_m7 116 rfl
theorem q1621 : (Jvm.Cond.instanceMethod ({ cls := "RatioGraphModel", name := "product", desc := "(I)J" } : Jvm.MethodName)) ∈ lw_all := lw_g (lw_at lw_m7 117 rfl) rfl
theorem q1622 : (Jvm.Cond.code ({ cls := "RatioGraphModel", name := "product", desc := "(I)J" } : Jvm.MethodName) prog_20_method_31_code (5 : Nat) (Option.some Jvm.ClassFile.FieldType.long)) ∈ lw_all := lw_g (lw_at lw_m7 118 rfl) rfl
theorem q1623 : (Jvm.Cond.methodLink "RatioGraphModel" (192 : Nat) ({ cls := "RatioGraphModel", name := "weighs", desc := "(JJI)V" } : Jvm.MethodName)) ∈ lw_all := lw_g (lw_at lw_m7 119 rfl) rfl
theorem q1624 : (Jvm.Cond.privateMethod ({ cls := "RatioGraphModel", name := "weighs", desc := "(JJI)V" } : Jvm.MethodName)) ∈ lw_tbl := lw_at lw_m7 120 rfl
theorem q1625 : (Jvm.Cond.instanceMethod ({ cls := "RatioGraphModel", name := "weighs", desc := "(JJI)V" } : Jvm.MethodName)) ∈ lw_all := lw_g (lw_at lw_m7 121 rfl) rfl
theorem q1626 : (Jvm.Cond.code ({ cls := "RatioGraphModel", name := "weighs", desc := "(JJI)V" } : Jvm.MethodName) prog_20_method_36_code (9 : Nat) (Option.none : Option Jvm.ClassFile.FieldType)) ∈ lw_all := lw_g (lw_at lw_m7 122 rfl) rfl
theorem q1627 : (Jvm.Cond.methodLink "RatioGraphModel" (163 : Nat) ({ cls := "RatioGraphModel", name := "compares", desc := "(JJJJ)I" } : Jvm.MethodName)) ∈ lw_all := lw_g (lw_at lw_m7 123 rfl) rfl
theorem q1628 : (Jvm.Cond.static ({ cls := "RatioGraphModel", name := "compares", desc := "(JJJJ)I" } : Jvm.MethodName)) ∈ lw_all := lw_g (lw_at lw_m7 124 rfl) rfl
theorem q1629 : (Jvm.Cond.code ({ cls := "RatioGraphModel", name := "compares", desc := "(JJJJ)I" } : Jvm.MethodName) prog_20_method_34_code (25 : Nat) (Option.some Jvm.ClassFile.FieldType.int)) ∈ lw_all := lw_g (lw_at lw_m7 125 rfl) rfl
theorem q1630 : (Jvm.Cond.methodLink "RatioGraphModel" (149 : Nat) ({ cls := "RatioGraphModel", name := "whole", desc := "(JJ)J" } : Jvm.MethodName)) ∈ lw_all := lw_g (lw_at lw_m7 126 rfl) rfl
theorem q1631 : (Jvm.Cond.static ({ cls := "RatioGraphModel", name := "whole", desc := "(JJ)J" } : Jvm.MethodName)) ∈ lw_all := lw_g (lw_at lw_m7 127 rfl) rfl
theorem q1632 : (Jvm.Cond.code ({ cls := "RatioGraphModel", name := "whole", desc := "(JJ)J" } : Jvm.MethodName) prog_20_method_33_code (6 : Nat) (Option.some Jvm.ClassFile.FieldType.long)) ∈ lw_all := lw_g (lw_at lw_m7 128 rfl) rfl
theorem q1633 : (Jvm.Cond.methodLink "RatioGraphModel" (167 : Nat) ({ cls := "RatioGraphModel", name := "isBeforeBest", desc := "()Z" } : Jvm.MethodName)) ∈ lw_all := lw_g (lw_at lw_m7 129 rfl) rfl
theorem q1634 : (Jvm.Cond.privateMethod ({ cls := "RatioGraphModel", name := "isBeforeBest", desc := "()Z" } : Jvm.MethodName)) ∈ lw_tbl := lw_at lw_m7 130 rfl
theorem q1635 : (Jvm.Cond.instanceMethod ({ cls := "RatioGraphModel", name := "isBeforeBest", desc := "()Z" } : Jvm.MethodName)) ∈ lw_all := lw_g (lw_at lw_m7 131 rfl) rfl
theorem q1636 : (Jvm.Cond.code ({ cls := "RatioGraphModel", name := "isBeforeBest", desc := "()Z" } : Jvm.MethodName) prog_20_method_35_code (2 : Nat) (Option.some Jvm.ClassFile.FieldType.boolean)) ∈ lw_all := lw_g (lw_at lw_m7 132 rfl) rfl
theorem q1637 : (Jvm.Cond.methodLink "RatioGraphModel" (196 : Nat) ({ cls := "RatioGraphModel", name := "sum", desc := "(I)J" } : Jvm.MethodName)) ∈ lw_all := lw_g (lw_at lw_m7 133 rfl) rfl
theorem q1638 : (Jvm.Cond.privateMethod ({ cls := "RatioGraphModel", name := "sum", desc := "(I)J" } : Jvm.MethodName)) ∈ lw_tbl := lw_at lw_m7 134 rfl
theorem q1639 : (Jvm.Cond.instanceMethod ({ cls := "RatioGraphModel", name := "sum", desc := "(I)J" } : Jvm.MethodName)) ∈ lw_all := lw_g (lw_at lw_m7 135 rfl) rfl
theorem q1640 : (Jvm.Cond.code ({ cls := "RatioGraphModel", name := "sum", desc := "(I)J" } : Jvm.MethodName) prog_20_method_30_code (5 : Nat) (Option.some Jvm.ClassFile.FieldType.long)) ∈ lw_all := lw_g (lw_at lw_m7 136 rfl) rfl
theorem q1641 : (Jvm.Cond.methodLink "RatioGraphModel" (202 : Nat) ({ cls := "RatioGraphModel", name := "finds", desc := "()I" } : Jvm.MethodName)) ∈ lw_all := lw_g (lw_at lw_m7 137 rfl) rfl
theorem q1642 : (Jvm.Cond.privateMethod ({ cls := "RatioGraphModel", name := "finds", desc := "()I" } : Jvm.MethodName)) ∈ lw_tbl := lw_at lw_m7 138 rfl
theorem q1643 : (Jvm.Cond.instanceMethod ({ cls := "RatioGraphModel", name := "finds", desc := "()I" } : Jvm.MethodName)) ∈ lw_all := lw_g (lw_at lw_m7 139 rfl) rfl
theorem q1644 : (Jvm.Cond.code ({ cls := "RatioGraphModel", name := "finds", desc := "()I" } : Jvm.MethodName) prog_20_method_37_code (4 : Nat) (Option.some Jvm.ClassFile.FieldType.int)) ∈ lw_all := lw_g (lw_at lw_m7 140 rfl) rfl
theorem q1645 : (Jvm.Cond.methodLink "RatioGraphModel" (171 : Nat) ({ cls := "RatioGraphModel", name := "common", desc := "(JJ)J" } : Jvm.MethodName)) ∈ lw_all := lw_g (lw_at lw_m7 141 rfl) rfl
theorem q1646 : (Jvm.Cond.static ({ cls := "RatioGraphModel", name := "common", desc := "(JJ)J" } : Jvm.MethodName)) ∈ lw_all := lw_g (lw_at lw_m7 142 rfl) rfl
theorem q1647 : (Jvm.Cond.code ({ cls := "RatioGraphModel", name := "common", desc := "(JJ)J" } : Jvm.MethodName) prog_20_method_32_code (10 : Nat) (Option.some Jvm.ClassFile.FieldType.long)) ∈ lw_all := lw_g (lw_at lw_m7 143 rfl) rfl
theorem q1649 : (Jvm.Cond.instanceMethod ({ cls := "RatioGraphModel", name := "ratioCycle", desc := "()I" } : Jvm.MethodName)) ∈ lw_all := lw_g (lw_at lw_m7 145 rfl) rfl
theorem q1650 : (Jvm.Cond.selects "RatioGraphModel" ({ cls := "RatioGraphModel", name := "ratioCycle", desc := "()I" } : Jvm.MethodName) ({ cls := "RatioGraphModel", name := "ratioCycle", desc := "()I" } : Jvm.MethodName)) ∈ lw_all := lw_g (lw_at lw_m7 146 rfl) rfl
theorem q1651 : (Jvm.Cond.code ({ cls := "RatioGraphModel", name := "ratioCycle", desc := "()I" } : Jvm.MethodName) prog_20_method_40_code (1 : Nat) (Option.some Jvm.ClassFile.FieldType.int)) ∈ lw_all := lw_g (lw_at lw_m7 147 rfl) rfl
theorem q1653 : (Jvm.Cond.instanceMethod ({ cls := "RatioGraphModel", name := "gainCycle", desc := "()I" } : Jvm.MethodName)) ∈ lw_all := lw_g (lw_at lw_m7 149 rfl) rfl
theorem q1654 : (Jvm.Cond.selects "RatioGraphModel" ({ cls := "RatioGraphModel", name := "gainCycle", desc := "()I" } : Jvm.MethodName) ({ cls := "RatioGraphModel", name := "gainCycle", desc := "()I" } : Jvm.MethodName)) ∈ lw_all := lw_g (lw_at lw_m7 150 rfl) rfl
theorem q1655 : (Jvm.Cond.code ({ cls := "RatioGraphModel", name := "gainCycle", desc := "()I" } : Jvm.MethodName) prog_20_method_41_code (1 : Nat) (Option.some Jvm.ClassFile.FieldType.int)) ∈ lw_all := lw_g (lw_at lw_m7 151 rfl) rfl
theorem q1657 : (Jvm.Cond.instanceMethod ({ cls := "RatioGraphModel", name := "cycles", desc := "(I)I" } : Jvm.MethodName)) ∈ lw_all := lw_g (lw_at lw_m7 153 rfl) rfl
theorem q1658 : (Jvm.Cond.selects "RatioGraphModel" ({ cls := "RatioGraphModel", name := "cycles", desc := "(I)I" } : Jvm.MethodName) ({ cls := "RatioGraphModel", name := "cycles", desc := "(I)I" } : Jvm.MethodName)) ∈ lw_all := lw_g (lw_at lw_m7 154 rfl) rfl
theorem q1659 : (Jvm.Cond.code ({ cls := "RatioGraphModel", name := "cycles", desc := "(I)I" } : Jvm.MethodName) prog_20_method_42_code (5 : Nat) (Option.some Jvm.ClassFile.FieldType.int)) ∈ lw_all := lw_g (lw_at lw_m7 155 rfl) rfl
theorem q1660 : (Jvm.Cond.constantLong "RatioGraphModel" (205 : Nat) (2 : Int64)) ∈ lw_all := lw_g (lw_at lw_m7 156 rfl) rfl
theorem q1662 : (Jvm.Cond.instanceMethod ({ cls := "RatioGraphModel", name := "finding", desc := "(I)I" } : Jvm.MethodName)) ∈ lw_all := lw_g (lw_at lw_m7 158 rfl) rfl
theorem q1663 : (Jvm.Cond.selects "RatioGraphModel" ({ cls := "RatioGraphModel", name := "finding", desc := "(I)I" } : Jvm.MethodName) ({ cls := "RatioGraphModel", name := "finding", desc := "(I)I" } : Jvm.MethodName)) ∈ lw_all := lw_g (lw_at lw_m7 159 rfl) rfl
theorem q1664 : (Jvm.Cond.code ({ cls := "RatioGraphModel", name := "finding", desc := "(I)I" } : Jvm.MethodName) prog_20_method_43_code (2 : Nat) (Option.some Jvm.ClassFile.FieldType.int)) ∈ lw_all := lw_g (lw_at lw_m7 160 rfl) rfl
theorem q1666 : (Jvm.Cond.instanceMethod ({ cls := "RatioGraphModel", name := "value", desc := "(I)J" } : Jvm.MethodName)) ∈ lw_all := lw_g (lw_at lw_m7 162 rfl) rfl
theorem q1667 : (Jvm.Cond.selects "RatioGraphModel" ({ cls := "RatioGraphModel", name := "value", desc := "(I)J" } : Jvm.MethodName) ({ cls := "RatioGraphModel", name := "value", desc := "(I)J" } : Jvm.MethodName)) ∈ lw_all := lw_g (lw_at lw_m7 163 rfl) rfl
theorem q1668 : (Jvm.Cond.code ({ cls := "RatioGraphModel", name := "value", desc := "(I)J" } : Jvm.MethodName) prog_20_method_44_code (2 : Nat) (Option.some Jvm.ClassFile.FieldType.long)) ∈ lw_all := lw_g (lw_at lw_m7 164 rfl) rfl
theorem q1669 : (Jvm.Cond.constantLong "RatioGraphModel" (207 : Nat) (-1000002 : Int64)) ∈ lw_all := lw_g (lw_at lw_m7 165 rfl) rfl
theorem q1670 : (Jvm.Cond.constantLong "RatioGraphModel" (209 : Nat) (-1000003 : Int64)) ∈ lw_all := lw_g (lw_at lw_m7 166 rfl) rfl
theorem q1672 : (Jvm.Cond.instanceMethod ({ cls := "RatioGraphModel", name := "potential", desc := "(I)J" } : Jvm.MethodName)) ∈ lw_all := lw_g (lw_at lw_m7 168 rfl) rfl
theorem q1673 : (Jvm.Cond.selects "RatioGraphModel" ({ cls := "RatioGraphModel", name := "potential", desc := "(I)J" } : Jvm.MethodName) ({ cls := "RatioGraphModel", name := "potential", desc := "(I)J" } : Jvm.MethodName)) ∈ lw_all := lw_g (lw_at lw_m7 169 rfl) rfl
theorem q1674 : (Jvm.Cond.code ({ cls := "RatioGraphModel", name := "potential", desc := "(I)J" } : Jvm.MethodName) prog_20_method_47_code (2 : Nat) (Option.some Jvm.ClassFile.FieldType.long)) ∈ lw_all := lw_g (lw_at lw_m7 170 rfl) rfl
theorem q1675 : (Jvm.Cond.methodLink "RatioGraphModel" (217 : Nat) ({ cls := "RatioGraphModel", name := "laysPotentials", desc := "()Z" } : Jvm.MethodName)) ∈ lw_all := lw_g (lw_at lw_m7 171 rfl) rfl
theorem q1676 : (Jvm.Cond.privateMethod ({ cls := "RatioGraphModel", name := "laysPotentials", desc := "()Z" } : Jvm.MethodName)) ∈ lw_tbl := lw_at lw_m7 172 rfl
theorem q1677 : (Jvm.Cond.instanceMethod ({ cls := "RatioGraphModel", name := "laysPotentials", desc := "()Z" } : Jvm.MethodName)) ∈ lw_all := lw_g (lw_at lw_m7 173 rfl) rfl
theorem q1678 : (Jvm.Cond.code ({ cls := "RatioGraphModel", name := "laysPotentials", desc := "()Z" } : Jvm.MethodName) prog_20_method_46_code (4 : Nat) (Option.some Jvm.ClassFile.FieldType.boolean)) ∈ lw_all := lw_g (lw_at lw_m7 174 rfl) rfl
theorem q1679 : (Jvm.Cond.methodLink "RatioGraphModel" (213 : Nat) ({ cls := "RatioGraphModel", name := "shortens", desc := "(JJJI)Z" } : Jvm.MethodName)) ∈ lw_all := lw_g (lw_at lw_m7 175 rfl) rfl
theorem q1680 : (Jvm.Cond.privateMethod ({ cls := "RatioGraphModel", name := "shortens", desc := "(JJJI)Z" } : Jvm.MethodName)) ∈ lw_tbl := lw_at lw_m7 176 rfl
theorem q1681 : (Jvm.Cond.instanceMethod ({ cls := "RatioGraphModel", name := "shortens", desc := "(JJJI)Z" } : Jvm.MethodName)) ∈ lw_all := lw_g (lw_at lw_m7 177 rfl) rfl
theorem q1682 : (Jvm.Cond.code ({ cls := "RatioGraphModel", name := "shortens", desc := "(JJJI)Z" } : Jvm.MethodName) prog_20_method_45_code (15 : Nat) (Option.some Jvm.ClassFile.FieldType.boolean)) ∈ lw_all := lw_g (lw_at lw_m7 178 rfl) rfl
theorem q1683 : (Jvm.Cond.constantLong "RatioGraphModel" (211 : Nat) (4000000000000000000 : Int64)) ∈ lw_all := lw_g (lw_at lw_m7 179 rfl) rfl
theorem q1684 : (Jvm.Cond.constantLong "RatioGraphModel" (220 : Nat) (-1000001 : Int64)) ∈ lw_all := lw_g (lw_at lw_m7 180 rfl) rfl
theorem q1686 : (Jvm.Cond.instanceMethod ({ cls := "RatioGraphModel", name := "tight", desc := "()I" } : Jvm.MethodName)) ∈ lw_all := lw_g (lw_at lw_m7 182 rfl) rfl
theorem q1687 : (Jvm.Cond.selects "RatioGraphModel" ({ cls := "RatioGraphModel", name := "tight", desc := "()I" } : Jvm.MethodName) ({ cls := "RatioGraphModel", name := "tight", desc := "()I" } : Jvm.MethodName)) ∈ lw_all := lw_g (lw_at lw_m7 183 rfl) rfl
theorem q1688 : (Jvm.Cond.code ({ cls := "RatioGraphModel", name := "tight", desc := "()I" } : Jvm.MethodName) prog_20_method_48_code (6 : Nat) (Option.some Jvm.ClassFile.FieldType.int)) ∈ lw_all := lw_g (lw_at lw_m7 184 rfl) rfl
theorem q1690 : (Jvm.Cond.instanceMethod ({ cls := "RatioGraphModel", name := "mark", desc := "(II)I" } : Jvm.MethodName)) ∈ lw_all := lw_g (lw_at lw_m7 186 rfl) rfl
theorem q1691 : (Jvm.Cond.selects "RatioGraphModel" ({ cls := "RatioGraphModel", name := "mark", desc := "(II)I" } : Jvm.MethodName) ({ cls := "RatioGraphModel", name := "mark", desc := "(II)I" } : Jvm.MethodName)) ∈ lw_all := lw_g (lw_at lw_m7 187 rfl) rfl
theorem q1692 : (Jvm.Cond.code ({ cls := "RatioGraphModel", name := "mark", desc := "(II)I" } : Jvm.MethodName) prog_20_method_49_code (4 : Nat) (Option.some Jvm.ClassFile.FieldType.int)) ∈ lw_all := lw_g (lw_at lw_m7 188 rfl) rfl
theorem q1693 : (Jvm.Cond.constantLong "RatioGraphModel" (222 : Nat) (-100000 : Int64)) ∈ lw_all := lw_g (lw_at lw_m7 189 rfl) rfl
theorem q1694 : (Jvm.Cond.constantLong "RatioGraphModel" (224 : Nat) (100000 : Int64)) ∈ lw_all := lw_g (lw_at lw_m7 190 rfl) rfl
theorem q1696 : (Jvm.Cond.instanceMethod ({ cls := "RatioGraphModel", name := "disproof", desc := "(II)I" } : Jvm.MethodName)) ∈ lw_all := lw_g (lw_at lw_m7 192 rfl) rfl
theorem q1697 : (Jvm.Cond.selects "RatioGraphModel" ({ cls := "RatioGraphModel", name := "disproof", desc := "(II)I" } : Jvm.MethodName) ({ cls := "RatioGraphModel", name := "disproof", desc := "(II)I" } : Jvm.MethodName)) ∈ lw_all := lw_g (lw_at lw_m7 193 rfl) rfl
theorem q1698 : (Jvm.Cond.code ({ cls := "RatioGraphModel", name := "disproof", desc := "(II)I" } : Jvm.MethodName) prog_20_method_50_code (4 : Nat) (Option.some Jvm.ClassFile.FieldType.int)) ∈ lw_all := lw_g (lw_at lw_m7 194 rfl) rfl
theorem q1699 : (Jvm.Cond.constantLong "RatioGraphModel" (226 : Nat) (-9999 : Int64)) ∈ lw_all := lw_g (lw_at lw_m7 195 rfl) rfl
theorem q1700 : (Jvm.Cond.constantLong "RatioGraphModel" (228 : Nat) (9999 : Int64)) ∈ lw_all := lw_g (lw_at lw_m7 196 rfl) rfl
theorem q1702 : (Jvm.Cond.instanceMethod ({ cls := "RatioGraphModel", name := "length", desc := "(IIII)J" } : Jvm.MethodName)) ∈ lw_all := lw_g (lw_at lw_m7 198 rfl) rfl
theorem q1703 : (Jvm.Cond.selects "RatioGraphModel" ({ cls := "RatioGraphModel", name := "length", desc := "(IIII)J" } : Jvm.MethodName) ({ cls := "RatioGraphModel", name := "length", desc := "(IIII)J" } : Jvm.MethodName)) ∈ lw_all := lw_g (lw_at lw_m7 199 rfl) rfl
theorem q1704 : (Jvm.Cond.code ({ cls := "RatioGraphModel", name := "length", desc := "(IIII)J" } : Jvm.MethodName) prog_20_method_54_code (10 : Nat) (Option.some Jvm.ClassFile.FieldType.long)) ∈ lw_all := lw_g (lw_at lw_m7 200 rfl) rfl
theorem q1705 : (Jvm.Cond.constantLong "RatioGraphModel" (237 : Nat) (-999 : Int64)) ∈ lw_all := lw_g (lw_at lw_m7 201 rfl) rfl
theorem q1706 : (Jvm.Cond.constantLong "RatioGraphModel" (239 : Nat) (999 : Int64)) ∈ lw_all := lw_g (lw_at lw_m7 202 rfl) rfl
theorem q1707 : (Jvm.Cond.methodLink "RatioGraphModel" (241 : Nat) ({ cls := "RatioGraphModel", name := "isUnbounded", desc := "(IIJJ)Z" } : Jvm.MethodName)) ∈ lw_all := lw_g (lw_at lw_m7 203 rfl) rfl
theorem q1708 : (Jvm.Cond.privateMethod ({ cls := "RatioGraphModel", name := "isUnbounded", desc := "(IIJJ)Z" } : Jvm.MethodName)) ∈ lw_tbl := lw_at lw_m7 204 rfl
theorem q1709 : (Jvm.Cond.instanceMethod ({ cls := "RatioGraphModel", name := "isUnbounded", desc := "(IIJJ)Z" } : Jvm.MethodName)) ∈ lw_all := lw_g (lw_at lw_m7 205 rfl) rfl
theorem q1710 : (Jvm.Cond.code ({ cls := "RatioGraphModel", name := "isUnbounded", desc := "(IIJJ)Z" } : Jvm.MethodName) prog_20_method_53_code (9 : Nat) (Option.some Jvm.ClassFile.FieldType.boolean)) ∈ lw_all := lw_g (lw_at lw_m7 206 rfl) rfl
theorem q1711 : (Jvm.Cond.methodLink "RatioGraphModel" (234 : Nat) ({ cls := "RatioGraphModel", name := "leads", desc := "(II)Z" } : Jvm.MethodName)) ∈ lw_all := lw_g (lw_at lw_m7 207 rfl) rfl
theorem q1712 : (Jvm.Cond.privateMethod ({ cls := "RatioGraphModel", name := "leads", desc := "(II)Z" } : Jvm.MethodName)) ∈ lw_tbl := lw_at lw_m7 208 rfl
theorem q1713 : (Jvm.Cond.instanceMethod ({ cls := "RatioGraphModel", name := "leads", desc := "(II)Z" } : Jvm.MethodName)) ∈ lw_all := lw_g (lw_at lw_m7 209 rfl) rfl
theorem q1714 : (Jvm.Cond.code ({ cls := "RatioGraphModel", name := "leads", desc := "(II)Z" } : Jvm.MethodName) prog_20_method_52_code (3 : Nat) (Option.some Jvm.ClassFile.FieldType.boolean)) ∈ lw_all := lw_g (lw_at lw_m7 210 rfl) rfl
theorem q1715 : (Jvm.Cond.methodLink "RatioGraphModel" (230 : Nat) ({ cls := "RatioGraphModel", name := "reached", desc := "(I)I" } : Jvm.MethodName)) ∈ lw_all := lw_g (lw_at lw_m7 211 rfl) rfl
theorem q1716 : (Jvm.Cond.privateMethod ({ cls := "RatioGraphModel", name := "reached", desc := "(I)I" } : Jvm.MethodName)) ∈ lw_tbl := lw_at lw_m7 212 rfl
theorem q1717 : (Jvm.Cond.instanceMethod ({ cls := "RatioGraphModel", name := "reached", desc := "(I)I" } : Jvm.MethodName)) ∈ lw_all := lw_g (lw_at lw_m7 213 rfl) rfl
theorem q1718 : (Jvm.Cond.code ({ cls := "RatioGraphModel", name := "reached", desc := "(I)I" } : Jvm.MethodName) prog_20_method_51_code (5 : Nat) (Option.some Jvm.ClassFile.FieldType.int)) ∈ lw_all := lw_g (lw_at lw_m7 214 rfl) rfl
theorem q1719 : (Jvm.Cond.constantLong "RatioGraphModel" (245 : Nat) (-1000005 : Int64)) ∈ lw_all := lw_g (lw_at lw_m7 215 rfl) rfl
theorem q1721 : (Jvm.Cond.instanceMethod ({ cls := "RatioGraphModel", name := "pieces", desc := "(IIII)I" } : Jvm.MethodName)) ∈ lw_all := lw_g (lw_at lw_m7 217 rfl) rfl
theorem q1722 : (Jvm.Cond.selects "RatioGraphModel" ({ cls := "RatioGraphModel", name := "pieces", desc := "(IIII)I" } : Jvm.MethodName) ({ cls := "RatioGraphModel", name := "pieces", desc := "(IIII)I" } : Jvm.MethodName)) ∈ lw_all := lw_g (lw_at lw_m7 218 rfl) rfl
theorem q1723 : (Jvm.Cond.code ({ cls := "RatioGraphModel", name := "pieces", desc := "(IIII)I" } : Jvm.MethodName) prog_20_method_58_code (6 : Nat) (Option.some Jvm.ClassFile.FieldType.int)) ∈ lw_all := lw_g (lw_at lw_m7 219 rfl) rfl
theorem q1724 : (Jvm.Cond.constantLong "RatioGraphModel" (259 : Nat) (-50 : Int64)) ∈ lw_all := lw_g (lw_at lw_m7 220 rfl) rfl
theorem q1725 : (Jvm.Cond.constantLong "RatioGraphModel" (261 : Nat) (49 : Int64)) ∈ lw_all := lw_g (lw_at lw_m7 221 rfl) rfl
theorem q1726 : (Jvm.Cond.constantLong "RatioGraphModel" (263 : Nat) (50 : Int64)) ∈ lw_all := lw_g (lw_at lw_m7 222 rfl) rfl
theorem q1727 : (Jvm.Cond.constant "RatioGraphModel" (265 : Nat) (-1000005 : Int32)) ∈ lw_all := lw_g (lw_at lw_m7 223 rfl) rfl
theorem q1728 : (Jvm.Cond.methodLink "RatioGraphModel" (266 : Nat) ({ cls := "RatioGraphModel", name := "firstLine", desc := "(III)Z" } : Jvm.MethodName)) ∈ lw_all := lw_g (lw_at lw_m7 224 rfl) rfl
theorem q1729 : (Jvm.Cond.privateMethod ({ cls := "RatioGraphModel", name := "firstLine", desc := "(III)Z" } : Jvm.MethodName)) ∈ lw_tbl := lw_at lw_m7 225 rfl
theorem q1730 : (Jvm.Cond.instanceMethod ({ cls := "RatioGraphModel", name := "firstLine", desc := "(III)Z" } : Jvm.MethodName)) ∈ lw_all := lw_g (lw_at lw_m7 226 rfl) rfl
theorem q1731 : (Jvm.Cond.code ({ cls := "RatioGraphModel", name := "firstLine", desc := "(III)Z" } : Jvm.MethodName) prog_20_method_55_code (12 : Nat) (Option.some Jvm.ClassFile.FieldType.boolean)) ∈ lw_all := lw_g (lw_at lw_m7 227 rfl) rfl
theorem q1732 : (Jvm.Cond.methodLink "RatioGraphModel" (270 : Nat) ({ cls := "RatioGraphModel", name := "lays", desc := "(IJJ)V" } : Jvm.MethodName)) ∈ lw_all := lw_g (lw_at lw_m7 228 rfl) rfl
theorem q1733 : (Jvm.Cond.privateMethod ({ cls := "RatioGraphModel", name := "lays", desc := "(IJJ)V" } : Jvm.MethodName)) ∈ lw_tbl := lw_at lw_m7 229 rfl
theorem q1734 : (Jvm.Cond.instanceMethod ({ cls := "RatioGraphModel", name := "lays", desc := "(IJJ)V" } : Jvm.MethodName)) ∈ lw_all := lw_g (lw_at lw_m7 230 rfl) rfl
theorem q1735 : (Jvm.Cond.code ({ cls := "RatioGraphModel", name := "lays", desc := "(IJJ)V" } : Jvm.MethodName) prog_20_method_57_code (8 : Nat) (Option.none : Option Jvm.ClassFile.FieldType)) ∈ lw_all := lw_g (lw_at lw_m7 231 rfl) rfl
theorem q1736 : (Jvm.Cond.methodLink "RatioGraphModel" (274 : Nat) ({ cls := "RatioGraphModel", name := "nextLine", desc := "(II)Z" } : Jvm.MethodName)) ∈ lw_all := lw_g (lw_at lw_m7 232 rfl) rfl
theorem q1737 : (Jvm.Cond.privateMethod ({ cls := "RatioGraphModel", name := "nextLine", desc := "(II)Z" } : Jvm.MethodName)) ∈ lw_tbl := lw_at lw_m7 233 rfl
theorem q1738 : (Jvm.Cond.instanceMethod ({ cls := "RatioGraphModel", name := "nextLine", desc := "(II)Z" } : Jvm.MethodName)) ∈ lw_all := lw_g (lw_at lw_m7 234 rfl) rfl
theorem q1739 : (Jvm.Cond.code ({ cls := "RatioGraphModel", name := "nextLine", desc := "(II)Z" } : Jvm.MethodName) prog_20_method_56_code (14 : Nat) (Option.some Jvm.ClassFile.FieldType.boolean)) ∈ lw_all := lw_g (lw_at lw_m7 235 rfl) rfl
theorem q1741 : (Jvm.Cond.instanceMethod ({ cls := "RatioGraphModel", name := "piece", desc := "(II)J" } : Jvm.MethodName)) ∈ lw_all := lw_g (lw_at lw_m7 237 rfl) rfl
theorem q1742 : (Jvm.Cond.selects "RatioGraphModel" ({ cls := "RatioGraphModel", name := "piece", desc := "(II)J" } : Jvm.MethodName) ({ cls := "RatioGraphModel", name := "piece", desc := "(II)J" } : Jvm.MethodName)) ∈ lw_all := lw_g (lw_at lw_m7 238 rfl) rfl
theorem q1743 : (Jvm.Cond.code ({ cls := "RatioGraphModel", name := "piece", desc := "(II)J" } : Jvm.MethodName) prog_20_method_59_code (3 : Nat) (Option.some Jvm.ClassFile.FieldType.long)) ∈ lw_all := lw_g (lw_at lw_m7 239 rfl) rfl
theorem q1744 : (Jvm.Cond.constantLong "RatioGraphModel" (284 : Nat) (3 : Int64)) ∈ lw_all := lw_g (lw_at lw_m8 0 rfl) rfl
theorem q1746 : (Jvm.Cond.instanceMethod ({ cls := "RatioGraphModel", name := "feasible", desc := "(I)J" } : Jvm.MethodName)) ∈ lw_all := lw_g (lw_at lw_m8 2 rfl) rfl
theorem q1747 : (Jvm.Cond.selects "RatioGraphModel" ({ cls := "RatioGraphModel", name := "feasible", desc := "(I)J" } : Jvm.MethodName) ({ cls := "RatioGraphModel", name := "feasible", desc := "(I)J" } : Jvm.MethodName)) ∈ lw_all := lw_g (lw_at lw_m8 3 rfl) rfl
theorem q1748 : (Jvm.Cond.code ({ cls := "RatioGraphModel", name := "feasible", desc := "(I)J" } : Jvm.MethodName) prog_20_method_61_code (4 : Nat) (Option.some Jvm.ClassFile.FieldType.long)) ∈ lw_all := lw_g (lw_at lw_m8 4 rfl) rfl
theorem q1749 : (Jvm.Cond.methodLink "RatioGraphModel" (307 : Nat) ({ cls := "RatioGraphModel", name := "bounds", desc := "(JJ)V" } : Jvm.MethodName)) ∈ lw_all := lw_g (lw_at lw_m8 5 rfl) rfl
theorem q1750 : (Jvm.Cond.privateMethod ({ cls := "RatioGraphModel", name := "bounds", desc := "(JJ)V" } : Jvm.MethodName)) ∈ lw_tbl := lw_at lw_m8 6 rfl
theorem q1751 : (Jvm.Cond.instanceMethod ({ cls := "RatioGraphModel", name := "bounds", desc := "(JJ)V" } : Jvm.MethodName)) ∈ lw_all := lw_g (lw_at lw_m8 7 rfl) rfl
theorem q1752 : (Jvm.Cond.code ({ cls := "RatioGraphModel", name := "bounds", desc := "(JJ)V" } : Jvm.MethodName) prog_20_method_60_code (5 : Nat) (Option.none : Option Jvm.ClassFile.FieldType)) ∈ lw_all := lw_g (lw_at lw_m8 8 rfl) rfl
theorem q1754 : (Jvm.Cond.instanceMethod ({ cls := "RatioGraphModel", name := "convert", desc := "(II)I" } : Jvm.MethodName)) ∈ lw_all := lw_g (lw_at lw_m8 10 rfl) rfl
theorem q1755 : (Jvm.Cond.selects "RatioGraphModel" ({ cls := "RatioGraphModel", name := "convert", desc := "(II)I" } : Jvm.MethodName) ({ cls := "RatioGraphModel", name := "convert", desc := "(II)I" } : Jvm.MethodName)) ∈ lw_all := lw_g (lw_at lw_m8 11 rfl) rfl
theorem q1756 : (Jvm.Cond.code ({ cls := "RatioGraphModel", name := "convert", desc := "(II)I" } : Jvm.MethodName) prog_20_method_62_code (4 : Nat) (Option.some Jvm.ClassFile.FieldType.int)) ∈ lw_all := lw_g (lw_at lw_m8 12 rfl) rfl
theorem q1758 : (Jvm.Cond.instanceMethod ({ cls := "RatioGraphModel", name := "count", desc := "(I)I" } : Jvm.MethodName)) ∈ lw_all := lw_g (lw_at lw_m8 14 rfl) rfl
theorem q1759 : (Jvm.Cond.selects "RatioGraphModel" ({ cls := "RatioGraphModel", name := "count", desc := "(I)I" } : Jvm.MethodName) ({ cls := "RatioGraphModel", name := "count", desc := "(I)I" } : Jvm.MethodName)) ∈ lw_all := lw_g (lw_at lw_m8 15 rfl) rfl
theorem q1760 : (Jvm.Cond.code ({ cls := "RatioGraphModel", name := "count", desc := "(I)I" } : Jvm.MethodName) prog_20_method_65_code (2 : Nat) (Option.some Jvm.ClassFile.FieldType.int)) ∈ lw_all := lw_g (lw_at lw_m8 16 rfl) rfl
theorem q1761 : (Jvm.Cond.methodLink "RatioGraphModel" (311 : Nat) ({ cls := "RatioGraphModel", name := "weights", desc := "()I" } : Jvm.MethodName)) ∈ lw_all := lw_g (lw_at lw_m8 17 rfl) rfl
theorem q1762 : (Jvm.Cond.privateMethod ({ cls := "RatioGraphModel", name := "weights", desc := "()I" } : Jvm.MethodName)) ∈ lw_tbl := lw_at lw_m8 18 rfl
theorem q1763 : (Jvm.Cond.instanceMethod ({ cls := "RatioGraphModel", name := "weights", desc := "()I" } : Jvm.MethodName)) ∈ lw_all := lw_g (lw_at lw_m8 19 rfl) rfl
theorem q1764 : (Jvm.Cond.code ({ cls := "RatioGraphModel", name := "weights", desc := "()I" } : Jvm.MethodName) prog_20_method_63_code (3 : Nat) (Option.some Jvm.ClassFile.FieldType.int)) ∈ lw_all := lw_g (lw_at lw_m8 20 rfl) rfl
theorem q1765 : (Jvm.Cond.methodLink "RatioGraphModel" (314 : Nat) ({ cls := "RatioGraphModel", name := "pairs", desc := "()I" } : Jvm.MethodName)) ∈ lw_all := lw_g (lw_at lw_m8 21 rfl) rfl
theorem q1766 : (Jvm.Cond.privateMethod ({ cls := "RatioGraphModel", name := "pairs", desc := "()I" } : Jvm.MethodName)) ∈ lw_tbl := lw_at lw_m8 22 rfl
theorem q1767 : (Jvm.Cond.instanceMethod ({ cls := "RatioGraphModel", name := "pairs", desc := "()I" } : Jvm.MethodName)) ∈ lw_all := lw_g (lw_at lw_m8 23 rfl) rfl
theorem q1768 : (Jvm.Cond.code ({ cls := "RatioGraphModel", name := "pairs", desc := "()I" } : Jvm.MethodName) prog_20_method_64_code (5 : Nat) (Option.some Jvm.ClassFile.FieldType.int)) ∈ lw_all := lw_g (lw_at lw_m8 24 rfl) rfl
theorem q1770 : (Jvm.Cond.instanceMethod ({ cls := "RatioGraphModel", name := "digest", desc := "()J" } : Jvm.MethodName)) ∈ lw_all := lw_g (lw_at lw_m8 26 rfl) rfl
theorem q1771 : (Jvm.Cond.selects "RatioGraphModel" ({ cls := "RatioGraphModel", name := "digest", desc := "()J" } : Jvm.MethodName) ({ cls := "RatioGraphModel", name := "digest", desc := "()J" } : Jvm.MethodName)) ∈ lw_all := lw_g (lw_at lw_m8 27 rfl) rfl
theorem q1772 : (Jvm.Cond.code ({ cls := "RatioGraphModel", name := "digest", desc := "()J" } : Jvm.MethodName) prog_20_method_67_code (2 : Nat) (Option.some Jvm.ClassFile.FieldType.long)) ∈ lw_all := lw_g (lw_at lw_m8 28 rfl) rfl
theorem q1773 : (Jvm.Cond.constantLong "RatioGraphModel" (322 : Nat) (83 : Int64)) ∈ lw_all := lw_g (lw_at lw_m8 29 rfl) rfl
theorem q1774 : (Jvm.Cond.methodLink "RatioGraphModel" (324 : Nat) ({ cls := "RatioGraphModel", name := "count", desc := "(I)I" } : Jvm.MethodName)) ∈ lw_all := lw_g (lw_at lw_m8 30 rfl) rfl
theorem q1775 : (Jvm.Cond.methodLink "RatioGraphModel" (327 : Nat) ({ cls := "RatioGraphModel", name := "mixes", desc := "(J)V" } : Jvm.MethodName)) ∈ lw_all := lw_g (lw_at lw_m8 31 rfl) rfl
theorem q1776 : (Jvm.Cond.privateMethod ({ cls := "RatioGraphModel", name := "mixes", desc := "(J)V" } : Jvm.MethodName)) ∈ lw_tbl := lw_at lw_m8 32 rfl
theorem q1777 : (Jvm.Cond.instanceMethod ({ cls := "RatioGraphModel", name := "mixes", desc := "(J)V" } : Jvm.MethodName)) ∈ lw_all := lw_g (lw_at lw_m8 33 rfl) rfl
theorem q1778 : (Jvm.Cond.code ({ cls := "RatioGraphModel", name := "mixes", desc := "(J)V" } : Jvm.MethodName) prog_20_method_66_code (3 : Nat) (Option.none : Option Jvm.ClassFile.FieldType)) ∈ lw_all := lw_g (lw_at lw_m8 34 rfl) rfl
theorem q1779 : (Jvm.Cond.constantLong "RatioGraphModel" (317 : Nat) (31 : Int64)) ∈ lw_all := lw_g (lw_at lw_m8 35 rfl) rfl
theorem q1780 : (Jvm.Cond.methodLink "RatioGraphModel" (331 : Nat) ({ cls := "RatioGraphModel", name := "potential", desc := "(I)J" } : Jvm.MethodName)) ∈ lw_all := lw_g (lw_at lw_m8 36 rfl) rfl
theorem q1781 : (Jvm.Cond.methodLink "RatioGraphModel" (334 : Nat) ({ cls := "RatioGraphModel", name := "tight", desc := "()I" } : Jvm.MethodName)) ∈ lw_all := lw_g (lw_at lw_m8 37 rfl) rfl
theorem q1782 : (Jvm.Cond.methodLink "RatioGraphModel" (337 : Nat) ({ cls := "RatioGraphModel", name := "cycles", desc := "(I)I" } : Jvm.MethodName)) ∈ lw_all := lw_g (lw_at lw_m8 38 rfl) rfl
theorem q1783 : (Jvm.Cond.methodLink "RatioGraphModel" (340 : Nat) ({ cls := "RatioGraphModel", name := "feasible", desc := "(I)J" } : Jvm.MethodName)) ∈ lw_all := lw_g (lw_at lw_m8 39 rfl) rfl
theorem q1798 : (Jvm.Cond.castable "RatioGraphModel" "java/lang/Object") ∈ lw_tbl := lw_at lw_m8 54 rfl
theorem in_X1 : ∀ w ∈ wsX10, w ∈ lw_all := lw_in wsX10 [1409, 1411, 1413, 1415, 1417, 1419, 1421, 1423, 1425, 1427, 1429, 1431, 1433, 1435, 1437, 1439, 1441, 1443, 1445, 1447, 1449, 1451, 1453, 1455, 1457, 1459, 1461, 1463, 1465, 1467, 1469, 1471, 1473, 1475, 1477, 1479, 1481, 1483, 1485] (by decide +kernel) (by decide +kernel)
