/-! SiteCutsModel -/
set_option maxRecDepth 100000
def RX3 : String := "SiteCutsModel"
def TX3 : u_T := fun k => match k with
  | 0 => ("SiteCutsModel", "row", "[I", true)
  | 1 => ("SiteCutsModel", "past", "[I", true)
  | 2 => ("SiteCutsModel", "aside", "[I", true)
  | 3 => ("SiteCutsModel", "before", "[I", true)
  | 4 => ("SiteCutsModel", "states", "I", false)
  | 5 => ("SiteCutsModel", "isAside", "Z", false)
  | 6 => ("SiteCutsModel", "text", "[C", true)
  | 7 => ("SiteCutsModel", "length", "I", false)
  | 8 => ("SiteCutsModel", "at", "I", false)
  | _ => ("SiteCutsModel", "read", "[I", true)
def tyX3 : Nat → FieldType := fun k => match k with
  | 0 => .array .int
  | 1 => .array .int
  | 2 => .array .int
  | 3 => .array .int
  | 4 => .int
  | 5 => .boolean
  | 6 => .array .char
  | 7 => .int
  | 8 => .int
  | _ => .array .int
abbrev wsX30 : List Cond := u_ws RX3 TX3 10
theorem nmX3 : ∀ a, a < 10 → ∀ b, b < 10 → a ≠ b → (TX3 a).2.1 ≠ (TX3 b).2.1 := by decide +kernel
theorem tyX3_ok : ∀ k, k < 10 → parseFieldDescriptor (TX3 k).2.2.1 = some (tyX3 k) := by decide +kernel
abbrev cX3_init : ByteArray := prog_18_method_1_code
def yX3_init : MethodName := ⟨RX3, "<init>", "()V"⟩
def dkwX3_init_4 : List UInt8 := [132, 1, 1, 167, 255, 236, 177]
abbrev dktX3_init_4 : List UInt8 := dkwX3_init_4 ++ []
def dkwX3_init_3 : List UInt8 := [16, 251, 79, 3, 60, 27, 16, 56, 162, 0, 20, 42, 180, 0, 7, 16, 21, 27, 96, 16, 100, 79]
abbrev dktX3_init_3 : List UInt8 := dkwX3_init_3 ++ dktX3_init_4
def dkwX3_init_2 : List UInt8 := [181, 0, 22, 42, 16, 8, 188, 10, 181, 0, 26, 42, 180, 0, 7, 5, 16, 7, 79, 42, 180, 0, 7, 7]
abbrev dktX3_init_2 : List UInt8 := dkwX3_init_2 ++ dktX3_init_3
def dkwX3_init_1 : List UInt8 := [17, 1, 188, 188, 10, 181, 0, 16, 42, 17, 1, 188, 188, 10, 181, 0, 19, 42, 16, 60, 188, 5]
abbrev dktX3_init_1 : List UInt8 := dkwX3_init_1 ++ dktX3_init_2
def dkwX3_init_0 : List UInt8 := [42, 183, 0, 1, 42, 17, 1, 188, 188, 10, 181, 0, 7, 42, 17, 6, 240, 188, 10, 181, 0, 13, 42]
abbrev dktX3_init_0 : List UInt8 := dkwX3_init_0 ++ dktX3_init_1
theorem dksX3_init_0 : cX3_init.data.toList.drop 0 = dktX3_init_0 := by decide +kernel
theorem dksX3_init_1 : cX3_init.data.toList.drop 23 = dktX3_init_1 := dk_seg dksX3_init_0 23 rfl rfl
theorem dksX3_init_2 : cX3_init.data.toList.drop 45 = dktX3_init_2 := dk_seg dksX3_init_1 22 rfl rfl
theorem dksX3_init_3 : cX3_init.data.toList.drop 69 = dktX3_init_3 := dk_seg dksX3_init_2 24 rfl rfl
theorem dksX3_init_4 : cX3_init.data.toList.drop 91 = dktX3_init_4 := dk_seg dksX3_init_3 22 rfl rfl
theorem dX3_init_0 : decode cX3_init 0 = .ok (.aload_n 0, 1) := dk_42 (dk_at dksX3_init_0 0 rfl rfl)
theorem dX3_init_1 : decode cX3_init 1 = .ok (.invokespecial 1, 3) := dk_183 0 1 (dk_at dksX3_init_0 1 rfl rfl)
theorem dX3_init_4 : decode cX3_init 4 = .ok (.aload_n 0, 1) := dk_42 (dk_at dksX3_init_0 4 rfl rfl)
theorem dX3_init_5 : decode cX3_init 5 = .ok (.sipush 444, 3) := dk_17 1 188 (dk_at dksX3_init_0 5 rfl rfl)
theorem dX3_init_8 : decode cX3_init 8 = .ok (.newarray .int, 2) := dk_188_10 (dk_at dksX3_init_0 8 rfl rfl)
theorem dX3_init_10 : decode cX3_init 10 = .ok (.putfield 7, 3) := dk_181 0 7 (dk_at dksX3_init_0 10 rfl rfl)
theorem dX3_init_13 : decode cX3_init 13 = .ok (.aload_n 0, 1) := dk_42 (dk_at dksX3_init_0 13 rfl rfl)
theorem dX3_init_14 : decode cX3_init 14 = .ok (.sipush 1776, 3) := dk_17 6 240 (dk_at dksX3_init_0 14 rfl rfl)
theorem dX3_init_17 : decode cX3_init 17 = .ok (.newarray .int, 2) := dk_188_10 (dk_at dksX3_init_0 17 rfl rfl)
theorem dX3_init_19 : decode cX3_init 19 = .ok (.putfield 13, 3) := dk_181 0 13 (dk_at dksX3_init_0 19 rfl rfl)
theorem dX3_init_22 : decode cX3_init 22 = .ok (.aload_n 0, 1) := dk_42 (dk_at dksX3_init_0 22 rfl rfl)
theorem dX3_init_23 : decode cX3_init 23 = .ok (.sipush 444, 3) := dk_17 1 188 (dk_at dksX3_init_1 0 rfl rfl)
theorem dX3_init_26 : decode cX3_init 26 = .ok (.newarray .int, 2) := dk_188_10 (dk_at dksX3_init_1 3 rfl rfl)
theorem dX3_init_28 : decode cX3_init 28 = .ok (.putfield 16, 3) := dk_181 0 16 (dk_at dksX3_init_1 5 rfl rfl)
theorem dX3_init_31 : decode cX3_init 31 = .ok (.aload_n 0, 1) := dk_42 (dk_at dksX3_init_1 8 rfl rfl)
theorem dX3_init_32 : decode cX3_init 32 = .ok (.sipush 444, 3) := dk_17 1 188 (dk_at dksX3_init_1 9 rfl rfl)
theorem dX3_init_35 : decode cX3_init 35 = .ok (.newarray .int, 2) := dk_188_10 (dk_at dksX3_init_1 12 rfl rfl)
theorem dX3_init_37 : decode cX3_init 37 = .ok (.putfield 19, 3) := dk_181 0 19 (dk_at dksX3_init_1 14 rfl rfl)
theorem dX3_init_40 : decode cX3_init 40 = .ok (.aload_n 0, 1) := dk_42 (dk_at dksX3_init_1 17 rfl rfl)
theorem dX3_init_41 : decode cX3_init 41 = .ok (.bipush 60, 2) := dk_16 60 (dk_at dksX3_init_1 18 rfl rfl)
theorem dX3_init_43 : decode cX3_init 43 = .ok (.newarray .char, 2) := dk_188_5 (dk_at dksX3_init_1 20 rfl rfl)
theorem dX3_init_45 : decode cX3_init 45 = .ok (.putfield 22, 3) := dk_181 0 22 (dk_at dksX3_init_2 0 rfl rfl)
theorem dX3_init_48 : decode cX3_init 48 = .ok (.aload_n 0, 1) := dk_42 (dk_at dksX3_init_2 3 rfl rfl)
theorem dX3_init_49 : decode cX3_init 49 = .ok (.bipush 8, 2) := dk_16 8 (dk_at dksX3_init_2 4 rfl rfl)
theorem dX3_init_51 : decode cX3_init 51 = .ok (.newarray .int, 2) := dk_188_10 (dk_at dksX3_init_2 6 rfl rfl)
theorem dX3_init_53 : decode cX3_init 53 = .ok (.putfield 26, 3) := dk_181 0 26 (dk_at dksX3_init_2 8 rfl rfl)
theorem dX3_init_56 : decode cX3_init 56 = .ok (.aload_n 0, 1) := dk_42 (dk_at dksX3_init_2 11 rfl rfl)
theorem dX3_init_57 : decode cX3_init 57 = .ok (.getfield 7, 3) := dk_180 0 7 (dk_at dksX3_init_2 12 rfl rfl)
theorem dX3_init_60 : decode cX3_init 60 = .ok (.iconst 2, 1) := dk_5 (dk_at dksX3_init_2 15 rfl rfl)
theorem dX3_init_61 : decode cX3_init 61 = .ok (.bipush 7, 2) := dk_16 7 (dk_at dksX3_init_2 16 rfl rfl)
theorem dX3_init_63 : decode cX3_init 63 = .ok (.iastore, 1) := dk_79 (dk_at dksX3_init_2 18 rfl rfl)
theorem dX3_init_64 : decode cX3_init 64 = .ok (.aload_n 0, 1) := dk_42 (dk_at dksX3_init_2 19 rfl rfl)
theorem dX3_init_65 : decode cX3_init 65 = .ok (.getfield 7, 3) := dk_180 0 7 (dk_at dksX3_init_2 20 rfl rfl)
theorem dX3_init_68 : decode cX3_init 68 = .ok (.iconst 4, 1) := dk_7 (dk_at dksX3_init_2 23 rfl rfl)
theorem dX3_init_69 : decode cX3_init 69 = .ok (.bipush (-5), 2) := dk_16 251 (dk_at dksX3_init_3 0 rfl rfl)
theorem dX3_init_71 : decode cX3_init 71 = .ok (.iastore, 1) := dk_79 (dk_at dksX3_init_3 2 rfl rfl)
theorem dX3_init_72 : decode cX3_init 72 = .ok (.iconst 0, 1) := dk_3 (dk_at dksX3_init_3 3 rfl rfl)
theorem dX3_init_73 : decode cX3_init 73 = .ok (.istore_n 1, 1) := dk_60 (dk_at dksX3_init_3 4 rfl rfl)
theorem dX3_init_74 : decode cX3_init 74 = .ok (.iload_n 1, 1) := dk_27 (dk_at dksX3_init_3 5 rfl rfl)
theorem dX3_init_75 : decode cX3_init 75 = .ok (.bipush 56, 2) := dk_16 56 (dk_at dksX3_init_3 6 rfl rfl)
theorem dX3_init_77 : decode cX3_init 77 = .ok (.if_icmp .ge 20, 3) := dk_162 0 20 (dk_at dksX3_init_3 8 rfl rfl)
theorem dX3_init_80 : decode cX3_init 80 = .ok (.aload_n 0, 1) := dk_42 (dk_at dksX3_init_3 11 rfl rfl)
theorem dX3_init_81 : decode cX3_init 81 = .ok (.getfield 7, 3) := dk_180 0 7 (dk_at dksX3_init_3 12 rfl rfl)
theorem dX3_init_84 : decode cX3_init 84 = .ok (.bipush 21, 2) := dk_16 21 (dk_at dksX3_init_3 15 rfl rfl)
theorem dX3_init_86 : decode cX3_init 86 = .ok (.iload_n 1, 1) := dk_27 (dk_at dksX3_init_3 17 rfl rfl)
theorem dX3_init_87 : decode cX3_init 87 = .ok (.iadd, 1) := dk_96 (dk_at dksX3_init_3 18 rfl rfl)
theorem dX3_init_88 : decode cX3_init 88 = .ok (.bipush 100, 2) := dk_16 100 (dk_at dksX3_init_3 19 rfl rfl)
theorem dX3_init_90 : decode cX3_init 90 = .ok (.iastore, 1) := dk_79 (dk_at dksX3_init_3 21 rfl rfl)
theorem dX3_init_91 : decode cX3_init 91 = .ok (.iinc 1 1, 3) := dk_132 1 1 (dk_at dksX3_init_4 0 rfl rfl)
theorem dX3_init_94 : decode cX3_init 94 = .ok (.goto (-20), 3) := dk_167 255 236 (dk_at dksX3_init_4 3 rfl rfl)
theorem dX3_init_97 : decode cX3_init 97 = .ok (.return_, 1) := dk_177 (dk_at dksX3_init_4 6 rfl rfl)
abbrev cX3_undo : ByteArray := prog_18_method_9_code
def yX3_undo : MethodName := ⟨RX3, "undo", "()I"⟩
def dkwX3_undo_2 : List UInt8 := [96, 46, 79, 132, 1, 1, 167, 255, 225, 42, 180, 0, 29, 172]
abbrev dktX3_undo_2 : List UInt8 := dkwX3_undo_2 ++ []
def dkwX3_undo_1 : List UInt8 := [17, 1, 188, 162, 0, 30, 42, 180, 0, 7, 27, 42, 180, 0, 13, 17, 1, 188, 42, 180, 0, 29, 104, 27]
abbrev dktX3_undo_1 : List UInt8 := dkwX3_undo_1 ++ dktX3_undo_2
def dkwX3_undo_0 : List UInt8 := [42, 180, 0, 29, 154, 0, 6, 16, 251, 172, 42, 89, 180, 0, 29, 4, 100, 181, 0, 29, 3, 60, 27]
abbrev dktX3_undo_0 : List UInt8 := dkwX3_undo_0 ++ dktX3_undo_1
theorem dksX3_undo_0 : cX3_undo.data.toList.drop 0 = dktX3_undo_0 := by decide +kernel
theorem dksX3_undo_1 : cX3_undo.data.toList.drop 23 = dktX3_undo_1 := dk_seg dksX3_undo_0 23 rfl rfl
theorem dksX3_undo_2 : cX3_undo.data.toList.drop 47 = dktX3_undo_2 := dk_seg dksX3_undo_1 24 rfl rfl
theorem dX3_undo_0 : decode cX3_undo 0 = .ok (.aload_n 0, 1) := dk_42 (dk_at dksX3_undo_0 0 rfl rfl)
theorem dX3_undo_1 : decode cX3_undo 1 = .ok (.getfield 29, 3) := dk_180 0 29 (dk_at dksX3_undo_0 1 rfl rfl)
theorem dX3_undo_4 : decode cX3_undo 4 = .ok (.ifCond .ne 6, 3) := dk_154 0 6 (dk_at dksX3_undo_0 4 rfl rfl)
theorem dX3_undo_7 : decode cX3_undo 7 = .ok (.bipush (-5), 2) := dk_16 251 (dk_at dksX3_undo_0 7 rfl rfl)
theorem dX3_undo_9 : decode cX3_undo 9 = .ok (.ireturn, 1) := dk_172 (dk_at dksX3_undo_0 9 rfl rfl)
theorem dX3_undo_10 : decode cX3_undo 10 = .ok (.aload_n 0, 1) := dk_42 (dk_at dksX3_undo_0 10 rfl rfl)
theorem dX3_undo_11 : decode cX3_undo 11 = .ok (.dup, 1) := dk_89 (dk_at dksX3_undo_0 11 rfl rfl)
theorem dX3_undo_12 : decode cX3_undo 12 = .ok (.getfield 29, 3) := dk_180 0 29 (dk_at dksX3_undo_0 12 rfl rfl)
theorem dX3_undo_15 : decode cX3_undo 15 = .ok (.iconst 1, 1) := dk_4 (dk_at dksX3_undo_0 15 rfl rfl)
theorem dX3_undo_16 : decode cX3_undo 16 = .ok (.isub, 1) := dk_100 (dk_at dksX3_undo_0 16 rfl rfl)
theorem dX3_undo_17 : decode cX3_undo 17 = .ok (.putfield 29, 3) := dk_181 0 29 (dk_at dksX3_undo_0 17 rfl rfl)
theorem dX3_undo_20 : decode cX3_undo 20 = .ok (.iconst 0, 1) := dk_3 (dk_at dksX3_undo_0 20 rfl rfl)
theorem dX3_undo_21 : decode cX3_undo 21 = .ok (.istore_n 1, 1) := dk_60 (dk_at dksX3_undo_0 21 rfl rfl)
theorem dX3_undo_22 : decode cX3_undo 22 = .ok (.iload_n 1, 1) := dk_27 (dk_at dksX3_undo_0 22 rfl rfl)
theorem dX3_undo_23 : decode cX3_undo 23 = .ok (.sipush 444, 3) := dk_17 1 188 (dk_at dksX3_undo_1 0 rfl rfl)
theorem dX3_undo_26 : decode cX3_undo 26 = .ok (.if_icmp .ge 30, 3) := dk_162 0 30 (dk_at dksX3_undo_1 3 rfl rfl)
theorem dX3_undo_29 : decode cX3_undo 29 = .ok (.aload_n 0, 1) := dk_42 (dk_at dksX3_undo_1 6 rfl rfl)
theorem dX3_undo_30 : decode cX3_undo 30 = .ok (.getfield 7, 3) := dk_180 0 7 (dk_at dksX3_undo_1 7 rfl rfl)
theorem dX3_undo_33 : decode cX3_undo 33 = .ok (.iload_n 1, 1) := dk_27 (dk_at dksX3_undo_1 10 rfl rfl)
theorem dX3_undo_34 : decode cX3_undo 34 = .ok (.aload_n 0, 1) := dk_42 (dk_at dksX3_undo_1 11 rfl rfl)
theorem dX3_undo_35 : decode cX3_undo 35 = .ok (.getfield 13, 3) := dk_180 0 13 (dk_at dksX3_undo_1 12 rfl rfl)
theorem dX3_undo_38 : decode cX3_undo 38 = .ok (.sipush 444, 3) := dk_17 1 188 (dk_at dksX3_undo_1 15 rfl rfl)
theorem dX3_undo_41 : decode cX3_undo 41 = .ok (.aload_n 0, 1) := dk_42 (dk_at dksX3_undo_1 18 rfl rfl)
theorem dX3_undo_42 : decode cX3_undo 42 = .ok (.getfield 29, 3) := dk_180 0 29 (dk_at dksX3_undo_1 19 rfl rfl)
theorem dX3_undo_45 : decode cX3_undo 45 = .ok (.imul, 1) := dk_104 (dk_at dksX3_undo_1 22 rfl rfl)
theorem dX3_undo_46 : decode cX3_undo 46 = .ok (.iload_n 1, 1) := dk_27 (dk_at dksX3_undo_1 23 rfl rfl)
theorem dX3_undo_47 : decode cX3_undo 47 = .ok (.iadd, 1) := dk_96 (dk_at dksX3_undo_2 0 rfl rfl)
theorem dX3_undo_48 : decode cX3_undo 48 = .ok (.iaload, 1) := dk_46 (dk_at dksX3_undo_2 1 rfl rfl)
theorem dX3_undo_49 : decode cX3_undo 49 = .ok (.iastore, 1) := dk_79 (dk_at dksX3_undo_2 2 rfl rfl)
theorem dX3_undo_50 : decode cX3_undo 50 = .ok (.iinc 1 1, 3) := dk_132 1 1 (dk_at dksX3_undo_2 3 rfl rfl)
theorem dX3_undo_53 : decode cX3_undo 53 = .ok (.goto (-31), 3) := dk_167 255 225 (dk_at dksX3_undo_2 6 rfl rfl)
theorem dX3_undo_56 : decode cX3_undo 56 = .ok (.aload_n 0, 1) := dk_42 (dk_at dksX3_undo_2 9 rfl rfl)
theorem dX3_undo_57 : decode cX3_undo 57 = .ok (.getfield 29, 3) := dk_180 0 29 (dk_at dksX3_undo_2 10 rfl rfl)
theorem dX3_undo_60 : decode cX3_undo 60 = .ok (.ireturn, 1) := dk_172 (dk_at dksX3_undo_2 13 rfl rfl)
abbrev cX3_keep : ByteArray := prog_18_method_10_code
def yX3_keep : MethodName := ⟨RX3, "keep", "()I"⟩
def dkwX3_keep_1 : List UInt8 := [167, 255, 234, 42, 4, 181, 0, 39, 42, 180, 0, 7, 6, 46, 172]
abbrev dktX3_keep_1 : List UInt8 := dkwX3_keep_1 ++ []
def dkwX3_keep_0 : List UInt8 := [3, 60, 27, 17, 1, 188, 162, 0, 21, 42, 180, 0, 16, 27, 42, 180, 0, 7, 27, 46, 79, 132, 1, 1]
abbrev dktX3_keep_0 : List UInt8 := dkwX3_keep_0 ++ dktX3_keep_1
theorem dksX3_keep_0 : cX3_keep.data.toList.drop 0 = dktX3_keep_0 := by decide +kernel
theorem dksX3_keep_1 : cX3_keep.data.toList.drop 24 = dktX3_keep_1 := dk_seg dksX3_keep_0 24 rfl rfl
theorem dX3_keep_0 : decode cX3_keep 0 = .ok (.iconst 0, 1) := dk_3 (dk_at dksX3_keep_0 0 rfl rfl)
theorem dX3_keep_1 : decode cX3_keep 1 = .ok (.istore_n 1, 1) := dk_60 (dk_at dksX3_keep_0 1 rfl rfl)
theorem dX3_keep_2 : decode cX3_keep 2 = .ok (.iload_n 1, 1) := dk_27 (dk_at dksX3_keep_0 2 rfl rfl)
theorem dX3_keep_3 : decode cX3_keep 3 = .ok (.sipush 444, 3) := dk_17 1 188 (dk_at dksX3_keep_0 3 rfl rfl)
theorem dX3_keep_6 : decode cX3_keep 6 = .ok (.if_icmp .ge 21, 3) := dk_162 0 21 (dk_at dksX3_keep_0 6 rfl rfl)
theorem dX3_keep_9 : decode cX3_keep 9 = .ok (.aload_n 0, 1) := dk_42 (dk_at dksX3_keep_0 9 rfl rfl)
theorem dX3_keep_10 : decode cX3_keep 10 = .ok (.getfield 16, 3) := dk_180 0 16 (dk_at dksX3_keep_0 10 rfl rfl)
theorem dX3_keep_13 : decode cX3_keep 13 = .ok (.iload_n 1, 1) := dk_27 (dk_at dksX3_keep_0 13 rfl rfl)
theorem dX3_keep_14 : decode cX3_keep 14 = .ok (.aload_n 0, 1) := dk_42 (dk_at dksX3_keep_0 14 rfl rfl)
theorem dX3_keep_15 : decode cX3_keep 15 = .ok (.getfield 7, 3) := dk_180 0 7 (dk_at dksX3_keep_0 15 rfl rfl)
theorem dX3_keep_18 : decode cX3_keep 18 = .ok (.iload_n 1, 1) := dk_27 (dk_at dksX3_keep_0 18 rfl rfl)
theorem dX3_keep_19 : decode cX3_keep 19 = .ok (.iaload, 1) := dk_46 (dk_at dksX3_keep_0 19 rfl rfl)
theorem dX3_keep_20 : decode cX3_keep 20 = .ok (.iastore, 1) := dk_79 (dk_at dksX3_keep_0 20 rfl rfl)
theorem dX3_keep_21 : decode cX3_keep 21 = .ok (.iinc 1 1, 3) := dk_132 1 1 (dk_at dksX3_keep_0 21 rfl rfl)
theorem dX3_keep_24 : decode cX3_keep 24 = .ok (.goto (-22), 3) := dk_167 255 234 (dk_at dksX3_keep_1 0 rfl rfl)
theorem dX3_keep_27 : decode cX3_keep 27 = .ok (.aload_n 0, 1) := dk_42 (dk_at dksX3_keep_1 3 rfl rfl)
theorem dX3_keep_28 : decode cX3_keep 28 = .ok (.iconst 1, 1) := dk_4 (dk_at dksX3_keep_1 4 rfl rfl)
theorem dX3_keep_29 : decode cX3_keep 29 = .ok (.putfield 39, 3) := dk_181 0 39 (dk_at dksX3_keep_1 5 rfl rfl)
theorem dX3_keep_32 : decode cX3_keep 32 = .ok (.aload_n 0, 1) := dk_42 (dk_at dksX3_keep_1 8 rfl rfl)
theorem dX3_keep_33 : decode cX3_keep 33 = .ok (.getfield 7, 3) := dk_180 0 7 (dk_at dksX3_keep_1 9 rfl rfl)
theorem dX3_keep_36 : decode cX3_keep 36 = .ok (.iconst 3, 1) := dk_6 (dk_at dksX3_keep_1 12 rfl rfl)
theorem dX3_keep_37 : decode cX3_keep 37 = .ok (.iaload, 1) := dk_46 (dk_at dksX3_keep_1 13 rfl rfl)
theorem dX3_keep_38 : decode cX3_keep 38 = .ok (.ireturn, 1) := dk_172 (dk_at dksX3_keep_1 14 rfl rfl)
abbrev cX3_restore : ByteArray := prog_18_method_11_code
def yX3_restore : MethodName := ⟨RX3, "restore", "()I"⟩
def dkwX3_restore_1 : List UInt8 := [180, 0, 7, 27, 42, 180, 0, 16, 27, 46, 79, 132, 1, 1, 167, 255, 234, 42, 180, 0, 7, 6, 46, 172]
abbrev dktX3_restore_1 : List UInt8 := dkwX3_restore_1 ++ []
def dkwX3_restore_0 : List UInt8 := [42, 180, 0, 39, 154, 0, 6, 16, 251, 172, 42, 182, 0, 43, 3, 60, 27, 17, 1, 188, 162, 0, 21, 42]
abbrev dktX3_restore_0 : List UInt8 := dkwX3_restore_0 ++ dktX3_restore_1
theorem dksX3_restore_0 : cX3_restore.data.toList.drop 0 = dktX3_restore_0 := by decide +kernel
theorem dksX3_restore_1 : cX3_restore.data.toList.drop 24 = dktX3_restore_1 := dk_seg dksX3_restore_0 24 rfl rfl
theorem dX3_restore_0 : decode cX3_restore 0 = .ok (.aload_n 0, 1) := dk_42 (dk_at dksX3_restore_0 0 rfl rfl)
theorem dX3_restore_1 : decode cX3_restore 1 = .ok (.getfield 39, 3) := dk_180 0 39 (dk_at dksX3_restore_0 1 rfl rfl)
theorem dX3_restore_4 : decode cX3_restore 4 = .ok (.ifCond .ne 6, 3) := dk_154 0 6 (dk_at dksX3_restore_0 4 rfl rfl)
theorem dX3_restore_7 : decode cX3_restore 7 = .ok (.bipush (-5), 2) := dk_16 251 (dk_at dksX3_restore_0 7 rfl rfl)
theorem dX3_restore_9 : decode cX3_restore 9 = .ok (.ireturn, 1) := dk_172 (dk_at dksX3_restore_0 9 rfl rfl)
theorem dX3_restore_10 : decode cX3_restore 10 = .ok (.aload_n 0, 1) := dk_42 (dk_at dksX3_restore_0 10 rfl rfl)
theorem dX3_restore_11 : decode cX3_restore 11 = .ok (.invokevirtual 43, 3) := dk_182 0 43 (dk_at dksX3_restore_0 11 rfl rfl)
theorem dX3_restore_14 : decode cX3_restore 14 = .ok (.iconst 0, 1) := dk_3 (dk_at dksX3_restore_0 14 rfl rfl)
theorem dX3_restore_15 : decode cX3_restore 15 = .ok (.istore_n 1, 1) := dk_60 (dk_at dksX3_restore_0 15 rfl rfl)
theorem dX3_restore_16 : decode cX3_restore 16 = .ok (.iload_n 1, 1) := dk_27 (dk_at dksX3_restore_0 16 rfl rfl)
theorem dX3_restore_17 : decode cX3_restore 17 = .ok (.sipush 444, 3) := dk_17 1 188 (dk_at dksX3_restore_0 17 rfl rfl)
theorem dX3_restore_20 : decode cX3_restore 20 = .ok (.if_icmp .ge 21, 3) := dk_162 0 21 (dk_at dksX3_restore_0 20 rfl rfl)
theorem dX3_restore_23 : decode cX3_restore 23 = .ok (.aload_n 0, 1) := dk_42 (dk_at dksX3_restore_0 23 rfl rfl)
theorem dX3_restore_24 : decode cX3_restore 24 = .ok (.getfield 7, 3) := dk_180 0 7 (dk_at dksX3_restore_1 0 rfl rfl)
theorem dX3_restore_27 : decode cX3_restore 27 = .ok (.iload_n 1, 1) := dk_27 (dk_at dksX3_restore_1 3 rfl rfl)
theorem dX3_restore_28 : decode cX3_restore 28 = .ok (.aload_n 0, 1) := dk_42 (dk_at dksX3_restore_1 4 rfl rfl)
theorem dX3_restore_29 : decode cX3_restore 29 = .ok (.getfield 16, 3) := dk_180 0 16 (dk_at dksX3_restore_1 5 rfl rfl)
theorem dX3_restore_32 : decode cX3_restore 32 = .ok (.iload_n 1, 1) := dk_27 (dk_at dksX3_restore_1 8 rfl rfl)
theorem dX3_restore_33 : decode cX3_restore 33 = .ok (.iaload, 1) := dk_46 (dk_at dksX3_restore_1 9 rfl rfl)
theorem dX3_restore_34 : decode cX3_restore 34 = .ok (.iastore, 1) := dk_79 (dk_at dksX3_restore_1 10 rfl rfl)
theorem dX3_restore_35 : decode cX3_restore 35 = .ok (.iinc 1 1, 3) := dk_132 1 1 (dk_at dksX3_restore_1 11 rfl rfl)
theorem dX3_restore_38 : decode cX3_restore 38 = .ok (.goto (-22), 3) := dk_167 255 234 (dk_at dksX3_restore_1 14 rfl rfl)
theorem dX3_restore_41 : decode cX3_restore 41 = .ok (.aload_n 0, 1) := dk_42 (dk_at dksX3_restore_1 17 rfl rfl)
theorem dX3_restore_42 : decode cX3_restore 42 = .ok (.getfield 7, 3) := dk_180 0 7 (dk_at dksX3_restore_1 18 rfl rfl)
theorem dX3_restore_45 : decode cX3_restore 45 = .ok (.iconst 3, 1) := dk_6 (dk_at dksX3_restore_1 21 rfl rfl)
theorem dX3_restore_46 : decode cX3_restore 46 = .ok (.iaload, 1) := dk_46 (dk_at dksX3_restore_1 22 rfl rfl)
theorem dX3_restore_47 : decode cX3_restore 47 = .ok (.ireturn, 1) := dk_172 (dk_at dksX3_restore_1 23 rfl rfl)
abbrev cX3_begin : ByteArray := prog_18_method_8_code
def yX3_begin : MethodName := ⟨RX3, "begin", "()V"⟩
def dkwX3_begin_0 : List UInt8 := [42, 182, 0, 33, 42, 182, 0, 36, 177]
abbrev dktX3_begin_0 : List UInt8 := dkwX3_begin_0 ++ []
theorem dksX3_begin_0 : cX3_begin.data.toList.drop 0 = dktX3_begin_0 := by decide +kernel
theorem dX3_begin_0 : decode cX3_begin 0 = .ok (.aload_n 0, 1) := dk_42 (dk_at dksX3_begin_0 0 rfl rfl)
theorem dX3_begin_1 : decode cX3_begin 1 = .ok (.invokevirtual 33, 3) := dk_182 0 33 (dk_at dksX3_begin_0 1 rfl rfl)
theorem dX3_begin_4 : decode cX3_begin 4 = .ok (.aload_n 0, 1) := dk_42 (dk_at dksX3_begin_0 4 rfl rfl)
theorem dX3_begin_5 : decode cX3_begin 5 = .ok (.invokevirtual 36, 3) := dk_182 0 36 (dk_at dksX3_begin_0 5 rfl rfl)
theorem dX3_begin_8 : decode cX3_begin 8 = .ok (.return_, 1) := dk_177 (dk_at dksX3_begin_0 8 rfl rfl)
abbrev cX3_remember : ByteArray := prog_18_method_5_code
def yX3_remember : MethodName := ⟨RX3, "remember", "()V"⟩
def dkwX3_remember_1 : List UInt8 := [167, 255, 234, 177]
abbrev dktX3_remember_1 : List UInt8 := dkwX3_remember_1 ++ []
def dkwX3_remember_0 : List UInt8 := [3, 60, 27, 17, 1, 188, 162, 0, 21, 42, 180, 0, 19, 27, 42, 180, 0, 7, 27, 46, 79, 132, 1, 1]
abbrev dktX3_remember_0 : List UInt8 := dkwX3_remember_0 ++ dktX3_remember_1
theorem dksX3_remember_0 : cX3_remember.data.toList.drop 0 = dktX3_remember_0 := by decide +kernel
theorem dksX3_remember_1 : cX3_remember.data.toList.drop 24 = dktX3_remember_1 := dk_seg dksX3_remember_0 24 rfl rfl
theorem dX3_remember_0 : decode cX3_remember 0 = .ok (.iconst 0, 1) := dk_3 (dk_at dksX3_remember_0 0 rfl rfl)
theorem dX3_remember_1 : decode cX3_remember 1 = .ok (.istore_n 1, 1) := dk_60 (dk_at dksX3_remember_0 1 rfl rfl)
theorem dX3_remember_2 : decode cX3_remember 2 = .ok (.iload_n 1, 1) := dk_27 (dk_at dksX3_remember_0 2 rfl rfl)
theorem dX3_remember_3 : decode cX3_remember 3 = .ok (.sipush 444, 3) := dk_17 1 188 (dk_at dksX3_remember_0 3 rfl rfl)
theorem dX3_remember_6 : decode cX3_remember 6 = .ok (.if_icmp .ge 21, 3) := dk_162 0 21 (dk_at dksX3_remember_0 6 rfl rfl)
theorem dX3_remember_9 : decode cX3_remember 9 = .ok (.aload_n 0, 1) := dk_42 (dk_at dksX3_remember_0 9 rfl rfl)
theorem dX3_remember_10 : decode cX3_remember 10 = .ok (.getfield 19, 3) := dk_180 0 19 (dk_at dksX3_remember_0 10 rfl rfl)
theorem dX3_remember_13 : decode cX3_remember 13 = .ok (.iload_n 1, 1) := dk_27 (dk_at dksX3_remember_0 13 rfl rfl)
theorem dX3_remember_14 : decode cX3_remember 14 = .ok (.aload_n 0, 1) := dk_42 (dk_at dksX3_remember_0 14 rfl rfl)
theorem dX3_remember_15 : decode cX3_remember 15 = .ok (.getfield 7, 3) := dk_180 0 7 (dk_at dksX3_remember_0 15 rfl rfl)
theorem dX3_remember_18 : decode cX3_remember 18 = .ok (.iload_n 1, 1) := dk_27 (dk_at dksX3_remember_0 18 rfl rfl)
theorem dX3_remember_19 : decode cX3_remember 19 = .ok (.iaload, 1) := dk_46 (dk_at dksX3_remember_0 19 rfl rfl)
theorem dX3_remember_20 : decode cX3_remember 20 = .ok (.iastore, 1) := dk_79 (dk_at dksX3_remember_0 20 rfl rfl)
theorem dX3_remember_21 : decode cX3_remember 21 = .ok (.iinc 1 1, 3) := dk_132 1 1 (dk_at dksX3_remember_0 21 rfl rfl)
theorem dX3_remember_24 : decode cX3_remember 24 = .ok (.goto (-22), 3) := dk_167 255 234 (dk_at dksX3_remember_1 0 rfl rfl)
theorem dX3_remember_27 : decode cX3_remember 27 = .ok (.return_, 1) := dk_177 (dk_at dksX3_remember_1 3 rfl rfl)
abbrev cX3_record : ByteArray := prog_18_method_7_code
def yX3_record : MethodName := ⟨RX3, "record", "()V"⟩
def dkwX3_record_4 : List UInt8 := [181, 0, 29, 177]
abbrev dktX3_record_4 : List UInt8 := dkwX3_record_4 ++ []
def dkwX3_record_3 : List UInt8 := [27, 96, 42, 180, 0, 19, 27, 46, 79, 132, 1, 1, 167, 255, 225, 42, 89, 180, 0, 29, 4, 96]
abbrev dktX3_record_3 : List UInt8 := dkwX3_record_3 ++ dktX3_record_4
def dkwX3_record_2 : List UInt8 := [181, 0, 29, 3, 60, 27, 17, 1, 188, 162, 0, 30, 42, 180, 0, 13, 17, 1, 188, 42, 180, 0, 29, 104]
abbrev dktX3_record_2 : List UInt8 := dkwX3_record_2 ++ dktX3_record_3
def dkwX3_record_1 : List UInt8 := [180, 0, 13, 17, 1, 188, 27, 96, 46, 79, 132, 1, 1, 167, 255, 230, 42, 89, 180, 0, 29, 4, 100]
abbrev dktX3_record_1 : List UInt8 := dkwX3_record_1 ++ dktX3_record_2
def dkwX3_record_0 : List UInt8 := [42, 180, 0, 29, 7, 160, 0, 44, 3, 60, 27, 17, 5, 52, 162, 0, 25, 42, 180, 0, 13, 27, 42]
abbrev dktX3_record_0 : List UInt8 := dkwX3_record_0 ++ dktX3_record_1
theorem dksX3_record_0 : cX3_record.data.toList.drop 0 = dktX3_record_0 := by decide +kernel
theorem dksX3_record_1 : cX3_record.data.toList.drop 23 = dktX3_record_1 := dk_seg dksX3_record_0 23 rfl rfl
theorem dksX3_record_2 : cX3_record.data.toList.drop 46 = dktX3_record_2 := dk_seg dksX3_record_1 23 rfl rfl
theorem dksX3_record_3 : cX3_record.data.toList.drop 70 = dktX3_record_3 := dk_seg dksX3_record_2 24 rfl rfl
theorem dksX3_record_4 : cX3_record.data.toList.drop 92 = dktX3_record_4 := dk_seg dksX3_record_3 22 rfl rfl
theorem dX3_record_0 : decode cX3_record 0 = .ok (.aload_n 0, 1) := dk_42 (dk_at dksX3_record_0 0 rfl rfl)
theorem dX3_record_1 : decode cX3_record 1 = .ok (.getfield 29, 3) := dk_180 0 29 (dk_at dksX3_record_0 1 rfl rfl)
theorem dX3_record_4 : decode cX3_record 4 = .ok (.iconst 4, 1) := dk_7 (dk_at dksX3_record_0 4 rfl rfl)
theorem dX3_record_5 : decode cX3_record 5 = .ok (.if_icmp .ne 44, 3) := dk_160 0 44 (dk_at dksX3_record_0 5 rfl rfl)
theorem dX3_record_8 : decode cX3_record 8 = .ok (.iconst 0, 1) := dk_3 (dk_at dksX3_record_0 8 rfl rfl)
theorem dX3_record_9 : decode cX3_record 9 = .ok (.istore_n 1, 1) := dk_60 (dk_at dksX3_record_0 9 rfl rfl)
theorem dX3_record_10 : decode cX3_record 10 = .ok (.iload_n 1, 1) := dk_27 (dk_at dksX3_record_0 10 rfl rfl)
theorem dX3_record_11 : decode cX3_record 11 = .ok (.sipush 1332, 3) := dk_17 5 52 (dk_at dksX3_record_0 11 rfl rfl)
theorem dX3_record_14 : decode cX3_record 14 = .ok (.if_icmp .ge 25, 3) := dk_162 0 25 (dk_at dksX3_record_0 14 rfl rfl)
theorem dX3_record_17 : decode cX3_record 17 = .ok (.aload_n 0, 1) := dk_42 (dk_at dksX3_record_0 17 rfl rfl)
theorem dX3_record_18 : decode cX3_record 18 = .ok (.getfield 13, 3) := dk_180 0 13 (dk_at dksX3_record_0 18 rfl rfl)
theorem dX3_record_21 : decode cX3_record 21 = .ok (.iload_n 1, 1) := dk_27 (dk_at dksX3_record_0 21 rfl rfl)
theorem dX3_record_22 : decode cX3_record 22 = .ok (.aload_n 0, 1) := dk_42 (dk_at dksX3_record_0 22 rfl rfl)
theorem dX3_record_23 : decode cX3_record 23 = .ok (.getfield 13, 3) := dk_180 0 13 (dk_at dksX3_record_1 0 rfl rfl)
theorem dX3_record_26 : decode cX3_record 26 = .ok (.sipush 444, 3) := dk_17 1 188 (dk_at dksX3_record_1 3 rfl rfl)
theorem dX3_record_29 : decode cX3_record 29 = .ok (.iload_n 1, 1) := dk_27 (dk_at dksX3_record_1 6 rfl rfl)
theorem dX3_record_30 : decode cX3_record 30 = .ok (.iadd, 1) := dk_96 (dk_at dksX3_record_1 7 rfl rfl)
theorem dX3_record_31 : decode cX3_record 31 = .ok (.iaload, 1) := dk_46 (dk_at dksX3_record_1 8 rfl rfl)
theorem dX3_record_32 : decode cX3_record 32 = .ok (.iastore, 1) := dk_79 (dk_at dksX3_record_1 9 rfl rfl)
theorem dX3_record_33 : decode cX3_record 33 = .ok (.iinc 1 1, 3) := dk_132 1 1 (dk_at dksX3_record_1 10 rfl rfl)
theorem dX3_record_36 : decode cX3_record 36 = .ok (.goto (-26), 3) := dk_167 255 230 (dk_at dksX3_record_1 13 rfl rfl)
theorem dX3_record_39 : decode cX3_record 39 = .ok (.aload_n 0, 1) := dk_42 (dk_at dksX3_record_1 16 rfl rfl)
theorem dX3_record_40 : decode cX3_record 40 = .ok (.dup, 1) := dk_89 (dk_at dksX3_record_1 17 rfl rfl)
theorem dX3_record_41 : decode cX3_record 41 = .ok (.getfield 29, 3) := dk_180 0 29 (dk_at dksX3_record_1 18 rfl rfl)
theorem dX3_record_44 : decode cX3_record 44 = .ok (.iconst 1, 1) := dk_4 (dk_at dksX3_record_1 21 rfl rfl)
theorem dX3_record_45 : decode cX3_record 45 = .ok (.isub, 1) := dk_100 (dk_at dksX3_record_1 22 rfl rfl)
theorem dX3_record_46 : decode cX3_record 46 = .ok (.putfield 29, 3) := dk_181 0 29 (dk_at dksX3_record_2 0 rfl rfl)
theorem dX3_record_49 : decode cX3_record 49 = .ok (.iconst 0, 1) := dk_3 (dk_at dksX3_record_2 3 rfl rfl)
theorem dX3_record_50 : decode cX3_record 50 = .ok (.istore_n 1, 1) := dk_60 (dk_at dksX3_record_2 4 rfl rfl)
theorem dX3_record_51 : decode cX3_record 51 = .ok (.iload_n 1, 1) := dk_27 (dk_at dksX3_record_2 5 rfl rfl)
theorem dX3_record_52 : decode cX3_record 52 = .ok (.sipush 444, 3) := dk_17 1 188 (dk_at dksX3_record_2 6 rfl rfl)
theorem dX3_record_55 : decode cX3_record 55 = .ok (.if_icmp .ge 30, 3) := dk_162 0 30 (dk_at dksX3_record_2 9 rfl rfl)
theorem dX3_record_58 : decode cX3_record 58 = .ok (.aload_n 0, 1) := dk_42 (dk_at dksX3_record_2 12 rfl rfl)
theorem dX3_record_59 : decode cX3_record 59 = .ok (.getfield 13, 3) := dk_180 0 13 (dk_at dksX3_record_2 13 rfl rfl)
theorem dX3_record_62 : decode cX3_record 62 = .ok (.sipush 444, 3) := dk_17 1 188 (dk_at dksX3_record_2 16 rfl rfl)
theorem dX3_record_65 : decode cX3_record 65 = .ok (.aload_n 0, 1) := dk_42 (dk_at dksX3_record_2 19 rfl rfl)
theorem dX3_record_66 : decode cX3_record 66 = .ok (.getfield 29, 3) := dk_180 0 29 (dk_at dksX3_record_2 20 rfl rfl)
theorem dX3_record_69 : decode cX3_record 69 = .ok (.imul, 1) := dk_104 (dk_at dksX3_record_2 23 rfl rfl)
theorem dX3_record_70 : decode cX3_record 70 = .ok (.iload_n 1, 1) := dk_27 (dk_at dksX3_record_3 0 rfl rfl)
theorem dX3_record_71 : decode cX3_record 71 = .ok (.iadd, 1) := dk_96 (dk_at dksX3_record_3 1 rfl rfl)
theorem dX3_record_72 : decode cX3_record 72 = .ok (.aload_n 0, 1) := dk_42 (dk_at dksX3_record_3 2 rfl rfl)
theorem dX3_record_73 : decode cX3_record 73 = .ok (.getfield 19, 3) := dk_180 0 19 (dk_at dksX3_record_3 3 rfl rfl)
theorem dX3_record_76 : decode cX3_record 76 = .ok (.iload_n 1, 1) := dk_27 (dk_at dksX3_record_3 6 rfl rfl)
theorem dX3_record_77 : decode cX3_record 77 = .ok (.iaload, 1) := dk_46 (dk_at dksX3_record_3 7 rfl rfl)
theorem dX3_record_78 : decode cX3_record 78 = .ok (.iastore, 1) := dk_79 (dk_at dksX3_record_3 8 rfl rfl)
theorem dX3_record_79 : decode cX3_record 79 = .ok (.iinc 1 1, 3) := dk_132 1 1 (dk_at dksX3_record_3 9 rfl rfl)
theorem dX3_record_82 : decode cX3_record 82 = .ok (.goto (-31), 3) := dk_167 255 225 (dk_at dksX3_record_3 12 rfl rfl)
theorem dX3_record_85 : decode cX3_record 85 = .ok (.aload_n 0, 1) := dk_42 (dk_at dksX3_record_3 15 rfl rfl)
theorem dX3_record_86 : decode cX3_record 86 = .ok (.dup, 1) := dk_89 (dk_at dksX3_record_3 16 rfl rfl)
theorem dX3_record_87 : decode cX3_record 87 = .ok (.getfield 29, 3) := dk_180 0 29 (dk_at dksX3_record_3 17 rfl rfl)
theorem dX3_record_90 : decode cX3_record 90 = .ok (.iconst 1, 1) := dk_4 (dk_at dksX3_record_3 20 rfl rfl)
theorem dX3_record_91 : decode cX3_record 91 = .ok (.iadd, 1) := dk_96 (dk_at dksX3_record_3 21 rfl rfl)
theorem dX3_record_92 : decode cX3_record 92 = .ok (.putfield 29, 3) := dk_181 0 29 (dk_at dksX3_record_4 0 rfl rfl)
theorem dX3_record_95 : decode cX3_record 95 = .ok (.return_, 1) := dk_177 (dk_at dksX3_record_4 3 rfl rfl)
abbrev cX3_addSite : ByteArray := prog_18_method_16_code
def yX3_addSite : MethodName := ⟨RX3, "addSite", "(I)I"⟩
def dkwX3_addSite_2 : List UInt8 := [3, 92, 46, 4, 96, 79, 42, 182, 0, 50, 28, 172]
abbrev dktX3_addSite_2 : List UInt8 := dkwX3_addSite_2 ++ []
def dkwX3_addSite_1 : List UInt8 := [160, 0, 6, 16, 253, 172, 42, 182, 0, 43, 42, 180, 0, 7, 16, 6, 28, 96, 27, 79, 42, 180, 0, 7]
abbrev dktX3_addSite_1 : List UInt8 := dkwX3_addSite_1 ++ dktX3_addSite_2
def dkwX3_addSite_0 : List UInt8 := [27, 3, 17, 3, 231, 184, 0, 46, 154, 0, 6, 16, 254, 172, 42, 180, 0, 7, 3, 46, 61, 28, 16, 7]
abbrev dktX3_addSite_0 : List UInt8 := dkwX3_addSite_0 ++ dktX3_addSite_1
theorem dksX3_addSite_0 : cX3_addSite.data.toList.drop 0 = dktX3_addSite_0 := by decide +kernel
theorem dksX3_addSite_1 : cX3_addSite.data.toList.drop 24 = dktX3_addSite_1 := dk_seg dksX3_addSite_0 24 rfl rfl
theorem dksX3_addSite_2 : cX3_addSite.data.toList.drop 48 = dktX3_addSite_2 := dk_seg dksX3_addSite_1 24 rfl rfl
theorem dX3_addSite_0 : decode cX3_addSite 0 = .ok (.iload_n 1, 1) := dk_27 (dk_at dksX3_addSite_0 0 rfl rfl)
theorem dX3_addSite_1 : decode cX3_addSite 1 = .ok (.iconst 0, 1) := dk_3 (dk_at dksX3_addSite_0 1 rfl rfl)
theorem dX3_addSite_2 : decode cX3_addSite 2 = .ok (.sipush 999, 3) := dk_17 3 231 (dk_at dksX3_addSite_0 2 rfl rfl)
theorem dX3_addSite_5 : decode cX3_addSite 5 = .ok (.invokestatic 46, 3) := dk_184 0 46 (dk_at dksX3_addSite_0 5 rfl rfl)
theorem dX3_addSite_8 : decode cX3_addSite 8 = .ok (.ifCond .ne 6, 3) := dk_154 0 6 (dk_at dksX3_addSite_0 8 rfl rfl)
theorem dX3_addSite_11 : decode cX3_addSite 11 = .ok (.bipush (-2), 2) := dk_16 254 (dk_at dksX3_addSite_0 11 rfl rfl)
theorem dX3_addSite_13 : decode cX3_addSite 13 = .ok (.ireturn, 1) := dk_172 (dk_at dksX3_addSite_0 13 rfl rfl)
theorem dX3_addSite_14 : decode cX3_addSite 14 = .ok (.aload_n 0, 1) := dk_42 (dk_at dksX3_addSite_0 14 rfl rfl)
theorem dX3_addSite_15 : decode cX3_addSite 15 = .ok (.getfield 7, 3) := dk_180 0 7 (dk_at dksX3_addSite_0 15 rfl rfl)
theorem dX3_addSite_18 : decode cX3_addSite 18 = .ok (.iconst 0, 1) := dk_3 (dk_at dksX3_addSite_0 18 rfl rfl)
theorem dX3_addSite_19 : decode cX3_addSite 19 = .ok (.iaload, 1) := dk_46 (dk_at dksX3_addSite_0 19 rfl rfl)
theorem dX3_addSite_20 : decode cX3_addSite 20 = .ok (.istore_n 2, 1) := dk_61 (dk_at dksX3_addSite_0 20 rfl rfl)
theorem dX3_addSite_21 : decode cX3_addSite 21 = .ok (.iload_n 2, 1) := dk_28 (dk_at dksX3_addSite_0 21 rfl rfl)
theorem dX3_addSite_22 : decode cX3_addSite 22 = .ok (.bipush 7, 2) := dk_16 7 (dk_at dksX3_addSite_0 22 rfl rfl)
theorem dX3_addSite_24 : decode cX3_addSite 24 = .ok (.if_icmp .ne 6, 3) := dk_160 0 6 (dk_at dksX3_addSite_1 0 rfl rfl)
theorem dX3_addSite_27 : decode cX3_addSite 27 = .ok (.bipush (-3), 2) := dk_16 253 (dk_at dksX3_addSite_1 3 rfl rfl)
theorem dX3_addSite_29 : decode cX3_addSite 29 = .ok (.ireturn, 1) := dk_172 (dk_at dksX3_addSite_1 5 rfl rfl)
theorem dX3_addSite_30 : decode cX3_addSite 30 = .ok (.aload_n 0, 1) := dk_42 (dk_at dksX3_addSite_1 6 rfl rfl)
theorem dX3_addSite_31 : decode cX3_addSite 31 = .ok (.invokevirtual 43, 3) := dk_182 0 43 (dk_at dksX3_addSite_1 7 rfl rfl)
theorem dX3_addSite_34 : decode cX3_addSite 34 = .ok (.aload_n 0, 1) := dk_42 (dk_at dksX3_addSite_1 10 rfl rfl)
theorem dX3_addSite_35 : decode cX3_addSite 35 = .ok (.getfield 7, 3) := dk_180 0 7 (dk_at dksX3_addSite_1 11 rfl rfl)
theorem dX3_addSite_38 : decode cX3_addSite 38 = .ok (.bipush 6, 2) := dk_16 6 (dk_at dksX3_addSite_1 14 rfl rfl)
theorem dX3_addSite_40 : decode cX3_addSite 40 = .ok (.iload_n 2, 1) := dk_28 (dk_at dksX3_addSite_1 16 rfl rfl)
theorem dX3_addSite_41 : decode cX3_addSite 41 = .ok (.iadd, 1) := dk_96 (dk_at dksX3_addSite_1 17 rfl rfl)
theorem dX3_addSite_42 : decode cX3_addSite 42 = .ok (.iload_n 1, 1) := dk_27 (dk_at dksX3_addSite_1 18 rfl rfl)
theorem dX3_addSite_43 : decode cX3_addSite 43 = .ok (.iastore, 1) := dk_79 (dk_at dksX3_addSite_1 19 rfl rfl)
theorem dX3_addSite_44 : decode cX3_addSite 44 = .ok (.aload_n 0, 1) := dk_42 (dk_at dksX3_addSite_1 20 rfl rfl)
theorem dX3_addSite_45 : decode cX3_addSite 45 = .ok (.getfield 7, 3) := dk_180 0 7 (dk_at dksX3_addSite_1 21 rfl rfl)
theorem dX3_addSite_48 : decode cX3_addSite 48 = .ok (.iconst 0, 1) := dk_3 (dk_at dksX3_addSite_2 0 rfl rfl)
theorem dX3_addSite_49 : decode cX3_addSite 49 = .ok (.dup2, 1) := dk_92 (dk_at dksX3_addSite_2 1 rfl rfl)
theorem dX3_addSite_50 : decode cX3_addSite 50 = .ok (.iaload, 1) := dk_46 (dk_at dksX3_addSite_2 2 rfl rfl)
theorem dX3_addSite_51 : decode cX3_addSite 51 = .ok (.iconst 1, 1) := dk_4 (dk_at dksX3_addSite_2 3 rfl rfl)
theorem dX3_addSite_52 : decode cX3_addSite 52 = .ok (.iadd, 1) := dk_96 (dk_at dksX3_addSite_2 4 rfl rfl)
theorem dX3_addSite_53 : decode cX3_addSite 53 = .ok (.iastore, 1) := dk_79 (dk_at dksX3_addSite_2 5 rfl rfl)
theorem dX3_addSite_54 : decode cX3_addSite 54 = .ok (.aload_n 0, 1) := dk_42 (dk_at dksX3_addSite_2 6 rfl rfl)
theorem dX3_addSite_55 : decode cX3_addSite 55 = .ok (.invokevirtual 50, 3) := dk_182 0 50 (dk_at dksX3_addSite_2 7 rfl rfl)
theorem dX3_addSite_58 : decode cX3_addSite 58 = .ok (.iload_n 2, 1) := dk_28 (dk_at dksX3_addSite_2 10 rfl rfl)
theorem dX3_addSite_59 : decode cX3_addSite 59 = .ok (.ireturn, 1) := dk_172 (dk_at dksX3_addSite_2 11 rfl rfl)
abbrev cX3_in : ByteArray := prog_18_method_2_code
def yX3_in : MethodName := ⟨RX3, "in", "(III)Z"⟩
def dkwX3_in_0 : List UInt8 := [26, 27, 161, 0, 12, 26, 28, 163, 0, 7, 4, 167, 0, 4, 3, 172]
abbrev dktX3_in_0 : List UInt8 := dkwX3_in_0 ++ []
theorem dksX3_in_0 : cX3_in.data.toList.drop 0 = dktX3_in_0 := by decide +kernel
theorem dX3_in_0 : decode cX3_in 0 = .ok (.iload_n 0, 1) := dk_26 (dk_at dksX3_in_0 0 rfl rfl)
theorem dX3_in_1 : decode cX3_in 1 = .ok (.iload_n 1, 1) := dk_27 (dk_at dksX3_in_0 1 rfl rfl)
theorem dX3_in_2 : decode cX3_in 2 = .ok (.if_icmp .lt 12, 3) := dk_161 0 12 (dk_at dksX3_in_0 2 rfl rfl)
theorem dX3_in_5 : decode cX3_in 5 = .ok (.iload_n 0, 1) := dk_26 (dk_at dksX3_in_0 5 rfl rfl)
theorem dX3_in_6 : decode cX3_in 6 = .ok (.iload_n 2, 1) := dk_28 (dk_at dksX3_in_0 6 rfl rfl)
theorem dX3_in_7 : decode cX3_in 7 = .ok (.if_icmp .gt 7, 3) := dk_163 0 7 (dk_at dksX3_in_0 7 rfl rfl)
theorem dX3_in_10 : decode cX3_in 10 = .ok (.iconst 1, 1) := dk_4 (dk_at dksX3_in_0 10 rfl rfl)
theorem dX3_in_11 : decode cX3_in 11 = .ok (.goto 4, 3) := dk_167 0 4 (dk_at dksX3_in_0 11 rfl rfl)
theorem dX3_in_14 : decode cX3_in 14 = .ok (.iconst 0, 1) := dk_3 (dk_at dksX3_in_0 14 rfl rfl)
theorem dX3_in_15 : decode cX3_in 15 = .ok (.ireturn, 1) := dk_172 (dk_at dksX3_in_0 15 rfl rfl)
abbrev cX3_dropAll : ByteArray := prog_18_method_15_code
def yX3_dropAll : MethodName := ⟨RX3, "dropAll", "()V"⟩
def dkwX3_dropAll_1 : List UInt8 := [162, 0, 16, 42, 180, 0, 7, 27, 3, 79, 132, 1, 1, 167, 255, 239, 177]
abbrev dktX3_dropAll_1 : List UInt8 := dkwX3_dropAll_1 ++ []
def dkwX3_dropAll_0 : List UInt8 := [42, 180, 0, 7, 6, 3, 79, 42, 180, 0, 7, 7, 16, 251, 79, 16, 84, 60, 27, 17, 1, 188]
abbrev dktX3_dropAll_0 : List UInt8 := dkwX3_dropAll_0 ++ dktX3_dropAll_1
theorem dksX3_dropAll_0 : cX3_dropAll.data.toList.drop 0 = dktX3_dropAll_0 := by decide +kernel
theorem dksX3_dropAll_1 : cX3_dropAll.data.toList.drop 22 = dktX3_dropAll_1 := dk_seg dksX3_dropAll_0 22 rfl rfl
theorem dX3_dropAll_0 : decode cX3_dropAll 0 = .ok (.aload_n 0, 1) := dk_42 (dk_at dksX3_dropAll_0 0 rfl rfl)
theorem dX3_dropAll_1 : decode cX3_dropAll 1 = .ok (.getfield 7, 3) := dk_180 0 7 (dk_at dksX3_dropAll_0 1 rfl rfl)
theorem dX3_dropAll_4 : decode cX3_dropAll 4 = .ok (.iconst 3, 1) := dk_6 (dk_at dksX3_dropAll_0 4 rfl rfl)
theorem dX3_dropAll_5 : decode cX3_dropAll 5 = .ok (.iconst 0, 1) := dk_3 (dk_at dksX3_dropAll_0 5 rfl rfl)
theorem dX3_dropAll_6 : decode cX3_dropAll 6 = .ok (.iastore, 1) := dk_79 (dk_at dksX3_dropAll_0 6 rfl rfl)
theorem dX3_dropAll_7 : decode cX3_dropAll 7 = .ok (.aload_n 0, 1) := dk_42 (dk_at dksX3_dropAll_0 7 rfl rfl)
theorem dX3_dropAll_8 : decode cX3_dropAll 8 = .ok (.getfield 7, 3) := dk_180 0 7 (dk_at dksX3_dropAll_0 8 rfl rfl)
theorem dX3_dropAll_11 : decode cX3_dropAll 11 = .ok (.iconst 4, 1) := dk_7 (dk_at dksX3_dropAll_0 11 rfl rfl)
theorem dX3_dropAll_12 : decode cX3_dropAll 12 = .ok (.bipush (-5), 2) := dk_16 251 (dk_at dksX3_dropAll_0 12 rfl rfl)
theorem dX3_dropAll_14 : decode cX3_dropAll 14 = .ok (.iastore, 1) := dk_79 (dk_at dksX3_dropAll_0 14 rfl rfl)
theorem dX3_dropAll_15 : decode cX3_dropAll 15 = .ok (.bipush 84, 2) := dk_16 84 (dk_at dksX3_dropAll_0 15 rfl rfl)
theorem dX3_dropAll_17 : decode cX3_dropAll 17 = .ok (.istore_n 1, 1) := dk_60 (dk_at dksX3_dropAll_0 17 rfl rfl)
theorem dX3_dropAll_18 : decode cX3_dropAll 18 = .ok (.iload_n 1, 1) := dk_27 (dk_at dksX3_dropAll_0 18 rfl rfl)
theorem dX3_dropAll_19 : decode cX3_dropAll 19 = .ok (.sipush 444, 3) := dk_17 1 188 (dk_at dksX3_dropAll_0 19 rfl rfl)
theorem dX3_dropAll_22 : decode cX3_dropAll 22 = .ok (.if_icmp .ge 16, 3) := dk_162 0 16 (dk_at dksX3_dropAll_1 0 rfl rfl)
theorem dX3_dropAll_25 : decode cX3_dropAll 25 = .ok (.aload_n 0, 1) := dk_42 (dk_at dksX3_dropAll_1 3 rfl rfl)
theorem dX3_dropAll_26 : decode cX3_dropAll 26 = .ok (.getfield 7, 3) := dk_180 0 7 (dk_at dksX3_dropAll_1 4 rfl rfl)
theorem dX3_dropAll_29 : decode cX3_dropAll 29 = .ok (.iload_n 1, 1) := dk_27 (dk_at dksX3_dropAll_1 7 rfl rfl)
theorem dX3_dropAll_30 : decode cX3_dropAll 30 = .ok (.iconst 0, 1) := dk_3 (dk_at dksX3_dropAll_1 8 rfl rfl)
theorem dX3_dropAll_31 : decode cX3_dropAll 31 = .ok (.iastore, 1) := dk_79 (dk_at dksX3_dropAll_1 9 rfl rfl)
theorem dX3_dropAll_32 : decode cX3_dropAll 32 = .ok (.iinc 1 1, 3) := dk_132 1 1 (dk_at dksX3_dropAll_1 10 rfl rfl)
theorem dX3_dropAll_35 : decode cX3_dropAll 35 = .ok (.goto (-17), 3) := dk_167 255 239 (dk_at dksX3_dropAll_1 13 rfl rfl)
theorem dX3_dropAll_38 : decode cX3_dropAll 38 = .ok (.return_, 1) := dk_177 (dk_at dksX3_dropAll_1 16 rfl rfl)
abbrev cX3_addCustomer : ByteArray := prog_18_method_17_code
def yX3_addCustomer : MethodName := ⟨RX3, "addCustomer", "(I)I"⟩
def dkwX3_addCustomer_2 : List UInt8 := [4, 92, 46, 4, 96, 79, 42, 182, 0, 50, 28, 172]
abbrev dktX3_addCustomer_2 : List UInt8 := dkwX3_addCustomer_2 ++ []
def dkwX3_addCustomer_1 : List UInt8 := [160, 0, 6, 16, 253, 172, 42, 182, 0, 43, 42, 180, 0, 7, 16, 13, 28, 96, 27, 79, 42, 180, 0, 7]
abbrev dktX3_addCustomer_1 : List UInt8 := dkwX3_addCustomer_1 ++ dktX3_addCustomer_2
def dkwX3_addCustomer_0 : List UInt8 := [27, 4, 16, 20, 184, 0, 46, 154, 0, 6, 16, 254, 172, 42, 180, 0, 7, 4, 46, 61, 28, 16, 8]
abbrev dktX3_addCustomer_0 : List UInt8 := dkwX3_addCustomer_0 ++ dktX3_addCustomer_1
theorem dksX3_addCustomer_0 : cX3_addCustomer.data.toList.drop 0 = dktX3_addCustomer_0 := by decide +kernel
theorem dksX3_addCustomer_1 : cX3_addCustomer.data.toList.drop 23 = dktX3_addCustomer_1 := dk_seg dksX3_addCustomer_0 23 rfl rfl
theorem dksX3_addCustomer_2 : cX3_addCustomer.data.toList.drop 47 = dktX3_addCustomer_2 := dk_seg dksX3_addCustomer_1 24 rfl rfl
theorem dX3_addCustomer_0 : decode cX3_addCustomer 0 = .ok (.iload_n 1, 1) := dk_27 (dk_at dksX3_addCustomer_0 0 rfl rfl)
theorem dX3_addCustomer_1 : decode cX3_addCustomer 1 = .ok (.iconst 1, 1) := dk_4 (dk_at dksX3_addCustomer_0 1 rfl rfl)
theorem dX3_addCustomer_2 : decode cX3_addCustomer 2 = .ok (.bipush 20, 2) := dk_16 20 (dk_at dksX3_addCustomer_0 2 rfl rfl)
theorem dX3_addCustomer_4 : decode cX3_addCustomer 4 = .ok (.invokestatic 46, 3) := dk_184 0 46 (dk_at dksX3_addCustomer_0 4 rfl rfl)
theorem dX3_addCustomer_7 : decode cX3_addCustomer 7 = .ok (.ifCond .ne 6, 3) := dk_154 0 6 (dk_at dksX3_addCustomer_0 7 rfl rfl)
theorem dX3_addCustomer_10 : decode cX3_addCustomer 10 = .ok (.bipush (-2), 2) := dk_16 254 (dk_at dksX3_addCustomer_0 10 rfl rfl)
theorem dX3_addCustomer_12 : decode cX3_addCustomer 12 = .ok (.ireturn, 1) := dk_172 (dk_at dksX3_addCustomer_0 12 rfl rfl)
theorem dX3_addCustomer_13 : decode cX3_addCustomer 13 = .ok (.aload_n 0, 1) := dk_42 (dk_at dksX3_addCustomer_0 13 rfl rfl)
theorem dX3_addCustomer_14 : decode cX3_addCustomer 14 = .ok (.getfield 7, 3) := dk_180 0 7 (dk_at dksX3_addCustomer_0 14 rfl rfl)
theorem dX3_addCustomer_17 : decode cX3_addCustomer 17 = .ok (.iconst 1, 1) := dk_4 (dk_at dksX3_addCustomer_0 17 rfl rfl)
theorem dX3_addCustomer_18 : decode cX3_addCustomer 18 = .ok (.iaload, 1) := dk_46 (dk_at dksX3_addCustomer_0 18 rfl rfl)
theorem dX3_addCustomer_19 : decode cX3_addCustomer 19 = .ok (.istore_n 2, 1) := dk_61 (dk_at dksX3_addCustomer_0 19 rfl rfl)
theorem dX3_addCustomer_20 : decode cX3_addCustomer 20 = .ok (.iload_n 2, 1) := dk_28 (dk_at dksX3_addCustomer_0 20 rfl rfl)
theorem dX3_addCustomer_21 : decode cX3_addCustomer 21 = .ok (.bipush 8, 2) := dk_16 8 (dk_at dksX3_addCustomer_0 21 rfl rfl)
theorem dX3_addCustomer_23 : decode cX3_addCustomer 23 = .ok (.if_icmp .ne 6, 3) := dk_160 0 6 (dk_at dksX3_addCustomer_1 0 rfl rfl)
theorem dX3_addCustomer_26 : decode cX3_addCustomer 26 = .ok (.bipush (-3), 2) := dk_16 253 (dk_at dksX3_addCustomer_1 3 rfl rfl)
theorem dX3_addCustomer_28 : decode cX3_addCustomer 28 = .ok (.ireturn, 1) := dk_172 (dk_at dksX3_addCustomer_1 5 rfl rfl)
theorem dX3_addCustomer_29 : decode cX3_addCustomer 29 = .ok (.aload_n 0, 1) := dk_42 (dk_at dksX3_addCustomer_1 6 rfl rfl)
theorem dX3_addCustomer_30 : decode cX3_addCustomer 30 = .ok (.invokevirtual 43, 3) := dk_182 0 43 (dk_at dksX3_addCustomer_1 7 rfl rfl)
theorem dX3_addCustomer_33 : decode cX3_addCustomer 33 = .ok (.aload_n 0, 1) := dk_42 (dk_at dksX3_addCustomer_1 10 rfl rfl)
theorem dX3_addCustomer_34 : decode cX3_addCustomer 34 = .ok (.getfield 7, 3) := dk_180 0 7 (dk_at dksX3_addCustomer_1 11 rfl rfl)
theorem dX3_addCustomer_37 : decode cX3_addCustomer 37 = .ok (.bipush 13, 2) := dk_16 13 (dk_at dksX3_addCustomer_1 14 rfl rfl)
theorem dX3_addCustomer_39 : decode cX3_addCustomer 39 = .ok (.iload_n 2, 1) := dk_28 (dk_at dksX3_addCustomer_1 16 rfl rfl)
theorem dX3_addCustomer_40 : decode cX3_addCustomer 40 = .ok (.iadd, 1) := dk_96 (dk_at dksX3_addCustomer_1 17 rfl rfl)
theorem dX3_addCustomer_41 : decode cX3_addCustomer 41 = .ok (.iload_n 1, 1) := dk_27 (dk_at dksX3_addCustomer_1 18 rfl rfl)
theorem dX3_addCustomer_42 : decode cX3_addCustomer 42 = .ok (.iastore, 1) := dk_79 (dk_at dksX3_addCustomer_1 19 rfl rfl)
theorem dX3_addCustomer_43 : decode cX3_addCustomer 43 = .ok (.aload_n 0, 1) := dk_42 (dk_at dksX3_addCustomer_1 20 rfl rfl)
theorem dX3_addCustomer_44 : decode cX3_addCustomer 44 = .ok (.getfield 7, 3) := dk_180 0 7 (dk_at dksX3_addCustomer_1 21 rfl rfl)
theorem dX3_addCustomer_47 : decode cX3_addCustomer 47 = .ok (.iconst 1, 1) := dk_4 (dk_at dksX3_addCustomer_2 0 rfl rfl)
theorem dX3_addCustomer_48 : decode cX3_addCustomer 48 = .ok (.dup2, 1) := dk_92 (dk_at dksX3_addCustomer_2 1 rfl rfl)
theorem dX3_addCustomer_49 : decode cX3_addCustomer 49 = .ok (.iaload, 1) := dk_46 (dk_at dksX3_addCustomer_2 2 rfl rfl)
theorem dX3_addCustomer_50 : decode cX3_addCustomer 50 = .ok (.iconst 1, 1) := dk_4 (dk_at dksX3_addCustomer_2 3 rfl rfl)
theorem dX3_addCustomer_51 : decode cX3_addCustomer 51 = .ok (.iadd, 1) := dk_96 (dk_at dksX3_addCustomer_2 4 rfl rfl)
theorem dX3_addCustomer_52 : decode cX3_addCustomer 52 = .ok (.iastore, 1) := dk_79 (dk_at dksX3_addCustomer_2 5 rfl rfl)
theorem dX3_addCustomer_53 : decode cX3_addCustomer 53 = .ok (.aload_n 0, 1) := dk_42 (dk_at dksX3_addCustomer_2 6 rfl rfl)
theorem dX3_addCustomer_54 : decode cX3_addCustomer 54 = .ok (.invokevirtual 50, 3) := dk_182 0 50 (dk_at dksX3_addCustomer_2 7 rfl rfl)
theorem dX3_addCustomer_57 : decode cX3_addCustomer 57 = .ok (.iload_n 2, 1) := dk_28 (dk_at dksX3_addCustomer_2 10 rfl rfl)
theorem dX3_addCustomer_58 : decode cX3_addCustomer 58 = .ok (.ireturn, 1) := dk_172 (dk_at dksX3_addCustomer_2 11 rfl rfl)
abbrev cX3_setPrice : ByteArray := prog_18_method_19_code
def yX3_setPrice : MethodName := ⟨RX3, "setPrice", "(II)I"⟩
def dkwX3_setPrice_1 : List UInt8 := [27, 96, 28, 182, 0, 57, 167, 0, 5, 16, 254, 172]
abbrev dktX3_setPrice_1 : List UInt8 := dkwX3_setPrice_1 ++ []
def dkwX3_setPrice_0 : List UInt8 := [42, 27, 182, 0, 53, 153, 0, 5, 2, 172, 28, 3, 17, 3, 231, 184, 0, 46, 153, 0, 15, 42, 16, 6]
abbrev dktX3_setPrice_0 : List UInt8 := dkwX3_setPrice_0 ++ dktX3_setPrice_1
theorem dksX3_setPrice_0 : cX3_setPrice.data.toList.drop 0 = dktX3_setPrice_0 := by decide +kernel
theorem dksX3_setPrice_1 : cX3_setPrice.data.toList.drop 24 = dktX3_setPrice_1 := dk_seg dksX3_setPrice_0 24 rfl rfl
theorem dX3_setPrice_0 : decode cX3_setPrice 0 = .ok (.aload_n 0, 1) := dk_42 (dk_at dksX3_setPrice_0 0 rfl rfl)
theorem dX3_setPrice_1 : decode cX3_setPrice 1 = .ok (.iload_n 1, 1) := dk_27 (dk_at dksX3_setPrice_0 1 rfl rfl)
theorem dX3_setPrice_2 : decode cX3_setPrice 2 = .ok (.invokevirtual 53, 3) := dk_182 0 53 (dk_at dksX3_setPrice_0 2 rfl rfl)
theorem dX3_setPrice_5 : decode cX3_setPrice 5 = .ok (.ifCond .eq 5, 3) := dk_153 0 5 (dk_at dksX3_setPrice_0 5 rfl rfl)
theorem dX3_setPrice_8 : decode cX3_setPrice 8 = .ok (.iconst (-1), 1) := dk_2 (dk_at dksX3_setPrice_0 8 rfl rfl)
theorem dX3_setPrice_9 : decode cX3_setPrice 9 = .ok (.ireturn, 1) := dk_172 (dk_at dksX3_setPrice_0 9 rfl rfl)
theorem dX3_setPrice_10 : decode cX3_setPrice 10 = .ok (.iload_n 2, 1) := dk_28 (dk_at dksX3_setPrice_0 10 rfl rfl)
theorem dX3_setPrice_11 : decode cX3_setPrice 11 = .ok (.iconst 0, 1) := dk_3 (dk_at dksX3_setPrice_0 11 rfl rfl)
theorem dX3_setPrice_12 : decode cX3_setPrice 12 = .ok (.sipush 999, 3) := dk_17 3 231 (dk_at dksX3_setPrice_0 12 rfl rfl)
theorem dX3_setPrice_15 : decode cX3_setPrice 15 = .ok (.invokestatic 46, 3) := dk_184 0 46 (dk_at dksX3_setPrice_0 15 rfl rfl)
theorem dX3_setPrice_18 : decode cX3_setPrice 18 = .ok (.ifCond .eq 15, 3) := dk_153 0 15 (dk_at dksX3_setPrice_0 18 rfl rfl)
theorem dX3_setPrice_21 : decode cX3_setPrice 21 = .ok (.aload_n 0, 1) := dk_42 (dk_at dksX3_setPrice_0 21 rfl rfl)
theorem dX3_setPrice_22 : decode cX3_setPrice 22 = .ok (.bipush 6, 2) := dk_16 6 (dk_at dksX3_setPrice_0 22 rfl rfl)
theorem dX3_setPrice_24 : decode cX3_setPrice 24 = .ok (.iload_n 1, 1) := dk_27 (dk_at dksX3_setPrice_1 0 rfl rfl)
theorem dX3_setPrice_25 : decode cX3_setPrice 25 = .ok (.iadd, 1) := dk_96 (dk_at dksX3_setPrice_1 1 rfl rfl)
theorem dX3_setPrice_26 : decode cX3_setPrice 26 = .ok (.iload_n 2, 1) := dk_28 (dk_at dksX3_setPrice_1 2 rfl rfl)
theorem dX3_setPrice_27 : decode cX3_setPrice 27 = .ok (.invokevirtual 57, 3) := dk_182 0 57 (dk_at dksX3_setPrice_1 3 rfl rfl)
theorem dX3_setPrice_30 : decode cX3_setPrice 30 = .ok (.goto 5, 3) := dk_167 0 5 (dk_at dksX3_setPrice_1 6 rfl rfl)
theorem dX3_setPrice_33 : decode cX3_setPrice 33 = .ok (.bipush (-2), 2) := dk_16 254 (dk_at dksX3_setPrice_1 9 rfl rfl)
theorem dX3_setPrice_35 : decode cX3_setPrice 35 = .ok (.ireturn, 1) := dk_172 (dk_at dksX3_setPrice_1 11 rfl rfl)
abbrev cX3_noSite : ByteArray := prog_18_method_12_code
def yX3_noSite : MethodName := ⟨RX3, "noSite", "(I)Z"⟩
def dkwX3_noSite_0 : List UInt8 := [27, 3, 42, 180, 0, 7, 3, 46, 4, 100, 184, 0, 46, 154, 0, 7, 4, 167, 0, 4, 3, 172]
abbrev dktX3_noSite_0 : List UInt8 := dkwX3_noSite_0 ++ []
theorem dksX3_noSite_0 : cX3_noSite.data.toList.drop 0 = dktX3_noSite_0 := by decide +kernel
theorem dX3_noSite_0 : decode cX3_noSite 0 = .ok (.iload_n 1, 1) := dk_27 (dk_at dksX3_noSite_0 0 rfl rfl)
theorem dX3_noSite_1 : decode cX3_noSite 1 = .ok (.iconst 0, 1) := dk_3 (dk_at dksX3_noSite_0 1 rfl rfl)
theorem dX3_noSite_2 : decode cX3_noSite 2 = .ok (.aload_n 0, 1) := dk_42 (dk_at dksX3_noSite_0 2 rfl rfl)
theorem dX3_noSite_3 : decode cX3_noSite 3 = .ok (.getfield 7, 3) := dk_180 0 7 (dk_at dksX3_noSite_0 3 rfl rfl)
theorem dX3_noSite_6 : decode cX3_noSite 6 = .ok (.iconst 0, 1) := dk_3 (dk_at dksX3_noSite_0 6 rfl rfl)
theorem dX3_noSite_7 : decode cX3_noSite 7 = .ok (.iaload, 1) := dk_46 (dk_at dksX3_noSite_0 7 rfl rfl)
theorem dX3_noSite_8 : decode cX3_noSite 8 = .ok (.iconst 1, 1) := dk_4 (dk_at dksX3_noSite_0 8 rfl rfl)
theorem dX3_noSite_9 : decode cX3_noSite 9 = .ok (.isub, 1) := dk_100 (dk_at dksX3_noSite_0 9 rfl rfl)
theorem dX3_noSite_10 : decode cX3_noSite 10 = .ok (.invokestatic 46, 3) := dk_184 0 46 (dk_at dksX3_noSite_0 10 rfl rfl)
theorem dX3_noSite_13 : decode cX3_noSite 13 = .ok (.ifCond .ne 7, 3) := dk_154 0 7 (dk_at dksX3_noSite_0 13 rfl rfl)
theorem dX3_noSite_16 : decode cX3_noSite 16 = .ok (.iconst 1, 1) := dk_4 (dk_at dksX3_noSite_0 16 rfl rfl)
theorem dX3_noSite_17 : decode cX3_noSite 17 = .ok (.goto 4, 3) := dk_167 0 4 (dk_at dksX3_noSite_0 17 rfl rfl)
theorem dX3_noSite_20 : decode cX3_noSite 20 = .ok (.iconst 0, 1) := dk_3 (dk_at dksX3_noSite_0 20 rfl rfl)
theorem dX3_noSite_21 : decode cX3_noSite 21 = .ok (.ireturn, 1) := dk_172 (dk_at dksX3_noSite_0 21 rfl rfl)
abbrev cX3_change : ByteArray := prog_18_method_18_code
def yX3_change : MethodName := ⟨RX3, "change", "(II)I"⟩
def dkwX3_change_1 : List UInt8 := [28, 79, 42, 182, 0, 50, 29, 172]
abbrev dktX3_change_1 : List UInt8 := dkwX3_change_1 ++ []
def dkwX3_change_0 : List UInt8 := [42, 180, 0, 7, 27, 46, 62, 29, 28, 160, 0, 6, 16, 251, 172, 42, 182, 0, 43, 42, 180, 0, 7, 27]
abbrev dktX3_change_0 : List UInt8 := dkwX3_change_0 ++ dktX3_change_1
theorem dksX3_change_0 : cX3_change.data.toList.drop 0 = dktX3_change_0 := by decide +kernel
theorem dksX3_change_1 : cX3_change.data.toList.drop 24 = dktX3_change_1 := dk_seg dksX3_change_0 24 rfl rfl
theorem dX3_change_0 : decode cX3_change 0 = .ok (.aload_n 0, 1) := dk_42 (dk_at dksX3_change_0 0 rfl rfl)
theorem dX3_change_1 : decode cX3_change 1 = .ok (.getfield 7, 3) := dk_180 0 7 (dk_at dksX3_change_0 1 rfl rfl)
theorem dX3_change_4 : decode cX3_change 4 = .ok (.iload_n 1, 1) := dk_27 (dk_at dksX3_change_0 4 rfl rfl)
theorem dX3_change_5 : decode cX3_change 5 = .ok (.iaload, 1) := dk_46 (dk_at dksX3_change_0 5 rfl rfl)
theorem dX3_change_6 : decode cX3_change 6 = .ok (.istore_n 3, 1) := dk_62 (dk_at dksX3_change_0 6 rfl rfl)
theorem dX3_change_7 : decode cX3_change 7 = .ok (.iload_n 3, 1) := dk_29 (dk_at dksX3_change_0 7 rfl rfl)
theorem dX3_change_8 : decode cX3_change 8 = .ok (.iload_n 2, 1) := dk_28 (dk_at dksX3_change_0 8 rfl rfl)
theorem dX3_change_9 : decode cX3_change 9 = .ok (.if_icmp .ne 6, 3) := dk_160 0 6 (dk_at dksX3_change_0 9 rfl rfl)
theorem dX3_change_12 : decode cX3_change 12 = .ok (.bipush (-5), 2) := dk_16 251 (dk_at dksX3_change_0 12 rfl rfl)
theorem dX3_change_14 : decode cX3_change 14 = .ok (.ireturn, 1) := dk_172 (dk_at dksX3_change_0 14 rfl rfl)
theorem dX3_change_15 : decode cX3_change 15 = .ok (.aload_n 0, 1) := dk_42 (dk_at dksX3_change_0 15 rfl rfl)
theorem dX3_change_16 : decode cX3_change 16 = .ok (.invokevirtual 43, 3) := dk_182 0 43 (dk_at dksX3_change_0 16 rfl rfl)
theorem dX3_change_19 : decode cX3_change 19 = .ok (.aload_n 0, 1) := dk_42 (dk_at dksX3_change_0 19 rfl rfl)
theorem dX3_change_20 : decode cX3_change 20 = .ok (.getfield 7, 3) := dk_180 0 7 (dk_at dksX3_change_0 20 rfl rfl)
theorem dX3_change_23 : decode cX3_change 23 = .ok (.iload_n 1, 1) := dk_27 (dk_at dksX3_change_0 23 rfl rfl)
theorem dX3_change_24 : decode cX3_change 24 = .ok (.iload_n 2, 1) := dk_28 (dk_at dksX3_change_1 0 rfl rfl)
theorem dX3_change_25 : decode cX3_change 25 = .ok (.iastore, 1) := dk_79 (dk_at dksX3_change_1 1 rfl rfl)
theorem dX3_change_26 : decode cX3_change 26 = .ok (.aload_n 0, 1) := dk_42 (dk_at dksX3_change_1 2 rfl rfl)
theorem dX3_change_27 : decode cX3_change 27 = .ok (.invokevirtual 50, 3) := dk_182 0 50 (dk_at dksX3_change_1 3 rfl rfl)
theorem dX3_change_30 : decode cX3_change 30 = .ok (.iload_n 3, 1) := dk_29 (dk_at dksX3_change_1 6 rfl rfl)
theorem dX3_change_31 : decode cX3_change 31 = .ok (.ireturn, 1) := dk_172 (dk_at dksX3_change_1 7 rfl rfl)
abbrev cX3_setDemand : ByteArray := prog_18_method_20_code
def yX3_setDemand : MethodName := ⟨RX3, "setDemand", "(II)I"⟩
def dkwX3_setDemand_1 : List UInt8 := [96, 28, 182, 0, 57, 167, 0, 5, 16, 254, 172]
abbrev dktX3_setDemand_1 : List UInt8 := dkwX3_setDemand_1 ++ []
def dkwX3_setDemand_0 : List UInt8 := [42, 27, 182, 0, 61, 153, 0, 5, 2, 172, 28, 4, 16, 20, 184, 0, 46, 153, 0, 15, 42, 16, 13, 27]
abbrev dktX3_setDemand_0 : List UInt8 := dkwX3_setDemand_0 ++ dktX3_setDemand_1
theorem dksX3_setDemand_0 : cX3_setDemand.data.toList.drop 0 = dktX3_setDemand_0 := by decide +kernel
theorem dksX3_setDemand_1 : cX3_setDemand.data.toList.drop 24 = dktX3_setDemand_1 := dk_seg dksX3_setDemand_0 24 rfl rfl
theorem dX3_setDemand_0 : decode cX3_setDemand 0 = .ok (.aload_n 0, 1) := dk_42 (dk_at dksX3_setDemand_0 0 rfl rfl)
theorem dX3_setDemand_1 : decode cX3_setDemand 1 = .ok (.iload_n 1, 1) := dk_27 (dk_at dksX3_setDemand_0 1 rfl rfl)
theorem dX3_setDemand_2 : decode cX3_setDemand 2 = .ok (.invokevirtual 61, 3) := dk_182 0 61 (dk_at dksX3_setDemand_0 2 rfl rfl)
theorem dX3_setDemand_5 : decode cX3_setDemand 5 = .ok (.ifCond .eq 5, 3) := dk_153 0 5 (dk_at dksX3_setDemand_0 5 rfl rfl)
theorem dX3_setDemand_8 : decode cX3_setDemand 8 = .ok (.iconst (-1), 1) := dk_2 (dk_at dksX3_setDemand_0 8 rfl rfl)
theorem dX3_setDemand_9 : decode cX3_setDemand 9 = .ok (.ireturn, 1) := dk_172 (dk_at dksX3_setDemand_0 9 rfl rfl)
theorem dX3_setDemand_10 : decode cX3_setDemand 10 = .ok (.iload_n 2, 1) := dk_28 (dk_at dksX3_setDemand_0 10 rfl rfl)
theorem dX3_setDemand_11 : decode cX3_setDemand 11 = .ok (.iconst 1, 1) := dk_4 (dk_at dksX3_setDemand_0 11 rfl rfl)
theorem dX3_setDemand_12 : decode cX3_setDemand 12 = .ok (.bipush 20, 2) := dk_16 20 (dk_at dksX3_setDemand_0 12 rfl rfl)
theorem dX3_setDemand_14 : decode cX3_setDemand 14 = .ok (.invokestatic 46, 3) := dk_184 0 46 (dk_at dksX3_setDemand_0 14 rfl rfl)
theorem dX3_setDemand_17 : decode cX3_setDemand 17 = .ok (.ifCond .eq 15, 3) := dk_153 0 15 (dk_at dksX3_setDemand_0 17 rfl rfl)
theorem dX3_setDemand_20 : decode cX3_setDemand 20 = .ok (.aload_n 0, 1) := dk_42 (dk_at dksX3_setDemand_0 20 rfl rfl)
theorem dX3_setDemand_21 : decode cX3_setDemand 21 = .ok (.bipush 13, 2) := dk_16 13 (dk_at dksX3_setDemand_0 21 rfl rfl)
theorem dX3_setDemand_23 : decode cX3_setDemand 23 = .ok (.iload_n 1, 1) := dk_27 (dk_at dksX3_setDemand_0 23 rfl rfl)
theorem dX3_setDemand_24 : decode cX3_setDemand 24 = .ok (.iadd, 1) := dk_96 (dk_at dksX3_setDemand_1 0 rfl rfl)
theorem dX3_setDemand_25 : decode cX3_setDemand 25 = .ok (.iload_n 2, 1) := dk_28 (dk_at dksX3_setDemand_1 1 rfl rfl)
theorem dX3_setDemand_26 : decode cX3_setDemand 26 = .ok (.invokevirtual 57, 3) := dk_182 0 57 (dk_at dksX3_setDemand_1 2 rfl rfl)
theorem dX3_setDemand_29 : decode cX3_setDemand 29 = .ok (.goto 5, 3) := dk_167 0 5 (dk_at dksX3_setDemand_1 5 rfl rfl)
theorem dX3_setDemand_32 : decode cX3_setDemand 32 = .ok (.bipush (-2), 2) := dk_16 254 (dk_at dksX3_setDemand_1 8 rfl rfl)
theorem dX3_setDemand_34 : decode cX3_setDemand 34 = .ok (.ireturn, 1) := dk_172 (dk_at dksX3_setDemand_1 10 rfl rfl)
abbrev cX3_noCustomer : ByteArray := prog_18_method_13_code
def yX3_noCustomer : MethodName := ⟨RX3, "noCustomer", "(I)Z"⟩
def dkwX3_noCustomer_0 : List UInt8 := [27, 3, 42, 180, 0, 7, 4, 46, 4, 100, 184, 0, 46, 154, 0, 7, 4, 167, 0, 4, 3, 172]
abbrev dktX3_noCustomer_0 : List UInt8 := dkwX3_noCustomer_0 ++ []
theorem dksX3_noCustomer_0 : cX3_noCustomer.data.toList.drop 0 = dktX3_noCustomer_0 := by decide +kernel
theorem dX3_noCustomer_0 : decode cX3_noCustomer 0 = .ok (.iload_n 1, 1) := dk_27 (dk_at dksX3_noCustomer_0 0 rfl rfl)
theorem dX3_noCustomer_1 : decode cX3_noCustomer 1 = .ok (.iconst 0, 1) := dk_3 (dk_at dksX3_noCustomer_0 1 rfl rfl)
theorem dX3_noCustomer_2 : decode cX3_noCustomer 2 = .ok (.aload_n 0, 1) := dk_42 (dk_at dksX3_noCustomer_0 2 rfl rfl)
theorem dX3_noCustomer_3 : decode cX3_noCustomer 3 = .ok (.getfield 7, 3) := dk_180 0 7 (dk_at dksX3_noCustomer_0 3 rfl rfl)
theorem dX3_noCustomer_6 : decode cX3_noCustomer 6 = .ok (.iconst 1, 1) := dk_4 (dk_at dksX3_noCustomer_0 6 rfl rfl)
theorem dX3_noCustomer_7 : decode cX3_noCustomer 7 = .ok (.iaload, 1) := dk_46 (dk_at dksX3_noCustomer_0 7 rfl rfl)
theorem dX3_noCustomer_8 : decode cX3_noCustomer 8 = .ok (.iconst 1, 1) := dk_4 (dk_at dksX3_noCustomer_0 8 rfl rfl)
theorem dX3_noCustomer_9 : decode cX3_noCustomer 9 = .ok (.isub, 1) := dk_100 (dk_at dksX3_noCustomer_0 9 rfl rfl)
theorem dX3_noCustomer_10 : decode cX3_noCustomer 10 = .ok (.invokestatic 46, 3) := dk_184 0 46 (dk_at dksX3_noCustomer_0 10 rfl rfl)
theorem dX3_noCustomer_13 : decode cX3_noCustomer 13 = .ok (.ifCond .ne 7, 3) := dk_154 0 7 (dk_at dksX3_noCustomer_0 13 rfl rfl)
theorem dX3_noCustomer_16 : decode cX3_noCustomer 16 = .ok (.iconst 1, 1) := dk_4 (dk_at dksX3_noCustomer_0 16 rfl rfl)
theorem dX3_noCustomer_17 : decode cX3_noCustomer 17 = .ok (.goto 4, 3) := dk_167 0 4 (dk_at dksX3_noCustomer_0 17 rfl rfl)
theorem dX3_noCustomer_20 : decode cX3_noCustomer 20 = .ok (.iconst 0, 1) := dk_3 (dk_at dksX3_noCustomer_0 20 rfl rfl)
theorem dX3_noCustomer_21 : decode cX3_noCustomer 21 = .ok (.ireturn, 1) := dk_172 (dk_at dksX3_noCustomer_0 21 rfl rfl)
abbrev cX3_setRoute : ByteArray := prog_18_method_21_code
def yX3_setRoute : MethodName := ⟨RX3, "setRoute", "(III)I"⟩
def dkwX3_setRoute_1 : List UInt8 := [184, 0, 46, 153, 0, 16, 42, 27, 28, 184, 0, 64, 29, 182, 0, 57, 167, 0, 5, 16, 254, 172]
abbrev dktX3_setRoute_1 : List UInt8 := dkwX3_setRoute_1 ++ []
def dkwX3_setRoute_0 : List UInt8 := [42, 27, 182, 0, 53, 154, 0, 11, 42, 28, 182, 0, 61, 153, 0, 5, 2, 172, 29, 3, 16, 100]
abbrev dktX3_setRoute_0 : List UInt8 := dkwX3_setRoute_0 ++ dktX3_setRoute_1
theorem dksX3_setRoute_0 : cX3_setRoute.data.toList.drop 0 = dktX3_setRoute_0 := by decide +kernel
theorem dksX3_setRoute_1 : cX3_setRoute.data.toList.drop 22 = dktX3_setRoute_1 := dk_seg dksX3_setRoute_0 22 rfl rfl
theorem dX3_setRoute_0 : decode cX3_setRoute 0 = .ok (.aload_n 0, 1) := dk_42 (dk_at dksX3_setRoute_0 0 rfl rfl)
theorem dX3_setRoute_1 : decode cX3_setRoute 1 = .ok (.iload_n 1, 1) := dk_27 (dk_at dksX3_setRoute_0 1 rfl rfl)
theorem dX3_setRoute_2 : decode cX3_setRoute 2 = .ok (.invokevirtual 53, 3) := dk_182 0 53 (dk_at dksX3_setRoute_0 2 rfl rfl)
theorem dX3_setRoute_5 : decode cX3_setRoute 5 = .ok (.ifCond .ne 11, 3) := dk_154 0 11 (dk_at dksX3_setRoute_0 5 rfl rfl)
theorem dX3_setRoute_8 : decode cX3_setRoute 8 = .ok (.aload_n 0, 1) := dk_42 (dk_at dksX3_setRoute_0 8 rfl rfl)
theorem dX3_setRoute_9 : decode cX3_setRoute 9 = .ok (.iload_n 2, 1) := dk_28 (dk_at dksX3_setRoute_0 9 rfl rfl)
theorem dX3_setRoute_10 : decode cX3_setRoute 10 = .ok (.invokevirtual 61, 3) := dk_182 0 61 (dk_at dksX3_setRoute_0 10 rfl rfl)
theorem dX3_setRoute_13 : decode cX3_setRoute 13 = .ok (.ifCond .eq 5, 3) := dk_153 0 5 (dk_at dksX3_setRoute_0 13 rfl rfl)
theorem dX3_setRoute_16 : decode cX3_setRoute 16 = .ok (.iconst (-1), 1) := dk_2 (dk_at dksX3_setRoute_0 16 rfl rfl)
theorem dX3_setRoute_17 : decode cX3_setRoute 17 = .ok (.ireturn, 1) := dk_172 (dk_at dksX3_setRoute_0 17 rfl rfl)
theorem dX3_setRoute_18 : decode cX3_setRoute 18 = .ok (.iload_n 3, 1) := dk_29 (dk_at dksX3_setRoute_0 18 rfl rfl)
theorem dX3_setRoute_19 : decode cX3_setRoute 19 = .ok (.iconst 0, 1) := dk_3 (dk_at dksX3_setRoute_0 19 rfl rfl)
theorem dX3_setRoute_20 : decode cX3_setRoute 20 = .ok (.bipush 100, 2) := dk_16 100 (dk_at dksX3_setRoute_0 20 rfl rfl)
theorem dX3_setRoute_22 : decode cX3_setRoute 22 = .ok (.invokestatic 46, 3) := dk_184 0 46 (dk_at dksX3_setRoute_1 0 rfl rfl)
theorem dX3_setRoute_25 : decode cX3_setRoute 25 = .ok (.ifCond .eq 16, 3) := dk_153 0 16 (dk_at dksX3_setRoute_1 3 rfl rfl)
theorem dX3_setRoute_28 : decode cX3_setRoute 28 = .ok (.aload_n 0, 1) := dk_42 (dk_at dksX3_setRoute_1 6 rfl rfl)
theorem dX3_setRoute_29 : decode cX3_setRoute 29 = .ok (.iload_n 1, 1) := dk_27 (dk_at dksX3_setRoute_1 7 rfl rfl)
theorem dX3_setRoute_30 : decode cX3_setRoute 30 = .ok (.iload_n 2, 1) := dk_28 (dk_at dksX3_setRoute_1 8 rfl rfl)
theorem dX3_setRoute_31 : decode cX3_setRoute 31 = .ok (.invokestatic 64, 3) := dk_184 0 64 (dk_at dksX3_setRoute_1 9 rfl rfl)
theorem dX3_setRoute_34 : decode cX3_setRoute 34 = .ok (.iload_n 3, 1) := dk_29 (dk_at dksX3_setRoute_1 12 rfl rfl)
theorem dX3_setRoute_35 : decode cX3_setRoute 35 = .ok (.invokevirtual 57, 3) := dk_182 0 57 (dk_at dksX3_setRoute_1 13 rfl rfl)
theorem dX3_setRoute_38 : decode cX3_setRoute 38 = .ok (.goto 5, 3) := dk_167 0 5 (dk_at dksX3_setRoute_1 16 rfl rfl)
theorem dX3_setRoute_41 : decode cX3_setRoute 41 = .ok (.bipush (-2), 2) := dk_16 254 (dk_at dksX3_setRoute_1 19 rfl rfl)
theorem dX3_setRoute_43 : decode cX3_setRoute 43 = .ok (.ireturn, 1) := dk_172 (dk_at dksX3_setRoute_1 21 rfl rfl)
abbrev cX3_route : ByteArray := prog_18_method_14_code
def yX3_route : MethodName := ⟨RX3, "route", "(II)I"⟩
def dkwX3_route_0 : List UInt8 := [16, 21, 16, 8, 26, 104, 96, 27, 96, 172]
abbrev dktX3_route_0 : List UInt8 := dkwX3_route_0 ++ []
theorem dksX3_route_0 : cX3_route.data.toList.drop 0 = dktX3_route_0 := by decide +kernel
theorem dX3_route_0 : decode cX3_route 0 = .ok (.bipush 21, 2) := dk_16 21 (dk_at dksX3_route_0 0 rfl rfl)
theorem dX3_route_2 : decode cX3_route 2 = .ok (.bipush 8, 2) := dk_16 8 (dk_at dksX3_route_0 2 rfl rfl)
theorem dX3_route_4 : decode cX3_route 4 = .ok (.iload_n 0, 1) := dk_26 (dk_at dksX3_route_0 4 rfl rfl)
theorem dX3_route_5 : decode cX3_route 5 = .ok (.imul, 1) := dk_104 (dk_at dksX3_route_0 5 rfl rfl)
theorem dX3_route_6 : decode cX3_route 6 = .ok (.iadd, 1) := dk_96 (dk_at dksX3_route_0 6 rfl rfl)
theorem dX3_route_7 : decode cX3_route 7 = .ok (.iload_n 1, 1) := dk_27 (dk_at dksX3_route_0 7 rfl rfl)
theorem dX3_route_8 : decode cX3_route 8 = .ok (.iadd, 1) := dk_96 (dk_at dksX3_route_0 8 rfl rfl)
theorem dX3_route_9 : decode cX3_route 9 = .ok (.ireturn, 1) := dk_172 (dk_at dksX3_route_0 9 rfl rfl)
abbrev cX3_setMost : ByteArray := prog_18_method_22_code
def yX3_setMost : MethodName := ⟨RX3, "setMost", "(I)I"⟩
def dkwX3_setMost_2 : List UInt8 := [79, 28, 172]
abbrev dktX3_setMost_2 : List UInt8 := dkwX3_setMost_2 ++ []
def dkwX3_setMost_1 : List UInt8 := [160, 0, 6, 16, 251, 172, 42, 182, 0, 43, 42, 180, 0, 7, 5, 27, 79, 42, 180, 0, 7, 7, 16, 251]
abbrev dktX3_setMost_1 : List UInt8 := dkwX3_setMost_1 ++ dktX3_setMost_2
def dkwX3_setMost_0 : List UInt8 := [27, 4, 16, 7, 184, 0, 46, 154, 0, 6, 16, 254, 172, 42, 180, 0, 7, 5, 46, 61, 28, 27]
abbrev dktX3_setMost_0 : List UInt8 := dkwX3_setMost_0 ++ dktX3_setMost_1
theorem dksX3_setMost_0 : cX3_setMost.data.toList.drop 0 = dktX3_setMost_0 := by decide +kernel
theorem dksX3_setMost_1 : cX3_setMost.data.toList.drop 22 = dktX3_setMost_1 := dk_seg dksX3_setMost_0 22 rfl rfl
theorem dksX3_setMost_2 : cX3_setMost.data.toList.drop 46 = dktX3_setMost_2 := dk_seg dksX3_setMost_1 24 rfl rfl
theorem dX3_setMost_0 : decode cX3_setMost 0 = .ok (.iload_n 1, 1) := dk_27 (dk_at dksX3_setMost_0 0 rfl rfl)
theorem dX3_setMost_1 : decode cX3_setMost 1 = .ok (.iconst 1, 1) := dk_4 (dk_at dksX3_setMost_0 1 rfl rfl)
theorem dX3_setMost_2 : decode cX3_setMost 2 = .ok (.bipush 7, 2) := dk_16 7 (dk_at dksX3_setMost_0 2 rfl rfl)
theorem dX3_setMost_4 : decode cX3_setMost 4 = .ok (.invokestatic 46, 3) := dk_184 0 46 (dk_at dksX3_setMost_0 4 rfl rfl)
theorem dX3_setMost_7 : decode cX3_setMost 7 = .ok (.ifCond .ne 6, 3) := dk_154 0 6 (dk_at dksX3_setMost_0 7 rfl rfl)
theorem dX3_setMost_10 : decode cX3_setMost 10 = .ok (.bipush (-2), 2) := dk_16 254 (dk_at dksX3_setMost_0 10 rfl rfl)
theorem dX3_setMost_12 : decode cX3_setMost 12 = .ok (.ireturn, 1) := dk_172 (dk_at dksX3_setMost_0 12 rfl rfl)
theorem dX3_setMost_13 : decode cX3_setMost 13 = .ok (.aload_n 0, 1) := dk_42 (dk_at dksX3_setMost_0 13 rfl rfl)
theorem dX3_setMost_14 : decode cX3_setMost 14 = .ok (.getfield 7, 3) := dk_180 0 7 (dk_at dksX3_setMost_0 14 rfl rfl)
theorem dX3_setMost_17 : decode cX3_setMost 17 = .ok (.iconst 2, 1) := dk_5 (dk_at dksX3_setMost_0 17 rfl rfl)
theorem dX3_setMost_18 : decode cX3_setMost 18 = .ok (.iaload, 1) := dk_46 (dk_at dksX3_setMost_0 18 rfl rfl)
theorem dX3_setMost_19 : decode cX3_setMost 19 = .ok (.istore_n 2, 1) := dk_61 (dk_at dksX3_setMost_0 19 rfl rfl)
theorem dX3_setMost_20 : decode cX3_setMost 20 = .ok (.iload_n 2, 1) := dk_28 (dk_at dksX3_setMost_0 20 rfl rfl)
theorem dX3_setMost_21 : decode cX3_setMost 21 = .ok (.iload_n 1, 1) := dk_27 (dk_at dksX3_setMost_0 21 rfl rfl)
theorem dX3_setMost_22 : decode cX3_setMost 22 = .ok (.if_icmp .ne 6, 3) := dk_160 0 6 (dk_at dksX3_setMost_1 0 rfl rfl)
theorem dX3_setMost_25 : decode cX3_setMost 25 = .ok (.bipush (-5), 2) := dk_16 251 (dk_at dksX3_setMost_1 3 rfl rfl)
theorem dX3_setMost_27 : decode cX3_setMost 27 = .ok (.ireturn, 1) := dk_172 (dk_at dksX3_setMost_1 5 rfl rfl)
theorem dX3_setMost_28 : decode cX3_setMost 28 = .ok (.aload_n 0, 1) := dk_42 (dk_at dksX3_setMost_1 6 rfl rfl)
theorem dX3_setMost_29 : decode cX3_setMost 29 = .ok (.invokevirtual 43, 3) := dk_182 0 43 (dk_at dksX3_setMost_1 7 rfl rfl)
theorem dX3_setMost_32 : decode cX3_setMost 32 = .ok (.aload_n 0, 1) := dk_42 (dk_at dksX3_setMost_1 10 rfl rfl)
theorem dX3_setMost_33 : decode cX3_setMost 33 = .ok (.getfield 7, 3) := dk_180 0 7 (dk_at dksX3_setMost_1 11 rfl rfl)
theorem dX3_setMost_36 : decode cX3_setMost 36 = .ok (.iconst 2, 1) := dk_5 (dk_at dksX3_setMost_1 14 rfl rfl)
theorem dX3_setMost_37 : decode cX3_setMost 37 = .ok (.iload_n 1, 1) := dk_27 (dk_at dksX3_setMost_1 15 rfl rfl)
theorem dX3_setMost_38 : decode cX3_setMost 38 = .ok (.iastore, 1) := dk_79 (dk_at dksX3_setMost_1 16 rfl rfl)
theorem dX3_setMost_39 : decode cX3_setMost 39 = .ok (.aload_n 0, 1) := dk_42 (dk_at dksX3_setMost_1 17 rfl rfl)
theorem dX3_setMost_40 : decode cX3_setMost 40 = .ok (.getfield 7, 3) := dk_180 0 7 (dk_at dksX3_setMost_1 18 rfl rfl)
theorem dX3_setMost_43 : decode cX3_setMost 43 = .ok (.iconst 4, 1) := dk_7 (dk_at dksX3_setMost_1 21 rfl rfl)
theorem dX3_setMost_44 : decode cX3_setMost 44 = .ok (.bipush (-5), 2) := dk_16 251 (dk_at dksX3_setMost_1 22 rfl rfl)
theorem dX3_setMost_46 : decode cX3_setMost 46 = .ok (.iastore, 1) := dk_79 (dk_at dksX3_setMost_2 0 rfl rfl)
theorem dX3_setMost_47 : decode cX3_setMost 47 = .ok (.iload_n 2, 1) := dk_28 (dk_at dksX3_setMost_2 1 rfl rfl)
theorem dX3_setMost_48 : decode cX3_setMost 48 = .ok (.ireturn, 1) := dk_172 (dk_at dksX3_setMost_2 2 rfl rfl)
abbrev cX3_exclude : ByteArray := prog_18_method_23_code
def yX3_exclude : MethodName := ⟨RX3, "exclude", "(IIZ)I"⟩
def dkwX3_exclude_4 : List UInt8 := [96, 46, 184, 0, 71, 172]
abbrev dktX3_exclude_4 : List UInt8 := dkwX3_exclude_4 ++ []
def dkwX3_exclude_3 : List UInt8 := [28, 96, 92, 46, 4, 27, 120, 130, 79, 42, 180, 0, 7, 7, 16, 251, 79, 42, 180, 0, 7, 16, 77, 27]
abbrev dktX3_exclude_3 : List UInt8 := dkwX3_exclude_3 ++ dktX3_exclude_4
def dkwX3_exclude_2 : List UInt8 := [182, 0, 43, 42, 180, 0, 7, 16, 77, 27, 96, 92, 46, 4, 28, 120, 130, 79, 42, 180, 0, 7, 16, 77]
abbrev dktX3_exclude_2 : List UInt8 := dkwX3_exclude_2 ++ dktX3_exclude_3
def dkwX3_exclude_1 : List UInt8 := [16, 254, 172, 42, 180, 0, 7, 16, 77, 27, 96, 46, 28, 184, 0, 67, 29, 160, 0, 6, 16, 251, 172, 42]
abbrev dktX3_exclude_1 : List UInt8 := dkwX3_exclude_1 ++ dktX3_exclude_2
def dkwX3_exclude_0 : List UInt8 := [42, 27, 182, 0, 53, 154, 0, 11, 42, 28, 182, 0, 53, 153, 0, 5, 2, 172, 27, 28, 160, 0, 6]
abbrev dktX3_exclude_0 : List UInt8 := dkwX3_exclude_0 ++ dktX3_exclude_1
theorem dksX3_exclude_0 : cX3_exclude.data.toList.drop 0 = dktX3_exclude_0 := by decide +kernel
theorem dksX3_exclude_1 : cX3_exclude.data.toList.drop 23 = dktX3_exclude_1 := dk_seg dksX3_exclude_0 23 rfl rfl
theorem dksX3_exclude_2 : cX3_exclude.data.toList.drop 47 = dktX3_exclude_2 := dk_seg dksX3_exclude_1 24 rfl rfl
theorem dksX3_exclude_3 : cX3_exclude.data.toList.drop 71 = dktX3_exclude_3 := dk_seg dksX3_exclude_2 24 rfl rfl
theorem dksX3_exclude_4 : cX3_exclude.data.toList.drop 95 = dktX3_exclude_4 := dk_seg dksX3_exclude_3 24 rfl rfl
theorem dX3_exclude_0 : decode cX3_exclude 0 = .ok (.aload_n 0, 1) := dk_42 (dk_at dksX3_exclude_0 0 rfl rfl)
theorem dX3_exclude_1 : decode cX3_exclude 1 = .ok (.iload_n 1, 1) := dk_27 (dk_at dksX3_exclude_0 1 rfl rfl)
theorem dX3_exclude_2 : decode cX3_exclude 2 = .ok (.invokevirtual 53, 3) := dk_182 0 53 (dk_at dksX3_exclude_0 2 rfl rfl)
theorem dX3_exclude_5 : decode cX3_exclude 5 = .ok (.ifCond .ne 11, 3) := dk_154 0 11 (dk_at dksX3_exclude_0 5 rfl rfl)
theorem dX3_exclude_8 : decode cX3_exclude 8 = .ok (.aload_n 0, 1) := dk_42 (dk_at dksX3_exclude_0 8 rfl rfl)
theorem dX3_exclude_9 : decode cX3_exclude 9 = .ok (.iload_n 2, 1) := dk_28 (dk_at dksX3_exclude_0 9 rfl rfl)
theorem dX3_exclude_10 : decode cX3_exclude 10 = .ok (.invokevirtual 53, 3) := dk_182 0 53 (dk_at dksX3_exclude_0 10 rfl rfl)
theorem dX3_exclude_13 : decode cX3_exclude 13 = .ok (.ifCond .eq 5, 3) := dk_153 0 5 (dk_at dksX3_exclude_0 13 rfl rfl)
theorem dX3_exclude_16 : decode cX3_exclude 16 = .ok (.iconst (-1), 1) := dk_2 (dk_at dksX3_exclude_0 16 rfl rfl)
theorem dX3_exclude_17 : decode cX3_exclude 17 = .ok (.ireturn, 1) := dk_172 (dk_at dksX3_exclude_0 17 rfl rfl)
theorem dX3_exclude_18 : decode cX3_exclude 18 = .ok (.iload_n 1, 1) := dk_27 (dk_at dksX3_exclude_0 18 rfl rfl)
theorem dX3_exclude_19 : decode cX3_exclude 19 = .ok (.iload_n 2, 1) := dk_28 (dk_at dksX3_exclude_0 19 rfl rfl)
theorem dX3_exclude_20 : decode cX3_exclude 20 = .ok (.if_icmp .ne 6, 3) := dk_160 0 6 (dk_at dksX3_exclude_0 20 rfl rfl)
theorem dX3_exclude_23 : decode cX3_exclude 23 = .ok (.bipush (-2), 2) := dk_16 254 (dk_at dksX3_exclude_1 0 rfl rfl)
theorem dX3_exclude_25 : decode cX3_exclude 25 = .ok (.ireturn, 1) := dk_172 (dk_at dksX3_exclude_1 2 rfl rfl)
theorem dX3_exclude_26 : decode cX3_exclude 26 = .ok (.aload_n 0, 1) := dk_42 (dk_at dksX3_exclude_1 3 rfl rfl)
theorem dX3_exclude_27 : decode cX3_exclude 27 = .ok (.getfield 7, 3) := dk_180 0 7 (dk_at dksX3_exclude_1 4 rfl rfl)
theorem dX3_exclude_30 : decode cX3_exclude 30 = .ok (.bipush 77, 2) := dk_16 77 (dk_at dksX3_exclude_1 7 rfl rfl)
theorem dX3_exclude_32 : decode cX3_exclude 32 = .ok (.iload_n 1, 1) := dk_27 (dk_at dksX3_exclude_1 9 rfl rfl)
theorem dX3_exclude_33 : decode cX3_exclude 33 = .ok (.iadd, 1) := dk_96 (dk_at dksX3_exclude_1 10 rfl rfl)
theorem dX3_exclude_34 : decode cX3_exclude 34 = .ok (.iaload, 1) := dk_46 (dk_at dksX3_exclude_1 11 rfl rfl)
theorem dX3_exclude_35 : decode cX3_exclude 35 = .ok (.iload_n 2, 1) := dk_28 (dk_at dksX3_exclude_1 12 rfl rfl)
theorem dX3_exclude_36 : decode cX3_exclude 36 = .ok (.invokestatic 67, 3) := dk_184 0 67 (dk_at dksX3_exclude_1 13 rfl rfl)
theorem dX3_exclude_39 : decode cX3_exclude 39 = .ok (.iload_n 3, 1) := dk_29 (dk_at dksX3_exclude_1 16 rfl rfl)
theorem dX3_exclude_40 : decode cX3_exclude 40 = .ok (.if_icmp .ne 6, 3) := dk_160 0 6 (dk_at dksX3_exclude_1 17 rfl rfl)
theorem dX3_exclude_43 : decode cX3_exclude 43 = .ok (.bipush (-5), 2) := dk_16 251 (dk_at dksX3_exclude_1 20 rfl rfl)
theorem dX3_exclude_45 : decode cX3_exclude 45 = .ok (.ireturn, 1) := dk_172 (dk_at dksX3_exclude_1 22 rfl rfl)
theorem dX3_exclude_46 : decode cX3_exclude 46 = .ok (.aload_n 0, 1) := dk_42 (dk_at dksX3_exclude_1 23 rfl rfl)
theorem dX3_exclude_47 : decode cX3_exclude 47 = .ok (.invokevirtual 43, 3) := dk_182 0 43 (dk_at dksX3_exclude_2 0 rfl rfl)
theorem dX3_exclude_50 : decode cX3_exclude 50 = .ok (.aload_n 0, 1) := dk_42 (dk_at dksX3_exclude_2 3 rfl rfl)
theorem dX3_exclude_51 : decode cX3_exclude 51 = .ok (.getfield 7, 3) := dk_180 0 7 (dk_at dksX3_exclude_2 4 rfl rfl)
theorem dX3_exclude_54 : decode cX3_exclude 54 = .ok (.bipush 77, 2) := dk_16 77 (dk_at dksX3_exclude_2 7 rfl rfl)
theorem dX3_exclude_56 : decode cX3_exclude 56 = .ok (.iload_n 1, 1) := dk_27 (dk_at dksX3_exclude_2 9 rfl rfl)
theorem dX3_exclude_57 : decode cX3_exclude 57 = .ok (.iadd, 1) := dk_96 (dk_at dksX3_exclude_2 10 rfl rfl)
theorem dX3_exclude_58 : decode cX3_exclude 58 = .ok (.dup2, 1) := dk_92 (dk_at dksX3_exclude_2 11 rfl rfl)
theorem dX3_exclude_59 : decode cX3_exclude 59 = .ok (.iaload, 1) := dk_46 (dk_at dksX3_exclude_2 12 rfl rfl)
theorem dX3_exclude_60 : decode cX3_exclude 60 = .ok (.iconst 1, 1) := dk_4 (dk_at dksX3_exclude_2 13 rfl rfl)
theorem dX3_exclude_61 : decode cX3_exclude 61 = .ok (.iload_n 2, 1) := dk_28 (dk_at dksX3_exclude_2 14 rfl rfl)
theorem dX3_exclude_62 : decode cX3_exclude 62 = .ok (.ishl, 1) := dk_120 (dk_at dksX3_exclude_2 15 rfl rfl)
theorem dX3_exclude_63 : decode cX3_exclude 63 = .ok (.ixor, 1) := dk_130 (dk_at dksX3_exclude_2 16 rfl rfl)
theorem dX3_exclude_64 : decode cX3_exclude 64 = .ok (.iastore, 1) := dk_79 (dk_at dksX3_exclude_2 17 rfl rfl)
theorem dX3_exclude_65 : decode cX3_exclude 65 = .ok (.aload_n 0, 1) := dk_42 (dk_at dksX3_exclude_2 18 rfl rfl)
theorem dX3_exclude_66 : decode cX3_exclude 66 = .ok (.getfield 7, 3) := dk_180 0 7 (dk_at dksX3_exclude_2 19 rfl rfl)
theorem dX3_exclude_69 : decode cX3_exclude 69 = .ok (.bipush 77, 2) := dk_16 77 (dk_at dksX3_exclude_2 22 rfl rfl)
theorem dX3_exclude_71 : decode cX3_exclude 71 = .ok (.iload_n 2, 1) := dk_28 (dk_at dksX3_exclude_3 0 rfl rfl)
theorem dX3_exclude_72 : decode cX3_exclude 72 = .ok (.iadd, 1) := dk_96 (dk_at dksX3_exclude_3 1 rfl rfl)
theorem dX3_exclude_73 : decode cX3_exclude 73 = .ok (.dup2, 1) := dk_92 (dk_at dksX3_exclude_3 2 rfl rfl)
theorem dX3_exclude_74 : decode cX3_exclude 74 = .ok (.iaload, 1) := dk_46 (dk_at dksX3_exclude_3 3 rfl rfl)
theorem dX3_exclude_75 : decode cX3_exclude 75 = .ok (.iconst 1, 1) := dk_4 (dk_at dksX3_exclude_3 4 rfl rfl)
theorem dX3_exclude_76 : decode cX3_exclude 76 = .ok (.iload_n 1, 1) := dk_27 (dk_at dksX3_exclude_3 5 rfl rfl)
theorem dX3_exclude_77 : decode cX3_exclude 77 = .ok (.ishl, 1) := dk_120 (dk_at dksX3_exclude_3 6 rfl rfl)
theorem dX3_exclude_78 : decode cX3_exclude 78 = .ok (.ixor, 1) := dk_130 (dk_at dksX3_exclude_3 7 rfl rfl)
theorem dX3_exclude_79 : decode cX3_exclude 79 = .ok (.iastore, 1) := dk_79 (dk_at dksX3_exclude_3 8 rfl rfl)
theorem dX3_exclude_80 : decode cX3_exclude 80 = .ok (.aload_n 0, 1) := dk_42 (dk_at dksX3_exclude_3 9 rfl rfl)
theorem dX3_exclude_81 : decode cX3_exclude 81 = .ok (.getfield 7, 3) := dk_180 0 7 (dk_at dksX3_exclude_3 10 rfl rfl)
theorem dX3_exclude_84 : decode cX3_exclude 84 = .ok (.iconst 4, 1) := dk_7 (dk_at dksX3_exclude_3 13 rfl rfl)
theorem dX3_exclude_85 : decode cX3_exclude 85 = .ok (.bipush (-5), 2) := dk_16 251 (dk_at dksX3_exclude_3 14 rfl rfl)
theorem dX3_exclude_87 : decode cX3_exclude 87 = .ok (.iastore, 1) := dk_79 (dk_at dksX3_exclude_3 16 rfl rfl)
theorem dX3_exclude_88 : decode cX3_exclude 88 = .ok (.aload_n 0, 1) := dk_42 (dk_at dksX3_exclude_3 17 rfl rfl)
theorem dX3_exclude_89 : decode cX3_exclude 89 = .ok (.getfield 7, 3) := dk_180 0 7 (dk_at dksX3_exclude_3 18 rfl rfl)
theorem dX3_exclude_92 : decode cX3_exclude 92 = .ok (.bipush 77, 2) := dk_16 77 (dk_at dksX3_exclude_3 21 rfl rfl)
theorem dX3_exclude_94 : decode cX3_exclude 94 = .ok (.iload_n 1, 1) := dk_27 (dk_at dksX3_exclude_3 23 rfl rfl)
theorem dX3_exclude_95 : decode cX3_exclude 95 = .ok (.iadd, 1) := dk_96 (dk_at dksX3_exclude_4 0 rfl rfl)
theorem dX3_exclude_96 : decode cX3_exclude 96 = .ok (.iaload, 1) := dk_46 (dk_at dksX3_exclude_4 1 rfl rfl)
theorem dX3_exclude_97 : decode cX3_exclude 97 = .ok (.invokestatic 71, 3) := dk_184 0 71 (dk_at dksX3_exclude_4 2 rfl rfl)
theorem dX3_exclude_100 : decode cX3_exclude 100 = .ok (.ireturn, 1) := dk_172 (dk_at dksX3_exclude_4 5 rfl rfl)
abbrev cX3_isIn : ByteArray := prog_18_method_3_code
def yX3_isIn : MethodName := ⟨RX3, "isIn", "(II)Z"⟩
def dkwX3_isIn_0 : List UInt8 := [26, 27, 122, 4, 126, 4, 160, 0, 7, 4, 167, 0, 4, 3, 172]
abbrev dktX3_isIn_0 : List UInt8 := dkwX3_isIn_0 ++ []
theorem dksX3_isIn_0 : cX3_isIn.data.toList.drop 0 = dktX3_isIn_0 := by decide +kernel
theorem dX3_isIn_0 : decode cX3_isIn 0 = .ok (.iload_n 0, 1) := dk_26 (dk_at dksX3_isIn_0 0 rfl rfl)
theorem dX3_isIn_1 : decode cX3_isIn 1 = .ok (.iload_n 1, 1) := dk_27 (dk_at dksX3_isIn_0 1 rfl rfl)
theorem dX3_isIn_2 : decode cX3_isIn 2 = .ok (.ishr, 1) := dk_122 (dk_at dksX3_isIn_0 2 rfl rfl)
theorem dX3_isIn_3 : decode cX3_isIn 3 = .ok (.iconst 1, 1) := dk_4 (dk_at dksX3_isIn_0 3 rfl rfl)
theorem dX3_isIn_4 : decode cX3_isIn 4 = .ok (.iand, 1) := dk_126 (dk_at dksX3_isIn_0 4 rfl rfl)
theorem dX3_isIn_5 : decode cX3_isIn 5 = .ok (.iconst 1, 1) := dk_4 (dk_at dksX3_isIn_0 5 rfl rfl)
theorem dX3_isIn_6 : decode cX3_isIn 6 = .ok (.if_icmp .ne 7, 3) := dk_160 0 7 (dk_at dksX3_isIn_0 6 rfl rfl)
theorem dX3_isIn_9 : decode cX3_isIn 9 = .ok (.iconst 1, 1) := dk_4 (dk_at dksX3_isIn_0 9 rfl rfl)
theorem dX3_isIn_10 : decode cX3_isIn 10 = .ok (.goto 4, 3) := dk_167 0 4 (dk_at dksX3_isIn_0 10 rfl rfl)
theorem dX3_isIn_13 : decode cX3_isIn 13 = .ok (.iconst 0, 1) := dk_3 (dk_at dksX3_isIn_0 13 rfl rfl)
theorem dX3_isIn_14 : decode cX3_isIn 14 = .ok (.ireturn, 1) := dk_172 (dk_at dksX3_isIn_0 14 rfl rfl)
abbrev cX3_many : ByteArray := prog_18_method_4_code
def yX3_many : MethodName := ⟨RX3, "many", "(I)I"⟩
def dkwX3_many_1 : List UInt8 := [27, 172]
abbrev dktX3_many_1 : List UInt8 := dkwX3_many_1 ++ []
def dkwX3_many_0 : List UInt8 := [3, 60, 3, 61, 28, 16, 7, 162, 0, 17, 27, 26, 28, 122, 4, 126, 96, 60, 132, 2, 1, 167, 255, 239]
abbrev dktX3_many_0 : List UInt8 := dkwX3_many_0 ++ dktX3_many_1
theorem dksX3_many_0 : cX3_many.data.toList.drop 0 = dktX3_many_0 := by decide +kernel
theorem dksX3_many_1 : cX3_many.data.toList.drop 24 = dktX3_many_1 := dk_seg dksX3_many_0 24 rfl rfl
theorem dX3_many_0 : decode cX3_many 0 = .ok (.iconst 0, 1) := dk_3 (dk_at dksX3_many_0 0 rfl rfl)
theorem dX3_many_1 : decode cX3_many 1 = .ok (.istore_n 1, 1) := dk_60 (dk_at dksX3_many_0 1 rfl rfl)
theorem dX3_many_2 : decode cX3_many 2 = .ok (.iconst 0, 1) := dk_3 (dk_at dksX3_many_0 2 rfl rfl)
theorem dX3_many_3 : decode cX3_many 3 = .ok (.istore_n 2, 1) := dk_61 (dk_at dksX3_many_0 3 rfl rfl)
theorem dX3_many_4 : decode cX3_many 4 = .ok (.iload_n 2, 1) := dk_28 (dk_at dksX3_many_0 4 rfl rfl)
theorem dX3_many_5 : decode cX3_many 5 = .ok (.bipush 7, 2) := dk_16 7 (dk_at dksX3_many_0 5 rfl rfl)
theorem dX3_many_7 : decode cX3_many 7 = .ok (.if_icmp .ge 17, 3) := dk_162 0 17 (dk_at dksX3_many_0 7 rfl rfl)
theorem dX3_many_10 : decode cX3_many 10 = .ok (.iload_n 1, 1) := dk_27 (dk_at dksX3_many_0 10 rfl rfl)
theorem dX3_many_11 : decode cX3_many 11 = .ok (.iload_n 0, 1) := dk_26 (dk_at dksX3_many_0 11 rfl rfl)
theorem dX3_many_12 : decode cX3_many 12 = .ok (.iload_n 2, 1) := dk_28 (dk_at dksX3_many_0 12 rfl rfl)
theorem dX3_many_13 : decode cX3_many 13 = .ok (.ishr, 1) := dk_122 (dk_at dksX3_many_0 13 rfl rfl)
theorem dX3_many_14 : decode cX3_many 14 = .ok (.iconst 1, 1) := dk_4 (dk_at dksX3_many_0 14 rfl rfl)
theorem dX3_many_15 : decode cX3_many 15 = .ok (.iand, 1) := dk_126 (dk_at dksX3_many_0 15 rfl rfl)
theorem dX3_many_16 : decode cX3_many 16 = .ok (.iadd, 1) := dk_96 (dk_at dksX3_many_0 16 rfl rfl)
theorem dX3_many_17 : decode cX3_many 17 = .ok (.istore_n 1, 1) := dk_60 (dk_at dksX3_many_0 17 rfl rfl)
theorem dX3_many_18 : decode cX3_many 18 = .ok (.iinc 2 1, 3) := dk_132 2 1 (dk_at dksX3_many_0 18 rfl rfl)
theorem dX3_many_21 : decode cX3_many 21 = .ok (.goto (-17), 3) := dk_167 255 239 (dk_at dksX3_many_0 21 rfl rfl)
theorem dX3_many_24 : decode cX3_many 24 = .ok (.iload_n 1, 1) := dk_27 (dk_at dksX3_many_1 0 rfl rfl)
theorem dX3_many_25 : decode cX3_many 25 = .ok (.ireturn, 1) := dk_172 (dk_at dksX3_many_1 1 rfl rfl)
abbrev cX3_step : ByteArray := prog_18_method_42_code
def yX3_step : MethodName := ⟨RX3, "step", "()I"⟩
def dkwX3_step_0 : List UInt8 := [42, 182, 0, 33, 42, 182, 0, 118, 60, 27, 155, 0, 7, 42, 182, 0, 36, 27, 172]
abbrev dktX3_step_0 : List UInt8 := dkwX3_step_0 ++ []
theorem dksX3_step_0 : cX3_step.data.toList.drop 0 = dktX3_step_0 := by decide +kernel
theorem dX3_step_0 : decode cX3_step 0 = .ok (.aload_n 0, 1) := dk_42 (dk_at dksX3_step_0 0 rfl rfl)
theorem dX3_step_1 : decode cX3_step 1 = .ok (.invokevirtual 33, 3) := dk_182 0 33 (dk_at dksX3_step_0 1 rfl rfl)
theorem dX3_step_4 : decode cX3_step 4 = .ok (.aload_n 0, 1) := dk_42 (dk_at dksX3_step_0 4 rfl rfl)
theorem dX3_step_5 : decode cX3_step 5 = .ok (.invokevirtual 118, 3) := dk_182 0 118 (dk_at dksX3_step_0 5 rfl rfl)
theorem dX3_step_8 : decode cX3_step 8 = .ok (.istore_n 1, 1) := dk_60 (dk_at dksX3_step_0 8 rfl rfl)
theorem dX3_step_9 : decode cX3_step 9 = .ok (.iload_n 1, 1) := dk_27 (dk_at dksX3_step_0 9 rfl rfl)
theorem dX3_step_10 : decode cX3_step 10 = .ok (.ifCond .lt 7, 3) := dk_155 0 7 (dk_at dksX3_step_0 10 rfl rfl)
theorem dX3_step_13 : decode cX3_step 13 = .ok (.aload_n 0, 1) := dk_42 (dk_at dksX3_step_0 13 rfl rfl)
theorem dX3_step_14 : decode cX3_step 14 = .ok (.invokevirtual 36, 3) := dk_182 0 36 (dk_at dksX3_step_0 14 rfl rfl)
theorem dX3_step_17 : decode cX3_step 17 = .ok (.iload_n 1, 1) := dk_27 (dk_at dksX3_step_0 17 rfl rfl)
theorem dX3_step_18 : decode cX3_step 18 = .ok (.ireturn, 1) := dk_172 (dk_at dksX3_step_0 18 rfl rfl)
abbrev cX3_makeStep : ByteArray := prog_18_method_41_code
def yX3_makeStep : MethodName := ⟨RX3, "makeStep", "()I"⟩
def dkwX3_makeStep_10 : List UInt8 := [180, 0, 7, 6, 92, 46, 4, 96, 79, 28, 156, 0, 7, 4, 167, 0, 4, 3, 172]
abbrev dktX3_makeStep_10 : List UInt8 := dkwX3_makeStep_10 ++ []
def dkwX3_makeStep_9 : List UInt8 := [21, 6, 182, 0, 81, 21, 6, 184, 0, 64, 46, 167, 0, 4, 3, 79, 132, 6, 1, 167, 255, 205, 42]
abbrev dktX3_makeStep_9 : List UInt8 := dkwX3_makeStep_9 ++ dktX3_makeStep_10
def dkwX3_makeStep_8 : List UInt8 := [162, 0, 46, 42, 180, 0, 7, 21, 5, 4, 96, 21, 6, 96, 28, 156, 0, 23, 42, 180, 0, 7, 42, 27]
abbrev dktX3_makeStep_8 : List UInt8 := dkwX3_makeStep_8 ++ dktX3_makeStep_9
def dkwX3_makeStep_7 : List UInt8 := [96, 54, 5, 42, 180, 0, 7, 21, 5, 28, 79, 3, 54, 6, 21, 6, 42, 180, 0, 7, 4, 46]
abbrev dktX3_makeStep_7 : List UInt8 := dkwX3_makeStep_7 ++ dktX3_makeStep_8
def dkwX3_makeStep_6 : List UInt8 := [180, 0, 7, 7, 27, 79, 21, 4, 153, 0, 5, 5, 172, 16, 84, 16, 9, 42, 180, 0, 7, 6, 46, 104]
abbrev dktX3_makeStep_6 : List UInt8 := dkwX3_makeStep_6 ++ dktX3_makeStep_7
def dkwX3_makeStep_5 : List UInt8 := [42, 180, 0, 7, 7, 46, 182, 0, 102, 42, 42, 180, 0, 7, 7, 46, 182, 0, 115, 96, 162, 0, 10, 42]
abbrev dktX3_makeStep_5 : List UInt8 := dkwX3_makeStep_5 ++ dktX3_makeStep_6
def dkwX3_makeStep_4 : List UInt8 := [180, 0, 7, 8, 92, 46, 4, 96, 79, 28, 156, 0, 44, 42, 180, 0, 7, 7, 46, 155, 0, 28, 29, 42]
abbrev dktX3_makeStep_4 : List UInt8 := dkwX3_makeStep_4 ++ dktX3_makeStep_5
def dkwX3_makeStep_3 : List UInt8 := [54, 4, 21, 4, 154, 0, 17, 42, 180, 0, 7, 6, 46, 16, 40, 160, 0, 6, 16, 253, 172, 42]
abbrev dktX3_makeStep_3 : List UInt8 := dkwX3_makeStep_3 ++ dktX3_makeStep_4
def dkwX3_makeStep_2 : List UInt8 := [167, 0, 4, 3, 62, 28, 156, 0, 16, 29, 42, 27, 182, 0, 108, 160, 0, 7, 4, 167, 0, 4, 3]
abbrev dktX3_makeStep_2 : List UInt8 := dkwX3_makeStep_2 ++ dktX3_makeStep_3
def dkwX3_makeStep_1 : List UInt8 := [16, 252, 172, 42, 27, 182, 0, 87, 61, 28, 156, 0, 17, 42, 27, 182, 0, 102, 42, 27, 182, 0, 115, 96]
abbrev dktX3_makeStep_1 : List UInt8 := dkwX3_makeStep_1 ++ dktX3_makeStep_2
def dkwX3_makeStep_0 : List UInt8 := [42, 180, 0, 7, 4, 46, 154, 0, 8, 16, 251, 167, 0, 7, 42, 182, 0, 111, 60, 27, 156, 0, 6]
abbrev dktX3_makeStep_0 : List UInt8 := dkwX3_makeStep_0 ++ dktX3_makeStep_1
theorem dksX3_makeStep_0 : cX3_makeStep.data.toList.drop 0 = dktX3_makeStep_0 := by decide +kernel
theorem dksX3_makeStep_1 : cX3_makeStep.data.toList.drop 23 = dktX3_makeStep_1 := dk_seg dksX3_makeStep_0 23 rfl rfl
theorem dksX3_makeStep_2 : cX3_makeStep.data.toList.drop 47 = dktX3_makeStep_2 := dk_seg dksX3_makeStep_1 24 rfl rfl
theorem dksX3_makeStep_3 : cX3_makeStep.data.toList.drop 70 = dktX3_makeStep_3 := dk_seg dksX3_makeStep_2 23 rfl rfl
theorem dksX3_makeStep_4 : cX3_makeStep.data.toList.drop 92 = dktX3_makeStep_4 := dk_seg dksX3_makeStep_3 22 rfl rfl
theorem dksX3_makeStep_5 : cX3_makeStep.data.toList.drop 116 = dktX3_makeStep_5 := dk_seg dksX3_makeStep_4 24 rfl rfl
theorem dksX3_makeStep_6 : cX3_makeStep.data.toList.drop 140 = dktX3_makeStep_6 := dk_seg dksX3_makeStep_5 24 rfl rfl
theorem dksX3_makeStep_7 : cX3_makeStep.data.toList.drop 164 = dktX3_makeStep_7 := dk_seg dksX3_makeStep_6 24 rfl rfl
theorem dksX3_makeStep_8 : cX3_makeStep.data.toList.drop 186 = dktX3_makeStep_8 := dk_seg dksX3_makeStep_7 22 rfl rfl
theorem dksX3_makeStep_9 : cX3_makeStep.data.toList.drop 210 = dktX3_makeStep_9 := dk_seg dksX3_makeStep_8 24 rfl rfl
theorem dksX3_makeStep_10 : cX3_makeStep.data.toList.drop 233 = dktX3_makeStep_10 := dk_seg dksX3_makeStep_9 23 rfl rfl
theorem dX3_makeStep_0 : decode cX3_makeStep 0 = .ok (.aload_n 0, 1) := dk_42 (dk_at dksX3_makeStep_0 0 rfl rfl)
theorem dX3_makeStep_1 : decode cX3_makeStep 1 = .ok (.getfield 7, 3) := dk_180 0 7 (dk_at dksX3_makeStep_0 1 rfl rfl)
theorem dX3_makeStep_4 : decode cX3_makeStep 4 = .ok (.iconst 1, 1) := dk_4 (dk_at dksX3_makeStep_0 4 rfl rfl)
theorem dX3_makeStep_5 : decode cX3_makeStep 5 = .ok (.iaload, 1) := dk_46 (dk_at dksX3_makeStep_0 5 rfl rfl)
theorem dX3_makeStep_6 : decode cX3_makeStep 6 = .ok (.ifCond .ne 8, 3) := dk_154 0 8 (dk_at dksX3_makeStep_0 6 rfl rfl)
theorem dX3_makeStep_9 : decode cX3_makeStep 9 = .ok (.bipush (-5), 2) := dk_16 251 (dk_at dksX3_makeStep_0 9 rfl rfl)
theorem dX3_makeStep_11 : decode cX3_makeStep 11 = .ok (.goto 7, 3) := dk_167 0 7 (dk_at dksX3_makeStep_0 11 rfl rfl)
theorem dX3_makeStep_14 : decode cX3_makeStep 14 = .ok (.aload_n 0, 1) := dk_42 (dk_at dksX3_makeStep_0 14 rfl rfl)
theorem dX3_makeStep_15 : decode cX3_makeStep 15 = .ok (.invokevirtual 111, 3) := dk_182 0 111 (dk_at dksX3_makeStep_0 15 rfl rfl)
theorem dX3_makeStep_18 : decode cX3_makeStep 18 = .ok (.istore_n 1, 1) := dk_60 (dk_at dksX3_makeStep_0 18 rfl rfl)
theorem dX3_makeStep_19 : decode cX3_makeStep 19 = .ok (.iload_n 1, 1) := dk_27 (dk_at dksX3_makeStep_0 19 rfl rfl)
theorem dX3_makeStep_20 : decode cX3_makeStep 20 = .ok (.ifCond .ge 6, 3) := dk_156 0 6 (dk_at dksX3_makeStep_0 20 rfl rfl)
theorem dX3_makeStep_23 : decode cX3_makeStep 23 = .ok (.bipush (-4), 2) := dk_16 252 (dk_at dksX3_makeStep_1 0 rfl rfl)
theorem dX3_makeStep_25 : decode cX3_makeStep 25 = .ok (.ireturn, 1) := dk_172 (dk_at dksX3_makeStep_1 2 rfl rfl)
theorem dX3_makeStep_26 : decode cX3_makeStep 26 = .ok (.aload_n 0, 1) := dk_42 (dk_at dksX3_makeStep_1 3 rfl rfl)
theorem dX3_makeStep_27 : decode cX3_makeStep 27 = .ok (.iload_n 1, 1) := dk_27 (dk_at dksX3_makeStep_1 4 rfl rfl)
theorem dX3_makeStep_28 : decode cX3_makeStep 28 = .ok (.invokevirtual 87, 3) := dk_182 0 87 (dk_at dksX3_makeStep_1 5 rfl rfl)
theorem dX3_makeStep_31 : decode cX3_makeStep 31 = .ok (.istore_n 2, 1) := dk_61 (dk_at dksX3_makeStep_1 8 rfl rfl)
theorem dX3_makeStep_32 : decode cX3_makeStep 32 = .ok (.iload_n 2, 1) := dk_28 (dk_at dksX3_makeStep_1 9 rfl rfl)
theorem dX3_makeStep_33 : decode cX3_makeStep 33 = .ok (.ifCond .ge 17, 3) := dk_156 0 17 (dk_at dksX3_makeStep_1 10 rfl rfl)
theorem dX3_makeStep_36 : decode cX3_makeStep 36 = .ok (.aload_n 0, 1) := dk_42 (dk_at dksX3_makeStep_1 13 rfl rfl)
theorem dX3_makeStep_37 : decode cX3_makeStep 37 = .ok (.iload_n 1, 1) := dk_27 (dk_at dksX3_makeStep_1 14 rfl rfl)
theorem dX3_makeStep_38 : decode cX3_makeStep 38 = .ok (.invokevirtual 102, 3) := dk_182 0 102 (dk_at dksX3_makeStep_1 15 rfl rfl)
theorem dX3_makeStep_41 : decode cX3_makeStep 41 = .ok (.aload_n 0, 1) := dk_42 (dk_at dksX3_makeStep_1 18 rfl rfl)
theorem dX3_makeStep_42 : decode cX3_makeStep 42 = .ok (.iload_n 1, 1) := dk_27 (dk_at dksX3_makeStep_1 19 rfl rfl)
theorem dX3_makeStep_43 : decode cX3_makeStep 43 = .ok (.invokevirtual 115, 3) := dk_182 0 115 (dk_at dksX3_makeStep_1 20 rfl rfl)
theorem dX3_makeStep_46 : decode cX3_makeStep 46 = .ok (.iadd, 1) := dk_96 (dk_at dksX3_makeStep_1 23 rfl rfl)
theorem dX3_makeStep_47 : decode cX3_makeStep 47 = .ok (.goto 4, 3) := dk_167 0 4 (dk_at dksX3_makeStep_2 0 rfl rfl)
theorem dX3_makeStep_50 : decode cX3_makeStep 50 = .ok (.iconst 0, 1) := dk_3 (dk_at dksX3_makeStep_2 3 rfl rfl)
theorem dX3_makeStep_51 : decode cX3_makeStep 51 = .ok (.istore_n 3, 1) := dk_62 (dk_at dksX3_makeStep_2 4 rfl rfl)
theorem dX3_makeStep_52 : decode cX3_makeStep 52 = .ok (.iload_n 2, 1) := dk_28 (dk_at dksX3_makeStep_2 5 rfl rfl)
theorem dX3_makeStep_53 : decode cX3_makeStep 53 = .ok (.ifCond .ge 16, 3) := dk_156 0 16 (dk_at dksX3_makeStep_2 6 rfl rfl)
theorem dX3_makeStep_56 : decode cX3_makeStep 56 = .ok (.iload_n 3, 1) := dk_29 (dk_at dksX3_makeStep_2 9 rfl rfl)
theorem dX3_makeStep_57 : decode cX3_makeStep 57 = .ok (.aload_n 0, 1) := dk_42 (dk_at dksX3_makeStep_2 10 rfl rfl)
theorem dX3_makeStep_58 : decode cX3_makeStep 58 = .ok (.iload_n 1, 1) := dk_27 (dk_at dksX3_makeStep_2 11 rfl rfl)
theorem dX3_makeStep_59 : decode cX3_makeStep 59 = .ok (.invokevirtual 108, 3) := dk_182 0 108 (dk_at dksX3_makeStep_2 12 rfl rfl)
theorem dX3_makeStep_62 : decode cX3_makeStep 62 = .ok (.if_icmp .ne 7, 3) := dk_160 0 7 (dk_at dksX3_makeStep_2 15 rfl rfl)
theorem dX3_makeStep_65 : decode cX3_makeStep 65 = .ok (.iconst 1, 1) := dk_4 (dk_at dksX3_makeStep_2 18 rfl rfl)
theorem dX3_makeStep_66 : decode cX3_makeStep 66 = .ok (.goto 4, 3) := dk_167 0 4 (dk_at dksX3_makeStep_2 19 rfl rfl)
theorem dX3_makeStep_69 : decode cX3_makeStep 69 = .ok (.iconst 0, 1) := dk_3 (dk_at dksX3_makeStep_2 22 rfl rfl)
theorem dX3_makeStep_70 : decode cX3_makeStep 70 = .ok (.istore 4, 2) := dk_54 4 (dk_at dksX3_makeStep_3 0 rfl rfl)
theorem dX3_makeStep_72 : decode cX3_makeStep 72 = .ok (.iload 4, 2) := dk_21 4 (dk_at dksX3_makeStep_3 2 rfl rfl)
theorem dX3_makeStep_74 : decode cX3_makeStep 74 = .ok (.ifCond .ne 17, 3) := dk_154 0 17 (dk_at dksX3_makeStep_3 4 rfl rfl)
theorem dX3_makeStep_77 : decode cX3_makeStep 77 = .ok (.aload_n 0, 1) := dk_42 (dk_at dksX3_makeStep_3 7 rfl rfl)
theorem dX3_makeStep_78 : decode cX3_makeStep 78 = .ok (.getfield 7, 3) := dk_180 0 7 (dk_at dksX3_makeStep_3 8 rfl rfl)
theorem dX3_makeStep_81 : decode cX3_makeStep 81 = .ok (.iconst 3, 1) := dk_6 (dk_at dksX3_makeStep_3 11 rfl rfl)
theorem dX3_makeStep_82 : decode cX3_makeStep 82 = .ok (.iaload, 1) := dk_46 (dk_at dksX3_makeStep_3 12 rfl rfl)
theorem dX3_makeStep_83 : decode cX3_makeStep 83 = .ok (.bipush 40, 2) := dk_16 40 (dk_at dksX3_makeStep_3 13 rfl rfl)
theorem dX3_makeStep_85 : decode cX3_makeStep 85 = .ok (.if_icmp .ne 6, 3) := dk_160 0 6 (dk_at dksX3_makeStep_3 15 rfl rfl)
theorem dX3_makeStep_88 : decode cX3_makeStep 88 = .ok (.bipush (-3), 2) := dk_16 253 (dk_at dksX3_makeStep_3 18 rfl rfl)
theorem dX3_makeStep_90 : decode cX3_makeStep 90 = .ok (.ireturn, 1) := dk_172 (dk_at dksX3_makeStep_3 20 rfl rfl)
theorem dX3_makeStep_91 : decode cX3_makeStep 91 = .ok (.aload_n 0, 1) := dk_42 (dk_at dksX3_makeStep_3 21 rfl rfl)
theorem dX3_makeStep_92 : decode cX3_makeStep 92 = .ok (.getfield 7, 3) := dk_180 0 7 (dk_at dksX3_makeStep_4 0 rfl rfl)
theorem dX3_makeStep_95 : decode cX3_makeStep 95 = .ok (.iconst 5, 1) := dk_8 (dk_at dksX3_makeStep_4 3 rfl rfl)
theorem dX3_makeStep_96 : decode cX3_makeStep 96 = .ok (.dup2, 1) := dk_92 (dk_at dksX3_makeStep_4 4 rfl rfl)
theorem dX3_makeStep_97 : decode cX3_makeStep 97 = .ok (.iaload, 1) := dk_46 (dk_at dksX3_makeStep_4 5 rfl rfl)
theorem dX3_makeStep_98 : decode cX3_makeStep 98 = .ok (.iconst 1, 1) := dk_4 (dk_at dksX3_makeStep_4 6 rfl rfl)
theorem dX3_makeStep_99 : decode cX3_makeStep 99 = .ok (.iadd, 1) := dk_96 (dk_at dksX3_makeStep_4 7 rfl rfl)
theorem dX3_makeStep_100 : decode cX3_makeStep 100 = .ok (.iastore, 1) := dk_79 (dk_at dksX3_makeStep_4 8 rfl rfl)
theorem dX3_makeStep_101 : decode cX3_makeStep 101 = .ok (.iload_n 2, 1) := dk_28 (dk_at dksX3_makeStep_4 9 rfl rfl)
theorem dX3_makeStep_102 : decode cX3_makeStep 102 = .ok (.ifCond .ge 44, 3) := dk_156 0 44 (dk_at dksX3_makeStep_4 10 rfl rfl)
theorem dX3_makeStep_105 : decode cX3_makeStep 105 = .ok (.aload_n 0, 1) := dk_42 (dk_at dksX3_makeStep_4 13 rfl rfl)
theorem dX3_makeStep_106 : decode cX3_makeStep 106 = .ok (.getfield 7, 3) := dk_180 0 7 (dk_at dksX3_makeStep_4 14 rfl rfl)
theorem dX3_makeStep_109 : decode cX3_makeStep 109 = .ok (.iconst 4, 1) := dk_7 (dk_at dksX3_makeStep_4 17 rfl rfl)
theorem dX3_makeStep_110 : decode cX3_makeStep 110 = .ok (.iaload, 1) := dk_46 (dk_at dksX3_makeStep_4 18 rfl rfl)
theorem dX3_makeStep_111 : decode cX3_makeStep 111 = .ok (.ifCond .lt 28, 3) := dk_155 0 28 (dk_at dksX3_makeStep_4 19 rfl rfl)
theorem dX3_makeStep_114 : decode cX3_makeStep 114 = .ok (.iload_n 3, 1) := dk_29 (dk_at dksX3_makeStep_4 22 rfl rfl)
theorem dX3_makeStep_115 : decode cX3_makeStep 115 = .ok (.aload_n 0, 1) := dk_42 (dk_at dksX3_makeStep_4 23 rfl rfl)
theorem dX3_makeStep_116 : decode cX3_makeStep 116 = .ok (.aload_n 0, 1) := dk_42 (dk_at dksX3_makeStep_5 0 rfl rfl)
theorem dX3_makeStep_117 : decode cX3_makeStep 117 = .ok (.getfield 7, 3) := dk_180 0 7 (dk_at dksX3_makeStep_5 1 rfl rfl)
theorem dX3_makeStep_120 : decode cX3_makeStep 120 = .ok (.iconst 4, 1) := dk_7 (dk_at dksX3_makeStep_5 4 rfl rfl)
theorem dX3_makeStep_121 : decode cX3_makeStep 121 = .ok (.iaload, 1) := dk_46 (dk_at dksX3_makeStep_5 5 rfl rfl)
theorem dX3_makeStep_122 : decode cX3_makeStep 122 = .ok (.invokevirtual 102, 3) := dk_182 0 102 (dk_at dksX3_makeStep_5 6 rfl rfl)
theorem dX3_makeStep_125 : decode cX3_makeStep 125 = .ok (.aload_n 0, 1) := dk_42 (dk_at dksX3_makeStep_5 9 rfl rfl)
theorem dX3_makeStep_126 : decode cX3_makeStep 126 = .ok (.aload_n 0, 1) := dk_42 (dk_at dksX3_makeStep_5 10 rfl rfl)
theorem dX3_makeStep_127 : decode cX3_makeStep 127 = .ok (.getfield 7, 3) := dk_180 0 7 (dk_at dksX3_makeStep_5 11 rfl rfl)
theorem dX3_makeStep_130 : decode cX3_makeStep 130 = .ok (.iconst 4, 1) := dk_7 (dk_at dksX3_makeStep_5 14 rfl rfl)
theorem dX3_makeStep_131 : decode cX3_makeStep 131 = .ok (.iaload, 1) := dk_46 (dk_at dksX3_makeStep_5 15 rfl rfl)
theorem dX3_makeStep_132 : decode cX3_makeStep 132 = .ok (.invokevirtual 115, 3) := dk_182 0 115 (dk_at dksX3_makeStep_5 16 rfl rfl)
theorem dX3_makeStep_135 : decode cX3_makeStep 135 = .ok (.iadd, 1) := dk_96 (dk_at dksX3_makeStep_5 19 rfl rfl)
theorem dX3_makeStep_136 : decode cX3_makeStep 136 = .ok (.if_icmp .ge 10, 3) := dk_162 0 10 (dk_at dksX3_makeStep_5 20 rfl rfl)
theorem dX3_makeStep_139 : decode cX3_makeStep 139 = .ok (.aload_n 0, 1) := dk_42 (dk_at dksX3_makeStep_5 23 rfl rfl)
theorem dX3_makeStep_140 : decode cX3_makeStep 140 = .ok (.getfield 7, 3) := dk_180 0 7 (dk_at dksX3_makeStep_6 0 rfl rfl)
theorem dX3_makeStep_143 : decode cX3_makeStep 143 = .ok (.iconst 4, 1) := dk_7 (dk_at dksX3_makeStep_6 3 rfl rfl)
theorem dX3_makeStep_144 : decode cX3_makeStep 144 = .ok (.iload_n 1, 1) := dk_27 (dk_at dksX3_makeStep_6 4 rfl rfl)
theorem dX3_makeStep_145 : decode cX3_makeStep 145 = .ok (.iastore, 1) := dk_79 (dk_at dksX3_makeStep_6 5 rfl rfl)
theorem dX3_makeStep_146 : decode cX3_makeStep 146 = .ok (.iload 4, 2) := dk_21 4 (dk_at dksX3_makeStep_6 6 rfl rfl)
theorem dX3_makeStep_148 : decode cX3_makeStep 148 = .ok (.ifCond .eq 5, 3) := dk_153 0 5 (dk_at dksX3_makeStep_6 8 rfl rfl)
theorem dX3_makeStep_151 : decode cX3_makeStep 151 = .ok (.iconst 2, 1) := dk_5 (dk_at dksX3_makeStep_6 11 rfl rfl)
theorem dX3_makeStep_152 : decode cX3_makeStep 152 = .ok (.ireturn, 1) := dk_172 (dk_at dksX3_makeStep_6 12 rfl rfl)
theorem dX3_makeStep_153 : decode cX3_makeStep 153 = .ok (.bipush 84, 2) := dk_16 84 (dk_at dksX3_makeStep_6 13 rfl rfl)
theorem dX3_makeStep_155 : decode cX3_makeStep 155 = .ok (.bipush 9, 2) := dk_16 9 (dk_at dksX3_makeStep_6 15 rfl rfl)
theorem dX3_makeStep_157 : decode cX3_makeStep 157 = .ok (.aload_n 0, 1) := dk_42 (dk_at dksX3_makeStep_6 17 rfl rfl)
theorem dX3_makeStep_158 : decode cX3_makeStep 158 = .ok (.getfield 7, 3) := dk_180 0 7 (dk_at dksX3_makeStep_6 18 rfl rfl)
theorem dX3_makeStep_161 : decode cX3_makeStep 161 = .ok (.iconst 3, 1) := dk_6 (dk_at dksX3_makeStep_6 21 rfl rfl)
theorem dX3_makeStep_162 : decode cX3_makeStep 162 = .ok (.iaload, 1) := dk_46 (dk_at dksX3_makeStep_6 22 rfl rfl)
theorem dX3_makeStep_163 : decode cX3_makeStep 163 = .ok (.imul, 1) := dk_104 (dk_at dksX3_makeStep_6 23 rfl rfl)
theorem dX3_makeStep_164 : decode cX3_makeStep 164 = .ok (.iadd, 1) := dk_96 (dk_at dksX3_makeStep_7 0 rfl rfl)
theorem dX3_makeStep_165 : decode cX3_makeStep 165 = .ok (.istore 5, 2) := dk_54 5 (dk_at dksX3_makeStep_7 1 rfl rfl)
theorem dX3_makeStep_167 : decode cX3_makeStep 167 = .ok (.aload_n 0, 1) := dk_42 (dk_at dksX3_makeStep_7 3 rfl rfl)
theorem dX3_makeStep_168 : decode cX3_makeStep 168 = .ok (.getfield 7, 3) := dk_180 0 7 (dk_at dksX3_makeStep_7 4 rfl rfl)
theorem dX3_makeStep_171 : decode cX3_makeStep 171 = .ok (.iload 5, 2) := dk_21 5 (dk_at dksX3_makeStep_7 7 rfl rfl)
theorem dX3_makeStep_173 : decode cX3_makeStep 173 = .ok (.iload_n 2, 1) := dk_28 (dk_at dksX3_makeStep_7 9 rfl rfl)
theorem dX3_makeStep_174 : decode cX3_makeStep 174 = .ok (.iastore, 1) := dk_79 (dk_at dksX3_makeStep_7 10 rfl rfl)
theorem dX3_makeStep_175 : decode cX3_makeStep 175 = .ok (.iconst 0, 1) := dk_3 (dk_at dksX3_makeStep_7 11 rfl rfl)
theorem dX3_makeStep_176 : decode cX3_makeStep 176 = .ok (.istore 6, 2) := dk_54 6 (dk_at dksX3_makeStep_7 12 rfl rfl)
theorem dX3_makeStep_178 : decode cX3_makeStep 178 = .ok (.iload 6, 2) := dk_21 6 (dk_at dksX3_makeStep_7 14 rfl rfl)
theorem dX3_makeStep_180 : decode cX3_makeStep 180 = .ok (.aload_n 0, 1) := dk_42 (dk_at dksX3_makeStep_7 16 rfl rfl)
theorem dX3_makeStep_181 : decode cX3_makeStep 181 = .ok (.getfield 7, 3) := dk_180 0 7 (dk_at dksX3_makeStep_7 17 rfl rfl)
theorem dX3_makeStep_184 : decode cX3_makeStep 184 = .ok (.iconst 1, 1) := dk_4 (dk_at dksX3_makeStep_7 20 rfl rfl)
theorem dX3_makeStep_185 : decode cX3_makeStep 185 = .ok (.iaload, 1) := dk_46 (dk_at dksX3_makeStep_7 21 rfl rfl)
theorem dX3_makeStep_186 : decode cX3_makeStep 186 = .ok (.if_icmp .ge 46, 3) := dk_162 0 46 (dk_at dksX3_makeStep_8 0 rfl rfl)
theorem dX3_makeStep_189 : decode cX3_makeStep 189 = .ok (.aload_n 0, 1) := dk_42 (dk_at dksX3_makeStep_8 3 rfl rfl)
theorem dX3_makeStep_190 : decode cX3_makeStep 190 = .ok (.getfield 7, 3) := dk_180 0 7 (dk_at dksX3_makeStep_8 4 rfl rfl)
theorem dX3_makeStep_193 : decode cX3_makeStep 193 = .ok (.iload 5, 2) := dk_21 5 (dk_at dksX3_makeStep_8 7 rfl rfl)
theorem dX3_makeStep_195 : decode cX3_makeStep 195 = .ok (.iconst 1, 1) := dk_4 (dk_at dksX3_makeStep_8 9 rfl rfl)
theorem dX3_makeStep_196 : decode cX3_makeStep 196 = .ok (.iadd, 1) := dk_96 (dk_at dksX3_makeStep_8 10 rfl rfl)
theorem dX3_makeStep_197 : decode cX3_makeStep 197 = .ok (.iload 6, 2) := dk_21 6 (dk_at dksX3_makeStep_8 11 rfl rfl)
theorem dX3_makeStep_199 : decode cX3_makeStep 199 = .ok (.iadd, 1) := dk_96 (dk_at dksX3_makeStep_8 13 rfl rfl)
theorem dX3_makeStep_200 : decode cX3_makeStep 200 = .ok (.iload_n 2, 1) := dk_28 (dk_at dksX3_makeStep_8 14 rfl rfl)
theorem dX3_makeStep_201 : decode cX3_makeStep 201 = .ok (.ifCond .ge 23, 3) := dk_156 0 23 (dk_at dksX3_makeStep_8 15 rfl rfl)
theorem dX3_makeStep_204 : decode cX3_makeStep 204 = .ok (.aload_n 0, 1) := dk_42 (dk_at dksX3_makeStep_8 18 rfl rfl)
theorem dX3_makeStep_205 : decode cX3_makeStep 205 = .ok (.getfield 7, 3) := dk_180 0 7 (dk_at dksX3_makeStep_8 19 rfl rfl)
theorem dX3_makeStep_208 : decode cX3_makeStep 208 = .ok (.aload_n 0, 1) := dk_42 (dk_at dksX3_makeStep_8 22 rfl rfl)
theorem dX3_makeStep_209 : decode cX3_makeStep 209 = .ok (.iload_n 1, 1) := dk_27 (dk_at dksX3_makeStep_8 23 rfl rfl)
theorem dX3_makeStep_210 : decode cX3_makeStep 210 = .ok (.iload 6, 2) := dk_21 6 (dk_at dksX3_makeStep_9 0 rfl rfl)
theorem dX3_makeStep_212 : decode cX3_makeStep 212 = .ok (.invokevirtual 81, 3) := dk_182 0 81 (dk_at dksX3_makeStep_9 2 rfl rfl)
theorem dX3_makeStep_215 : decode cX3_makeStep 215 = .ok (.iload 6, 2) := dk_21 6 (dk_at dksX3_makeStep_9 5 rfl rfl)
theorem dX3_makeStep_217 : decode cX3_makeStep 217 = .ok (.invokestatic 64, 3) := dk_184 0 64 (dk_at dksX3_makeStep_9 7 rfl rfl)
theorem dX3_makeStep_220 : decode cX3_makeStep 220 = .ok (.iaload, 1) := dk_46 (dk_at dksX3_makeStep_9 10 rfl rfl)
theorem dX3_makeStep_221 : decode cX3_makeStep 221 = .ok (.goto 4, 3) := dk_167 0 4 (dk_at dksX3_makeStep_9 11 rfl rfl)
theorem dX3_makeStep_224 : decode cX3_makeStep 224 = .ok (.iconst 0, 1) := dk_3 (dk_at dksX3_makeStep_9 14 rfl rfl)
theorem dX3_makeStep_225 : decode cX3_makeStep 225 = .ok (.iastore, 1) := dk_79 (dk_at dksX3_makeStep_9 15 rfl rfl)
theorem dX3_makeStep_226 : decode cX3_makeStep 226 = .ok (.iinc 6 1, 3) := dk_132 6 1 (dk_at dksX3_makeStep_9 16 rfl rfl)
theorem dX3_makeStep_229 : decode cX3_makeStep 229 = .ok (.goto (-51), 3) := dk_167 255 205 (dk_at dksX3_makeStep_9 19 rfl rfl)
theorem dX3_makeStep_232 : decode cX3_makeStep 232 = .ok (.aload_n 0, 1) := dk_42 (dk_at dksX3_makeStep_9 22 rfl rfl)
theorem dX3_makeStep_233 : decode cX3_makeStep 233 = .ok (.getfield 7, 3) := dk_180 0 7 (dk_at dksX3_makeStep_10 0 rfl rfl)
theorem dX3_makeStep_236 : decode cX3_makeStep 236 = .ok (.iconst 3, 1) := dk_6 (dk_at dksX3_makeStep_10 3 rfl rfl)
theorem dX3_makeStep_237 : decode cX3_makeStep 237 = .ok (.dup2, 1) := dk_92 (dk_at dksX3_makeStep_10 4 rfl rfl)
theorem dX3_makeStep_238 : decode cX3_makeStep 238 = .ok (.iaload, 1) := dk_46 (dk_at dksX3_makeStep_10 5 rfl rfl)
theorem dX3_makeStep_239 : decode cX3_makeStep 239 = .ok (.iconst 1, 1) := dk_4 (dk_at dksX3_makeStep_10 6 rfl rfl)
theorem dX3_makeStep_240 : decode cX3_makeStep 240 = .ok (.iadd, 1) := dk_96 (dk_at dksX3_makeStep_10 7 rfl rfl)
theorem dX3_makeStep_241 : decode cX3_makeStep 241 = .ok (.iastore, 1) := dk_79 (dk_at dksX3_makeStep_10 8 rfl rfl)
theorem dX3_makeStep_242 : decode cX3_makeStep 242 = .ok (.iload_n 2, 1) := dk_28 (dk_at dksX3_makeStep_10 9 rfl rfl)
theorem dX3_makeStep_243 : decode cX3_makeStep 243 = .ok (.ifCond .ge 7, 3) := dk_156 0 7 (dk_at dksX3_makeStep_10 10 rfl rfl)
theorem dX3_makeStep_246 : decode cX3_makeStep 246 = .ok (.iconst 1, 1) := dk_4 (dk_at dksX3_makeStep_10 13 rfl rfl)
theorem dX3_makeStep_247 : decode cX3_makeStep 247 = .ok (.goto 4, 3) := dk_167 0 4 (dk_at dksX3_makeStep_10 14 rfl rfl)
theorem dX3_makeStep_250 : decode cX3_makeStep 250 = .ok (.iconst 0, 1) := dk_3 (dk_at dksX3_makeStep_10 17 rfl rfl)
theorem dX3_makeStep_251 : decode cX3_makeStep 251 = .ok (.ireturn, 1) := dk_172 (dk_at dksX3_makeStep_10 18 rfl rfl)
abbrev cX3_masterPlan : ByteArray := prog_18_method_40_code
def yX3_masterPlan : MethodName := ⟨RX3, "masterPlan", "()I"⟩
def dkwX3_masterPlan_2 : List UInt8 := [28, 162, 0, 8, 29, 60, 21, 4, 61, 132, 3, 1, 167, 255, 203, 27, 172]
abbrev dktX3_masterPlan_2 : List UInt8 := dkwX3_masterPlan_2 ++ []
def dkwX3_masterPlan_1 : List UInt8 := [153, 0, 33, 42, 29, 182, 0, 105, 154, 0, 25, 42, 29, 182, 0, 108, 54, 4, 27, 155, 0, 9, 21, 4]
abbrev dktX3_masterPlan_1 : List UInt8 := dkwX3_masterPlan_1 ++ dktX3_masterPlan_2
def dkwX3_masterPlan_0 : List UInt8 := [16, 251, 60, 3, 61, 3, 62, 29, 4, 42, 180, 0, 7, 3, 46, 120, 162, 0, 47, 42, 29, 182, 0, 84]
abbrev dktX3_masterPlan_0 : List UInt8 := dkwX3_masterPlan_0 ++ dktX3_masterPlan_1
theorem dksX3_masterPlan_0 : cX3_masterPlan.data.toList.drop 0 = dktX3_masterPlan_0 := by decide +kernel
theorem dksX3_masterPlan_1 : cX3_masterPlan.data.toList.drop 24 = dktX3_masterPlan_1 := dk_seg dksX3_masterPlan_0 24 rfl rfl
theorem dksX3_masterPlan_2 : cX3_masterPlan.data.toList.drop 48 = dktX3_masterPlan_2 := dk_seg dksX3_masterPlan_1 24 rfl rfl
theorem dX3_masterPlan_0 : decode cX3_masterPlan 0 = .ok (.bipush (-5), 2) := dk_16 251 (dk_at dksX3_masterPlan_0 0 rfl rfl)
theorem dX3_masterPlan_2 : decode cX3_masterPlan 2 = .ok (.istore_n 1, 1) := dk_60 (dk_at dksX3_masterPlan_0 2 rfl rfl)
theorem dX3_masterPlan_3 : decode cX3_masterPlan 3 = .ok (.iconst 0, 1) := dk_3 (dk_at dksX3_masterPlan_0 3 rfl rfl)
theorem dX3_masterPlan_4 : decode cX3_masterPlan 4 = .ok (.istore_n 2, 1) := dk_61 (dk_at dksX3_masterPlan_0 4 rfl rfl)
theorem dX3_masterPlan_5 : decode cX3_masterPlan 5 = .ok (.iconst 0, 1) := dk_3 (dk_at dksX3_masterPlan_0 5 rfl rfl)
theorem dX3_masterPlan_6 : decode cX3_masterPlan 6 = .ok (.istore_n 3, 1) := dk_62 (dk_at dksX3_masterPlan_0 6 rfl rfl)
theorem dX3_masterPlan_7 : decode cX3_masterPlan 7 = .ok (.iload_n 3, 1) := dk_29 (dk_at dksX3_masterPlan_0 7 rfl rfl)
theorem dX3_masterPlan_8 : decode cX3_masterPlan 8 = .ok (.iconst 1, 1) := dk_4 (dk_at dksX3_masterPlan_0 8 rfl rfl)
theorem dX3_masterPlan_9 : decode cX3_masterPlan 9 = .ok (.aload_n 0, 1) := dk_42 (dk_at dksX3_masterPlan_0 9 rfl rfl)
theorem dX3_masterPlan_10 : decode cX3_masterPlan 10 = .ok (.getfield 7, 3) := dk_180 0 7 (dk_at dksX3_masterPlan_0 10 rfl rfl)
theorem dX3_masterPlan_13 : decode cX3_masterPlan 13 = .ok (.iconst 0, 1) := dk_3 (dk_at dksX3_masterPlan_0 13 rfl rfl)
theorem dX3_masterPlan_14 : decode cX3_masterPlan 14 = .ok (.iaload, 1) := dk_46 (dk_at dksX3_masterPlan_0 14 rfl rfl)
theorem dX3_masterPlan_15 : decode cX3_masterPlan 15 = .ok (.ishl, 1) := dk_120 (dk_at dksX3_masterPlan_0 15 rfl rfl)
theorem dX3_masterPlan_16 : decode cX3_masterPlan 16 = .ok (.if_icmp .ge 47, 3) := dk_162 0 47 (dk_at dksX3_masterPlan_0 16 rfl rfl)
theorem dX3_masterPlan_19 : decode cX3_masterPlan 19 = .ok (.aload_n 0, 1) := dk_42 (dk_at dksX3_masterPlan_0 19 rfl rfl)
theorem dX3_masterPlan_20 : decode cX3_masterPlan 20 = .ok (.iload_n 3, 1) := dk_29 (dk_at dksX3_masterPlan_0 20 rfl rfl)
theorem dX3_masterPlan_21 : decode cX3_masterPlan 21 = .ok (.invokevirtual 84, 3) := dk_182 0 84 (dk_at dksX3_masterPlan_0 21 rfl rfl)
theorem dX3_masterPlan_24 : decode cX3_masterPlan 24 = .ok (.ifCond .eq 33, 3) := dk_153 0 33 (dk_at dksX3_masterPlan_1 0 rfl rfl)
theorem dX3_masterPlan_27 : decode cX3_masterPlan 27 = .ok (.aload_n 0, 1) := dk_42 (dk_at dksX3_masterPlan_1 3 rfl rfl)
theorem dX3_masterPlan_28 : decode cX3_masterPlan 28 = .ok (.iload_n 3, 1) := dk_29 (dk_at dksX3_masterPlan_1 4 rfl rfl)
theorem dX3_masterPlan_29 : decode cX3_masterPlan 29 = .ok (.invokevirtual 105, 3) := dk_182 0 105 (dk_at dksX3_masterPlan_1 5 rfl rfl)
theorem dX3_masterPlan_32 : decode cX3_masterPlan 32 = .ok (.ifCond .ne 25, 3) := dk_154 0 25 (dk_at dksX3_masterPlan_1 8 rfl rfl)
theorem dX3_masterPlan_35 : decode cX3_masterPlan 35 = .ok (.aload_n 0, 1) := dk_42 (dk_at dksX3_masterPlan_1 11 rfl rfl)
theorem dX3_masterPlan_36 : decode cX3_masterPlan 36 = .ok (.iload_n 3, 1) := dk_29 (dk_at dksX3_masterPlan_1 12 rfl rfl)
theorem dX3_masterPlan_37 : decode cX3_masterPlan 37 = .ok (.invokevirtual 108, 3) := dk_182 0 108 (dk_at dksX3_masterPlan_1 13 rfl rfl)
theorem dX3_masterPlan_40 : decode cX3_masterPlan 40 = .ok (.istore 4, 2) := dk_54 4 (dk_at dksX3_masterPlan_1 16 rfl rfl)
theorem dX3_masterPlan_42 : decode cX3_masterPlan 42 = .ok (.iload_n 1, 1) := dk_27 (dk_at dksX3_masterPlan_1 18 rfl rfl)
theorem dX3_masterPlan_43 : decode cX3_masterPlan 43 = .ok (.ifCond .lt 9, 3) := dk_155 0 9 (dk_at dksX3_masterPlan_1 19 rfl rfl)
theorem dX3_masterPlan_46 : decode cX3_masterPlan 46 = .ok (.iload 4, 2) := dk_21 4 (dk_at dksX3_masterPlan_1 22 rfl rfl)
theorem dX3_masterPlan_48 : decode cX3_masterPlan 48 = .ok (.iload_n 2, 1) := dk_28 (dk_at dksX3_masterPlan_2 0 rfl rfl)
theorem dX3_masterPlan_49 : decode cX3_masterPlan 49 = .ok (.if_icmp .ge 8, 3) := dk_162 0 8 (dk_at dksX3_masterPlan_2 1 rfl rfl)
theorem dX3_masterPlan_52 : decode cX3_masterPlan 52 = .ok (.iload_n 3, 1) := dk_29 (dk_at dksX3_masterPlan_2 4 rfl rfl)
theorem dX3_masterPlan_53 : decode cX3_masterPlan 53 = .ok (.istore_n 1, 1) := dk_60 (dk_at dksX3_masterPlan_2 5 rfl rfl)
theorem dX3_masterPlan_54 : decode cX3_masterPlan 54 = .ok (.iload 4, 2) := dk_21 4 (dk_at dksX3_masterPlan_2 6 rfl rfl)
theorem dX3_masterPlan_56 : decode cX3_masterPlan 56 = .ok (.istore_n 2, 1) := dk_61 (dk_at dksX3_masterPlan_2 8 rfl rfl)
theorem dX3_masterPlan_57 : decode cX3_masterPlan 57 = .ok (.iinc 3 1, 3) := dk_132 3 1 (dk_at dksX3_masterPlan_2 9 rfl rfl)
theorem dX3_masterPlan_60 : decode cX3_masterPlan 60 = .ok (.goto (-53), 3) := dk_167 255 203 (dk_at dksX3_masterPlan_2 12 rfl rfl)
theorem dX3_masterPlan_63 : decode cX3_masterPlan 63 = .ok (.iload_n 1, 1) := dk_27 (dk_at dksX3_masterPlan_2 15 rfl rfl)
theorem dX3_masterPlan_64 : decode cX3_masterPlan 64 = .ok (.ireturn, 1) := dk_172 (dk_at dksX3_masterPlan_2 16 rfl rfl)
abbrev cX3_isAllowed : ByteArray := prog_18_method_26_code
def yX3_isAllowed : MethodName := ⟨RX3, "isAllowed", "(I)Z"⟩
def dkwX3_isAllowed_1 : List UInt8 := [167, 0, 4, 3, 172]
abbrev dktX3_isAllowed_1 : List UInt8 := dkwX3_isAllowed_1 ++ []
def dkwX3_isAllowed_0 : List UInt8 := [27, 184, 0, 71, 42, 180, 0, 7, 5, 46, 163, 0, 15, 42, 27, 182, 0, 75, 154, 0, 7, 4]
abbrev dktX3_isAllowed_0 : List UInt8 := dkwX3_isAllowed_0 ++ dktX3_isAllowed_1
theorem dksX3_isAllowed_0 : cX3_isAllowed.data.toList.drop 0 = dktX3_isAllowed_0 := by decide +kernel
theorem dksX3_isAllowed_1 : cX3_isAllowed.data.toList.drop 22 = dktX3_isAllowed_1 := dk_seg dksX3_isAllowed_0 22 rfl rfl
theorem dX3_isAllowed_0 : decode cX3_isAllowed 0 = .ok (.iload_n 1, 1) := dk_27 (dk_at dksX3_isAllowed_0 0 rfl rfl)
theorem dX3_isAllowed_1 : decode cX3_isAllowed 1 = .ok (.invokestatic 71, 3) := dk_184 0 71 (dk_at dksX3_isAllowed_0 1 rfl rfl)
theorem dX3_isAllowed_4 : decode cX3_isAllowed 4 = .ok (.aload_n 0, 1) := dk_42 (dk_at dksX3_isAllowed_0 4 rfl rfl)
theorem dX3_isAllowed_5 : decode cX3_isAllowed 5 = .ok (.getfield 7, 3) := dk_180 0 7 (dk_at dksX3_isAllowed_0 5 rfl rfl)
theorem dX3_isAllowed_8 : decode cX3_isAllowed 8 = .ok (.iconst 2, 1) := dk_5 (dk_at dksX3_isAllowed_0 8 rfl rfl)
theorem dX3_isAllowed_9 : decode cX3_isAllowed 9 = .ok (.iaload, 1) := dk_46 (dk_at dksX3_isAllowed_0 9 rfl rfl)
theorem dX3_isAllowed_10 : decode cX3_isAllowed 10 = .ok (.if_icmp .gt 15, 3) := dk_163 0 15 (dk_at dksX3_isAllowed_0 10 rfl rfl)
theorem dX3_isAllowed_13 : decode cX3_isAllowed 13 = .ok (.aload_n 0, 1) := dk_42 (dk_at dksX3_isAllowed_0 13 rfl rfl)
theorem dX3_isAllowed_14 : decode cX3_isAllowed 14 = .ok (.iload_n 1, 1) := dk_27 (dk_at dksX3_isAllowed_0 14 rfl rfl)
theorem dX3_isAllowed_15 : decode cX3_isAllowed 15 = .ok (.invokevirtual 75, 3) := dk_182 0 75 (dk_at dksX3_isAllowed_0 15 rfl rfl)
theorem dX3_isAllowed_18 : decode cX3_isAllowed 18 = .ok (.ifCond .ne 7, 3) := dk_154 0 7 (dk_at dksX3_isAllowed_0 18 rfl rfl)
theorem dX3_isAllowed_21 : decode cX3_isAllowed 21 = .ok (.iconst 1, 1) := dk_4 (dk_at dksX3_isAllowed_0 21 rfl rfl)
theorem dX3_isAllowed_22 : decode cX3_isAllowed 22 = .ok (.goto 4, 3) := dk_167 0 4 (dk_at dksX3_isAllowed_1 0 rfl rfl)
theorem dX3_isAllowed_25 : decode cX3_isAllowed 25 = .ok (.iconst 0, 1) := dk_3 (dk_at dksX3_isAllowed_1 3 rfl rfl)
theorem dX3_isAllowed_26 : decode cX3_isAllowed 26 = .ok (.ireturn, 1) := dk_172 (dk_at dksX3_isAllowed_1 4 rfl rfl)
abbrev cX3_excludes : ByteArray := prog_18_method_25_code
def yX3_excludes : MethodName := ⟨RX3, "excludes", "(I)Z"⟩
def dkwX3_excludes_2 : List UInt8 := [132, 3, 1, 167, 255, 211, 28, 172]
abbrev dktX3_excludes_2 : List UInt8 := dkwX3_excludes_2 ++ []
def dkwX3_excludes_1 : List UInt8 := [153, 0, 21, 27, 42, 180, 0, 7, 16, 77, 29, 96, 46, 126, 153, 0, 7, 4, 167, 0, 4, 3, 61]
abbrev dktX3_excludes_1 : List UInt8 := dkwX3_excludes_1 ++ dktX3_excludes_2
def dkwX3_excludes_0 : List UInt8 := [3, 61, 3, 62, 29, 42, 180, 0, 7, 3, 46, 162, 0, 41, 28, 154, 0, 25, 27, 29, 184, 0, 67]
abbrev dktX3_excludes_0 : List UInt8 := dkwX3_excludes_0 ++ dktX3_excludes_1
theorem dksX3_excludes_0 : cX3_excludes.data.toList.drop 0 = dktX3_excludes_0 := by decide +kernel
theorem dksX3_excludes_1 : cX3_excludes.data.toList.drop 23 = dktX3_excludes_1 := dk_seg dksX3_excludes_0 23 rfl rfl
theorem dksX3_excludes_2 : cX3_excludes.data.toList.drop 46 = dktX3_excludes_2 := dk_seg dksX3_excludes_1 23 rfl rfl
theorem dX3_excludes_0 : decode cX3_excludes 0 = .ok (.iconst 0, 1) := dk_3 (dk_at dksX3_excludes_0 0 rfl rfl)
theorem dX3_excludes_1 : decode cX3_excludes 1 = .ok (.istore_n 2, 1) := dk_61 (dk_at dksX3_excludes_0 1 rfl rfl)
theorem dX3_excludes_2 : decode cX3_excludes 2 = .ok (.iconst 0, 1) := dk_3 (dk_at dksX3_excludes_0 2 rfl rfl)
theorem dX3_excludes_3 : decode cX3_excludes 3 = .ok (.istore_n 3, 1) := dk_62 (dk_at dksX3_excludes_0 3 rfl rfl)
theorem dX3_excludes_4 : decode cX3_excludes 4 = .ok (.iload_n 3, 1) := dk_29 (dk_at dksX3_excludes_0 4 rfl rfl)
theorem dX3_excludes_5 : decode cX3_excludes 5 = .ok (.aload_n 0, 1) := dk_42 (dk_at dksX3_excludes_0 5 rfl rfl)
theorem dX3_excludes_6 : decode cX3_excludes 6 = .ok (.getfield 7, 3) := dk_180 0 7 (dk_at dksX3_excludes_0 6 rfl rfl)
theorem dX3_excludes_9 : decode cX3_excludes 9 = .ok (.iconst 0, 1) := dk_3 (dk_at dksX3_excludes_0 9 rfl rfl)
theorem dX3_excludes_10 : decode cX3_excludes 10 = .ok (.iaload, 1) := dk_46 (dk_at dksX3_excludes_0 10 rfl rfl)
theorem dX3_excludes_11 : decode cX3_excludes 11 = .ok (.if_icmp .ge 41, 3) := dk_162 0 41 (dk_at dksX3_excludes_0 11 rfl rfl)
theorem dX3_excludes_14 : decode cX3_excludes 14 = .ok (.iload_n 2, 1) := dk_28 (dk_at dksX3_excludes_0 14 rfl rfl)
theorem dX3_excludes_15 : decode cX3_excludes 15 = .ok (.ifCond .ne 25, 3) := dk_154 0 25 (dk_at dksX3_excludes_0 15 rfl rfl)
theorem dX3_excludes_18 : decode cX3_excludes 18 = .ok (.iload_n 1, 1) := dk_27 (dk_at dksX3_excludes_0 18 rfl rfl)
theorem dX3_excludes_19 : decode cX3_excludes 19 = .ok (.iload_n 3, 1) := dk_29 (dk_at dksX3_excludes_0 19 rfl rfl)
theorem dX3_excludes_20 : decode cX3_excludes 20 = .ok (.invokestatic 67, 3) := dk_184 0 67 (dk_at dksX3_excludes_0 20 rfl rfl)
theorem dX3_excludes_23 : decode cX3_excludes 23 = .ok (.ifCond .eq 21, 3) := dk_153 0 21 (dk_at dksX3_excludes_1 0 rfl rfl)
theorem dX3_excludes_26 : decode cX3_excludes 26 = .ok (.iload_n 1, 1) := dk_27 (dk_at dksX3_excludes_1 3 rfl rfl)
theorem dX3_excludes_27 : decode cX3_excludes 27 = .ok (.aload_n 0, 1) := dk_42 (dk_at dksX3_excludes_1 4 rfl rfl)
theorem dX3_excludes_28 : decode cX3_excludes 28 = .ok (.getfield 7, 3) := dk_180 0 7 (dk_at dksX3_excludes_1 5 rfl rfl)
theorem dX3_excludes_31 : decode cX3_excludes 31 = .ok (.bipush 77, 2) := dk_16 77 (dk_at dksX3_excludes_1 8 rfl rfl)
theorem dX3_excludes_33 : decode cX3_excludes 33 = .ok (.iload_n 3, 1) := dk_29 (dk_at dksX3_excludes_1 10 rfl rfl)
theorem dX3_excludes_34 : decode cX3_excludes 34 = .ok (.iadd, 1) := dk_96 (dk_at dksX3_excludes_1 11 rfl rfl)
theorem dX3_excludes_35 : decode cX3_excludes 35 = .ok (.iaload, 1) := dk_46 (dk_at dksX3_excludes_1 12 rfl rfl)
theorem dX3_excludes_36 : decode cX3_excludes 36 = .ok (.iand, 1) := dk_126 (dk_at dksX3_excludes_1 13 rfl rfl)
theorem dX3_excludes_37 : decode cX3_excludes 37 = .ok (.ifCond .eq 7, 3) := dk_153 0 7 (dk_at dksX3_excludes_1 14 rfl rfl)
theorem dX3_excludes_40 : decode cX3_excludes 40 = .ok (.iconst 1, 1) := dk_4 (dk_at dksX3_excludes_1 17 rfl rfl)
theorem dX3_excludes_41 : decode cX3_excludes 41 = .ok (.goto 4, 3) := dk_167 0 4 (dk_at dksX3_excludes_1 18 rfl rfl)
theorem dX3_excludes_44 : decode cX3_excludes 44 = .ok (.iconst 0, 1) := dk_3 (dk_at dksX3_excludes_1 21 rfl rfl)
theorem dX3_excludes_45 : decode cX3_excludes 45 = .ok (.istore_n 2, 1) := dk_61 (dk_at dksX3_excludes_1 22 rfl rfl)
theorem dX3_excludes_46 : decode cX3_excludes 46 = .ok (.iinc 3 1, 3) := dk_132 3 1 (dk_at dksX3_excludes_2 0 rfl rfl)
theorem dX3_excludes_49 : decode cX3_excludes 49 = .ok (.goto (-45), 3) := dk_167 255 211 (dk_at dksX3_excludes_2 3 rfl rfl)
theorem dX3_excludes_52 : decode cX3_excludes 52 = .ok (.iload_n 2, 1) := dk_28 (dk_at dksX3_excludes_2 6 rfl rfl)
theorem dX3_excludes_53 : decode cX3_excludes 53 = .ok (.ireturn, 1) := dk_172 (dk_at dksX3_excludes_2 7 rfl rfl)
abbrev cX3_raysMissed : ByteArray := prog_18_method_38_code
def yX3_raysMissed : MethodName := ⟨RX3, "raysMissed", "(I)I"⟩
def dkwX3_raysMissed_1 : List UInt8 := [29, 27, 182, 0, 96, 154, 0, 7, 4, 167, 0, 4, 3, 96, 61, 132, 3, 1, 167, 255, 218, 28, 172]
abbrev dktX3_raysMissed_1 : List UInt8 := dkwX3_raysMissed_1 ++ []
def dkwX3_raysMissed_0 : List UInt8 := [3, 61, 3, 62, 29, 42, 180, 0, 7, 6, 46, 162, 0, 34, 28, 42, 29, 182, 0, 93, 153, 0, 16, 42]
abbrev dktX3_raysMissed_0 : List UInt8 := dkwX3_raysMissed_0 ++ dktX3_raysMissed_1
theorem dksX3_raysMissed_0 : cX3_raysMissed.data.toList.drop 0 = dktX3_raysMissed_0 := by decide +kernel
theorem dksX3_raysMissed_1 : cX3_raysMissed.data.toList.drop 24 = dktX3_raysMissed_1 := dk_seg dksX3_raysMissed_0 24 rfl rfl
theorem dX3_raysMissed_0 : decode cX3_raysMissed 0 = .ok (.iconst 0, 1) := dk_3 (dk_at dksX3_raysMissed_0 0 rfl rfl)
theorem dX3_raysMissed_1 : decode cX3_raysMissed 1 = .ok (.istore_n 2, 1) := dk_61 (dk_at dksX3_raysMissed_0 1 rfl rfl)
theorem dX3_raysMissed_2 : decode cX3_raysMissed 2 = .ok (.iconst 0, 1) := dk_3 (dk_at dksX3_raysMissed_0 2 rfl rfl)
theorem dX3_raysMissed_3 : decode cX3_raysMissed 3 = .ok (.istore_n 3, 1) := dk_62 (dk_at dksX3_raysMissed_0 3 rfl rfl)
theorem dX3_raysMissed_4 : decode cX3_raysMissed 4 = .ok (.iload_n 3, 1) := dk_29 (dk_at dksX3_raysMissed_0 4 rfl rfl)
theorem dX3_raysMissed_5 : decode cX3_raysMissed 5 = .ok (.aload_n 0, 1) := dk_42 (dk_at dksX3_raysMissed_0 5 rfl rfl)
theorem dX3_raysMissed_6 : decode cX3_raysMissed 6 = .ok (.getfield 7, 3) := dk_180 0 7 (dk_at dksX3_raysMissed_0 6 rfl rfl)
theorem dX3_raysMissed_9 : decode cX3_raysMissed 9 = .ok (.iconst 3, 1) := dk_6 (dk_at dksX3_raysMissed_0 9 rfl rfl)
theorem dX3_raysMissed_10 : decode cX3_raysMissed 10 = .ok (.iaload, 1) := dk_46 (dk_at dksX3_raysMissed_0 10 rfl rfl)
theorem dX3_raysMissed_11 : decode cX3_raysMissed 11 = .ok (.if_icmp .ge 34, 3) := dk_162 0 34 (dk_at dksX3_raysMissed_0 11 rfl rfl)
theorem dX3_raysMissed_14 : decode cX3_raysMissed 14 = .ok (.iload_n 2, 1) := dk_28 (dk_at dksX3_raysMissed_0 14 rfl rfl)
theorem dX3_raysMissed_15 : decode cX3_raysMissed 15 = .ok (.aload_n 0, 1) := dk_42 (dk_at dksX3_raysMissed_0 15 rfl rfl)
theorem dX3_raysMissed_16 : decode cX3_raysMissed 16 = .ok (.iload_n 3, 1) := dk_29 (dk_at dksX3_raysMissed_0 16 rfl rfl)
theorem dX3_raysMissed_17 : decode cX3_raysMissed 17 = .ok (.invokevirtual 93, 3) := dk_182 0 93 (dk_at dksX3_raysMissed_0 17 rfl rfl)
theorem dX3_raysMissed_20 : decode cX3_raysMissed 20 = .ok (.ifCond .eq 16, 3) := dk_153 0 16 (dk_at dksX3_raysMissed_0 20 rfl rfl)
theorem dX3_raysMissed_23 : decode cX3_raysMissed 23 = .ok (.aload_n 0, 1) := dk_42 (dk_at dksX3_raysMissed_0 23 rfl rfl)
theorem dX3_raysMissed_24 : decode cX3_raysMissed 24 = .ok (.iload_n 3, 1) := dk_29 (dk_at dksX3_raysMissed_1 0 rfl rfl)
theorem dX3_raysMissed_25 : decode cX3_raysMissed 25 = .ok (.iload_n 1, 1) := dk_27 (dk_at dksX3_raysMissed_1 1 rfl rfl)
theorem dX3_raysMissed_26 : decode cX3_raysMissed 26 = .ok (.invokevirtual 96, 3) := dk_182 0 96 (dk_at dksX3_raysMissed_1 2 rfl rfl)
theorem dX3_raysMissed_29 : decode cX3_raysMissed 29 = .ok (.ifCond .ne 7, 3) := dk_154 0 7 (dk_at dksX3_raysMissed_1 5 rfl rfl)
theorem dX3_raysMissed_32 : decode cX3_raysMissed 32 = .ok (.iconst 1, 1) := dk_4 (dk_at dksX3_raysMissed_1 8 rfl rfl)
theorem dX3_raysMissed_33 : decode cX3_raysMissed 33 = .ok (.goto 4, 3) := dk_167 0 4 (dk_at dksX3_raysMissed_1 9 rfl rfl)
theorem dX3_raysMissed_36 : decode cX3_raysMissed 36 = .ok (.iconst 0, 1) := dk_3 (dk_at dksX3_raysMissed_1 12 rfl rfl)
theorem dX3_raysMissed_37 : decode cX3_raysMissed 37 = .ok (.iadd, 1) := dk_96 (dk_at dksX3_raysMissed_1 13 rfl rfl)
theorem dX3_raysMissed_38 : decode cX3_raysMissed 38 = .ok (.istore_n 2, 1) := dk_61 (dk_at dksX3_raysMissed_1 14 rfl rfl)
theorem dX3_raysMissed_39 : decode cX3_raysMissed 39 = .ok (.iinc 3 1, 3) := dk_132 3 1 (dk_at dksX3_raysMissed_1 15 rfl rfl)
theorem dX3_raysMissed_42 : decode cX3_raysMissed 42 = .ok (.goto (-38), 3) := dk_167 255 218 (dk_at dksX3_raysMissed_1 18 rfl rfl)
theorem dX3_raysMissed_45 : decode cX3_raysMissed 45 = .ok (.iload_n 2, 1) := dk_28 (dk_at dksX3_raysMissed_1 21 rfl rfl)
theorem dX3_raysMissed_46 : decode cX3_raysMissed 46 = .ok (.ireturn, 1) := dk_172 (dk_at dksX3_raysMissed_1 22 rfl rfl)
abbrev cX3_isRay : ByteArray := prog_18_method_34_code
def yX3_isRay : MethodName := ⟨RX3, "isRay", "(I)Z"⟩
def dkwX3_isRay_0 : List UInt8 := [42, 180, 0, 7, 16, 84, 16, 9, 27, 104, 96, 46, 155, 0, 7, 4, 167, 0, 4, 3, 172]
abbrev dktX3_isRay_0 : List UInt8 := dkwX3_isRay_0 ++ []
theorem dksX3_isRay_0 : cX3_isRay.data.toList.drop 0 = dktX3_isRay_0 := by decide +kernel
theorem dX3_isRay_0 : decode cX3_isRay 0 = .ok (.aload_n 0, 1) := dk_42 (dk_at dksX3_isRay_0 0 rfl rfl)
theorem dX3_isRay_1 : decode cX3_isRay 1 = .ok (.getfield 7, 3) := dk_180 0 7 (dk_at dksX3_isRay_0 1 rfl rfl)
theorem dX3_isRay_4 : decode cX3_isRay 4 = .ok (.bipush 84, 2) := dk_16 84 (dk_at dksX3_isRay_0 4 rfl rfl)
theorem dX3_isRay_6 : decode cX3_isRay 6 = .ok (.bipush 9, 2) := dk_16 9 (dk_at dksX3_isRay_0 6 rfl rfl)
theorem dX3_isRay_8 : decode cX3_isRay 8 = .ok (.iload_n 1, 1) := dk_27 (dk_at dksX3_isRay_0 8 rfl rfl)
theorem dX3_isRay_9 : decode cX3_isRay 9 = .ok (.imul, 1) := dk_104 (dk_at dksX3_isRay_0 9 rfl rfl)
theorem dX3_isRay_10 : decode cX3_isRay 10 = .ok (.iadd, 1) := dk_96 (dk_at dksX3_isRay_0 10 rfl rfl)
theorem dX3_isRay_11 : decode cX3_isRay 11 = .ok (.iaload, 1) := dk_46 (dk_at dksX3_isRay_0 11 rfl rfl)
theorem dX3_isRay_12 : decode cX3_isRay 12 = .ok (.ifCond .lt 7, 3) := dk_155 0 7 (dk_at dksX3_isRay_0 12 rfl rfl)
theorem dX3_isRay_15 : decode cX3_isRay 15 = .ok (.iconst 1, 1) := dk_4 (dk_at dksX3_isRay_0 15 rfl rfl)
theorem dX3_isRay_16 : decode cX3_isRay 16 = .ok (.goto 4, 3) := dk_167 0 4 (dk_at dksX3_isRay_0 16 rfl rfl)
theorem dX3_isRay_19 : decode cX3_isRay 19 = .ok (.iconst 0, 1) := dk_3 (dk_at dksX3_isRay_0 19 rfl rfl)
theorem dX3_isRay_20 : decode cX3_isRay 20 = .ok (.ireturn, 1) := dk_172 (dk_at dksX3_isRay_0 20 rfl rfl)
abbrev cX3_asked : ByteArray := prog_18_method_37_code
def yX3_asked : MethodName := ⟨RX3, "asked", "(II)I"⟩
def dkwX3_asked_0 : List UInt8 := [28, 42, 42, 180, 0, 7, 16, 84, 16, 9, 27, 104, 96, 46, 182, 0, 78, 126, 184, 0, 71, 172]
abbrev dktX3_asked_0 : List UInt8 := dkwX3_asked_0 ++ []
theorem dksX3_asked_0 : cX3_asked.data.toList.drop 0 = dktX3_asked_0 := by decide +kernel
theorem dX3_asked_0 : decode cX3_asked 0 = .ok (.iload_n 2, 1) := dk_28 (dk_at dksX3_asked_0 0 rfl rfl)
theorem dX3_asked_1 : decode cX3_asked 1 = .ok (.aload_n 0, 1) := dk_42 (dk_at dksX3_asked_0 1 rfl rfl)
theorem dX3_asked_2 : decode cX3_asked 2 = .ok (.aload_n 0, 1) := dk_42 (dk_at dksX3_asked_0 2 rfl rfl)
theorem dX3_asked_3 : decode cX3_asked 3 = .ok (.getfield 7, 3) := dk_180 0 7 (dk_at dksX3_asked_0 3 rfl rfl)
theorem dX3_asked_6 : decode cX3_asked 6 = .ok (.bipush 84, 2) := dk_16 84 (dk_at dksX3_asked_0 6 rfl rfl)
theorem dX3_asked_8 : decode cX3_asked 8 = .ok (.bipush 9, 2) := dk_16 9 (dk_at dksX3_asked_0 8 rfl rfl)
theorem dX3_asked_10 : decode cX3_asked 10 = .ok (.iload_n 1, 1) := dk_27 (dk_at dksX3_asked_0 10 rfl rfl)
theorem dX3_asked_11 : decode cX3_asked 11 = .ok (.imul, 1) := dk_104 (dk_at dksX3_asked_0 11 rfl rfl)
theorem dX3_asked_12 : decode cX3_asked 12 = .ok (.iadd, 1) := dk_96 (dk_at dksX3_asked_0 12 rfl rfl)
theorem dX3_asked_13 : decode cX3_asked 13 = .ok (.iaload, 1) := dk_46 (dk_at dksX3_asked_0 13 rfl rfl)
theorem dX3_asked_14 : decode cX3_asked 14 = .ok (.invokevirtual 78, 3) := dk_182 0 78 (dk_at dksX3_asked_0 14 rfl rfl)
theorem dX3_asked_17 : decode cX3_asked 17 = .ok (.iand, 1) := dk_126 (dk_at dksX3_asked_0 17 rfl rfl)
theorem dX3_asked_18 : decode cX3_asked 18 = .ok (.invokestatic 71, 3) := dk_184 0 71 (dk_at dksX3_asked_0 18 rfl rfl)
theorem dX3_asked_21 : decode cX3_asked 21 = .ok (.ireturn, 1) := dk_172 (dk_at dksX3_asked_0 21 rfl rfl)
abbrev cX3_reachedFrom : ByteArray := prog_18_method_27_code
def yX3_reachedFrom : MethodName := ⟨RX3, "reachedFrom", "(I)I"⟩
def dkwX3_reachedFrom_1 : List UInt8 := [46, 16, 100, 162, 0, 9, 4, 29, 120, 167, 0, 4, 3, 128, 61, 132, 3, 1, 167, 255, 218, 28, 172]
abbrev dktX3_reachedFrom_1 : List UInt8 := dkwX3_reachedFrom_1 ++ []
def dkwX3_reachedFrom_0 : List UInt8 := [3, 61, 3, 62, 29, 42, 180, 0, 7, 3, 46, 162, 0, 34, 28, 42, 180, 0, 7, 29, 27, 184, 0, 64]
abbrev dktX3_reachedFrom_0 : List UInt8 := dkwX3_reachedFrom_0 ++ dktX3_reachedFrom_1
theorem dksX3_reachedFrom_0 : cX3_reachedFrom.data.toList.drop 0 = dktX3_reachedFrom_0 := by decide +kernel
theorem dksX3_reachedFrom_1 : cX3_reachedFrom.data.toList.drop 24 = dktX3_reachedFrom_1 := dk_seg dksX3_reachedFrom_0 24 rfl rfl
theorem dX3_reachedFrom_0 : decode cX3_reachedFrom 0 = .ok (.iconst 0, 1) := dk_3 (dk_at dksX3_reachedFrom_0 0 rfl rfl)
theorem dX3_reachedFrom_1 : decode cX3_reachedFrom 1 = .ok (.istore_n 2, 1) := dk_61 (dk_at dksX3_reachedFrom_0 1 rfl rfl)
theorem dX3_reachedFrom_2 : decode cX3_reachedFrom 2 = .ok (.iconst 0, 1) := dk_3 (dk_at dksX3_reachedFrom_0 2 rfl rfl)
theorem dX3_reachedFrom_3 : decode cX3_reachedFrom 3 = .ok (.istore_n 3, 1) := dk_62 (dk_at dksX3_reachedFrom_0 3 rfl rfl)
theorem dX3_reachedFrom_4 : decode cX3_reachedFrom 4 = .ok (.iload_n 3, 1) := dk_29 (dk_at dksX3_reachedFrom_0 4 rfl rfl)
theorem dX3_reachedFrom_5 : decode cX3_reachedFrom 5 = .ok (.aload_n 0, 1) := dk_42 (dk_at dksX3_reachedFrom_0 5 rfl rfl)
theorem dX3_reachedFrom_6 : decode cX3_reachedFrom 6 = .ok (.getfield 7, 3) := dk_180 0 7 (dk_at dksX3_reachedFrom_0 6 rfl rfl)
theorem dX3_reachedFrom_9 : decode cX3_reachedFrom 9 = .ok (.iconst 0, 1) := dk_3 (dk_at dksX3_reachedFrom_0 9 rfl rfl)
theorem dX3_reachedFrom_10 : decode cX3_reachedFrom 10 = .ok (.iaload, 1) := dk_46 (dk_at dksX3_reachedFrom_0 10 rfl rfl)
theorem dX3_reachedFrom_11 : decode cX3_reachedFrom 11 = .ok (.if_icmp .ge 34, 3) := dk_162 0 34 (dk_at dksX3_reachedFrom_0 11 rfl rfl)
theorem dX3_reachedFrom_14 : decode cX3_reachedFrom 14 = .ok (.iload_n 2, 1) := dk_28 (dk_at dksX3_reachedFrom_0 14 rfl rfl)
theorem dX3_reachedFrom_15 : decode cX3_reachedFrom 15 = .ok (.aload_n 0, 1) := dk_42 (dk_at dksX3_reachedFrom_0 15 rfl rfl)
theorem dX3_reachedFrom_16 : decode cX3_reachedFrom 16 = .ok (.getfield 7, 3) := dk_180 0 7 (dk_at dksX3_reachedFrom_0 16 rfl rfl)
theorem dX3_reachedFrom_19 : decode cX3_reachedFrom 19 = .ok (.iload_n 3, 1) := dk_29 (dk_at dksX3_reachedFrom_0 19 rfl rfl)
theorem dX3_reachedFrom_20 : decode cX3_reachedFrom 20 = .ok (.iload_n 1, 1) := dk_27 (dk_at dksX3_reachedFrom_0 20 rfl rfl)
theorem dX3_reachedFrom_21 : decode cX3_reachedFrom 21 = .ok (.invokestatic 64, 3) := dk_184 0 64 (dk_at dksX3_reachedFrom_0 21 rfl rfl)
theorem dX3_reachedFrom_24 : decode cX3_reachedFrom 24 = .ok (.iaload, 1) := dk_46 (dk_at dksX3_reachedFrom_1 0 rfl rfl)
theorem dX3_reachedFrom_25 : decode cX3_reachedFrom 25 = .ok (.bipush 100, 2) := dk_16 100 (dk_at dksX3_reachedFrom_1 1 rfl rfl)
theorem dX3_reachedFrom_27 : decode cX3_reachedFrom 27 = .ok (.if_icmp .ge 9, 3) := dk_162 0 9 (dk_at dksX3_reachedFrom_1 3 rfl rfl)
theorem dX3_reachedFrom_30 : decode cX3_reachedFrom 30 = .ok (.iconst 1, 1) := dk_4 (dk_at dksX3_reachedFrom_1 6 rfl rfl)
theorem dX3_reachedFrom_31 : decode cX3_reachedFrom 31 = .ok (.iload_n 3, 1) := dk_29 (dk_at dksX3_reachedFrom_1 7 rfl rfl)
theorem dX3_reachedFrom_32 : decode cX3_reachedFrom 32 = .ok (.ishl, 1) := dk_120 (dk_at dksX3_reachedFrom_1 8 rfl rfl)
theorem dX3_reachedFrom_33 : decode cX3_reachedFrom 33 = .ok (.goto 4, 3) := dk_167 0 4 (dk_at dksX3_reachedFrom_1 9 rfl rfl)
theorem dX3_reachedFrom_36 : decode cX3_reachedFrom 36 = .ok (.iconst 0, 1) := dk_3 (dk_at dksX3_reachedFrom_1 12 rfl rfl)
theorem dX3_reachedFrom_37 : decode cX3_reachedFrom 37 = .ok (.ior, 1) := dk_128 (dk_at dksX3_reachedFrom_1 13 rfl rfl)
theorem dX3_reachedFrom_38 : decode cX3_reachedFrom 38 = .ok (.istore_n 2, 1) := dk_61 (dk_at dksX3_reachedFrom_1 14 rfl rfl)
theorem dX3_reachedFrom_39 : decode cX3_reachedFrom 39 = .ok (.iinc 3 1, 3) := dk_132 3 1 (dk_at dksX3_reachedFrom_1 15 rfl rfl)
theorem dX3_reachedFrom_42 : decode cX3_reachedFrom 42 = .ok (.goto (-38), 3) := dk_167 255 218 (dk_at dksX3_reachedFrom_1 18 rfl rfl)
theorem dX3_reachedFrom_45 : decode cX3_reachedFrom 45 = .ok (.iload_n 2, 1) := dk_28 (dk_at dksX3_reachedFrom_1 21 rfl rfl)
theorem dX3_reachedFrom_46 : decode cX3_reachedFrom 46 = .ok (.ireturn, 1) := dk_172 (dk_at dksX3_reachedFrom_1 22 rfl rfl)
abbrev cX3_guess : ByteArray := prog_18_method_39_code
def yX3_guess : MethodName := ⟨RX3, "guess", "(I)I"⟩
def dkwX3_guess_2 : List UInt8 := [132, 3, 1, 167, 255, 210, 42, 27, 182, 0, 102, 28, 96, 172]
abbrev dktX3_guess_2 : List UInt8 := dkwX3_guess_2 ++ []
def dkwX3_guess_1 : List UInt8 := [167, 0, 9, 42, 29, 27, 182, 0, 99, 54, 4, 21, 4, 28, 164, 0, 8, 21, 4, 167, 0, 4, 28, 61]
abbrev dktX3_guess_1 : List UInt8 := dkwX3_guess_1 ++ dktX3_guess_2
def dkwX3_guess_0 : List UInt8 := [3, 61, 3, 62, 29, 42, 180, 0, 7, 6, 46, 162, 0, 42, 42, 29, 182, 0, 93, 153, 0, 7, 3]
abbrev dktX3_guess_0 : List UInt8 := dkwX3_guess_0 ++ dktX3_guess_1
theorem dksX3_guess_0 : cX3_guess.data.toList.drop 0 = dktX3_guess_0 := by decide +kernel
theorem dksX3_guess_1 : cX3_guess.data.toList.drop 23 = dktX3_guess_1 := dk_seg dksX3_guess_0 23 rfl rfl
theorem dksX3_guess_2 : cX3_guess.data.toList.drop 47 = dktX3_guess_2 := dk_seg dksX3_guess_1 24 rfl rfl
theorem dX3_guess_0 : decode cX3_guess 0 = .ok (.iconst 0, 1) := dk_3 (dk_at dksX3_guess_0 0 rfl rfl)
theorem dX3_guess_1 : decode cX3_guess 1 = .ok (.istore_n 2, 1) := dk_61 (dk_at dksX3_guess_0 1 rfl rfl)
theorem dX3_guess_2 : decode cX3_guess 2 = .ok (.iconst 0, 1) := dk_3 (dk_at dksX3_guess_0 2 rfl rfl)
theorem dX3_guess_3 : decode cX3_guess 3 = .ok (.istore_n 3, 1) := dk_62 (dk_at dksX3_guess_0 3 rfl rfl)
theorem dX3_guess_4 : decode cX3_guess 4 = .ok (.iload_n 3, 1) := dk_29 (dk_at dksX3_guess_0 4 rfl rfl)
theorem dX3_guess_5 : decode cX3_guess 5 = .ok (.aload_n 0, 1) := dk_42 (dk_at dksX3_guess_0 5 rfl rfl)
theorem dX3_guess_6 : decode cX3_guess 6 = .ok (.getfield 7, 3) := dk_180 0 7 (dk_at dksX3_guess_0 6 rfl rfl)
theorem dX3_guess_9 : decode cX3_guess 9 = .ok (.iconst 3, 1) := dk_6 (dk_at dksX3_guess_0 9 rfl rfl)
theorem dX3_guess_10 : decode cX3_guess 10 = .ok (.iaload, 1) := dk_46 (dk_at dksX3_guess_0 10 rfl rfl)
theorem dX3_guess_11 : decode cX3_guess 11 = .ok (.if_icmp .ge 42, 3) := dk_162 0 42 (dk_at dksX3_guess_0 11 rfl rfl)
theorem dX3_guess_14 : decode cX3_guess 14 = .ok (.aload_n 0, 1) := dk_42 (dk_at dksX3_guess_0 14 rfl rfl)
theorem dX3_guess_15 : decode cX3_guess 15 = .ok (.iload_n 3, 1) := dk_29 (dk_at dksX3_guess_0 15 rfl rfl)
theorem dX3_guess_16 : decode cX3_guess 16 = .ok (.invokevirtual 93, 3) := dk_182 0 93 (dk_at dksX3_guess_0 16 rfl rfl)
theorem dX3_guess_19 : decode cX3_guess 19 = .ok (.ifCond .eq 7, 3) := dk_153 0 7 (dk_at dksX3_guess_0 19 rfl rfl)
theorem dX3_guess_22 : decode cX3_guess 22 = .ok (.iconst 0, 1) := dk_3 (dk_at dksX3_guess_0 22 rfl rfl)
theorem dX3_guess_23 : decode cX3_guess 23 = .ok (.goto 9, 3) := dk_167 0 9 (dk_at dksX3_guess_1 0 rfl rfl)
theorem dX3_guess_26 : decode cX3_guess 26 = .ok (.aload_n 0, 1) := dk_42 (dk_at dksX3_guess_1 3 rfl rfl)
theorem dX3_guess_27 : decode cX3_guess 27 = .ok (.iload_n 3, 1) := dk_29 (dk_at dksX3_guess_1 4 rfl rfl)
theorem dX3_guess_28 : decode cX3_guess 28 = .ok (.iload_n 1, 1) := dk_27 (dk_at dksX3_guess_1 5 rfl rfl)
theorem dX3_guess_29 : decode cX3_guess 29 = .ok (.invokevirtual 99, 3) := dk_182 0 99 (dk_at dksX3_guess_1 6 rfl rfl)
theorem dX3_guess_32 : decode cX3_guess 32 = .ok (.istore 4, 2) := dk_54 4 (dk_at dksX3_guess_1 9 rfl rfl)
theorem dX3_guess_34 : decode cX3_guess 34 = .ok (.iload 4, 2) := dk_21 4 (dk_at dksX3_guess_1 11 rfl rfl)
theorem dX3_guess_36 : decode cX3_guess 36 = .ok (.iload_n 2, 1) := dk_28 (dk_at dksX3_guess_1 13 rfl rfl)
theorem dX3_guess_37 : decode cX3_guess 37 = .ok (.if_icmp .le 8, 3) := dk_164 0 8 (dk_at dksX3_guess_1 14 rfl rfl)
theorem dX3_guess_40 : decode cX3_guess 40 = .ok (.iload 4, 2) := dk_21 4 (dk_at dksX3_guess_1 17 rfl rfl)
theorem dX3_guess_42 : decode cX3_guess 42 = .ok (.goto 4, 3) := dk_167 0 4 (dk_at dksX3_guess_1 19 rfl rfl)
theorem dX3_guess_45 : decode cX3_guess 45 = .ok (.iload_n 2, 1) := dk_28 (dk_at dksX3_guess_1 22 rfl rfl)
theorem dX3_guess_46 : decode cX3_guess 46 = .ok (.istore_n 2, 1) := dk_61 (dk_at dksX3_guess_1 23 rfl rfl)
theorem dX3_guess_47 : decode cX3_guess 47 = .ok (.iinc 3 1, 3) := dk_132 3 1 (dk_at dksX3_guess_2 0 rfl rfl)
theorem dX3_guess_50 : decode cX3_guess 50 = .ok (.goto (-46), 3) := dk_167 255 210 (dk_at dksX3_guess_2 3 rfl rfl)
theorem dX3_guess_53 : decode cX3_guess 53 = .ok (.aload_n 0, 1) := dk_42 (dk_at dksX3_guess_2 6 rfl rfl)
theorem dX3_guess_54 : decode cX3_guess 54 = .ok (.iload_n 1, 1) := dk_27 (dk_at dksX3_guess_2 7 rfl rfl)
theorem dX3_guess_55 : decode cX3_guess 55 = .ok (.invokevirtual 102, 3) := dk_182 0 102 (dk_at dksX3_guess_2 8 rfl rfl)
theorem dX3_guess_58 : decode cX3_guess 58 = .ok (.iload_n 2, 1) := dk_28 (dk_at dksX3_guess_2 11 rfl rfl)
theorem dX3_guess_59 : decode cX3_guess 59 = .ok (.iadd, 1) := dk_96 (dk_at dksX3_guess_2 12 rfl rfl)
theorem dX3_guess_60 : decode cX3_guess 60 = .ok (.ireturn, 1) := dk_172 (dk_at dksX3_guess_2 13 rfl rfl)
abbrev cX3_valueOf : ByteArray := prog_18_method_36_code
def yX3_valueOf : MethodName := ⟨RX3, "valueOf", "(II)I"⟩
def dkwX3_valueOf_4 : List UInt8 := [167, 255, 219, 29, 172]
abbrev dktX3_valueOf_4 : List UInt8 := dkwX3_valueOf_4 ++ []
def dkwX3_valueOf_3 : List UInt8 := [184, 0, 67, 153, 0, 13, 42, 27, 21, 4, 182, 0, 90, 167, 0, 4, 3, 100, 62, 132, 4, 1]
abbrev dktX3_valueOf_3 : List UInt8 := dkwX3_valueOf_3 ++ dktX3_valueOf_4
def dkwX3_valueOf_2 : List UInt8 := [132, 4, 1, 167, 255, 211, 3, 54, 4, 21, 4, 42, 180, 0, 7, 3, 46, 162, 0, 32, 29, 28, 21, 4]
abbrev dktX3_valueOf_2 : List UInt8 := dkwX3_valueOf_2 ++ dktX3_valueOf_3
def dkwX3_valueOf_1 : List UInt8 := [21, 4, 96, 46, 42, 180, 0, 7, 16, 84, 16, 9, 27, 104, 96, 4, 96, 21, 4, 96, 46, 104, 96, 62]
abbrev dktX3_valueOf_1 : List UInt8 := dkwX3_valueOf_1 ++ dktX3_valueOf_2
def dkwX3_valueOf_0 : List UInt8 := [3, 62, 3, 54, 4, 21, 4, 42, 180, 0, 7, 4, 46, 162, 0, 40, 29, 42, 180, 0, 7, 16, 13]
abbrev dktX3_valueOf_0 : List UInt8 := dkwX3_valueOf_0 ++ dktX3_valueOf_1
theorem dksX3_valueOf_0 : cX3_valueOf.data.toList.drop 0 = dktX3_valueOf_0 := by decide +kernel
theorem dksX3_valueOf_1 : cX3_valueOf.data.toList.drop 23 = dktX3_valueOf_1 := dk_seg dksX3_valueOf_0 23 rfl rfl
theorem dksX3_valueOf_2 : cX3_valueOf.data.toList.drop 47 = dktX3_valueOf_2 := dk_seg dksX3_valueOf_1 24 rfl rfl
theorem dksX3_valueOf_3 : cX3_valueOf.data.toList.drop 71 = dktX3_valueOf_3 := dk_seg dksX3_valueOf_2 24 rfl rfl
theorem dksX3_valueOf_4 : cX3_valueOf.data.toList.drop 93 = dktX3_valueOf_4 := dk_seg dksX3_valueOf_3 22 rfl rfl
theorem dX3_valueOf_0 : decode cX3_valueOf 0 = .ok (.iconst 0, 1) := dk_3 (dk_at dksX3_valueOf_0 0 rfl rfl)
theorem dX3_valueOf_1 : decode cX3_valueOf 1 = .ok (.istore_n 3, 1) := dk_62 (dk_at dksX3_valueOf_0 1 rfl rfl)
theorem dX3_valueOf_2 : decode cX3_valueOf 2 = .ok (.iconst 0, 1) := dk_3 (dk_at dksX3_valueOf_0 2 rfl rfl)
theorem dX3_valueOf_3 : decode cX3_valueOf 3 = .ok (.istore 4, 2) := dk_54 4 (dk_at dksX3_valueOf_0 3 rfl rfl)
theorem dX3_valueOf_5 : decode cX3_valueOf 5 = .ok (.iload 4, 2) := dk_21 4 (dk_at dksX3_valueOf_0 5 rfl rfl)
theorem dX3_valueOf_7 : decode cX3_valueOf 7 = .ok (.aload_n 0, 1) := dk_42 (dk_at dksX3_valueOf_0 7 rfl rfl)
theorem dX3_valueOf_8 : decode cX3_valueOf 8 = .ok (.getfield 7, 3) := dk_180 0 7 (dk_at dksX3_valueOf_0 8 rfl rfl)
theorem dX3_valueOf_11 : decode cX3_valueOf 11 = .ok (.iconst 1, 1) := dk_4 (dk_at dksX3_valueOf_0 11 rfl rfl)
theorem dX3_valueOf_12 : decode cX3_valueOf 12 = .ok (.iaload, 1) := dk_46 (dk_at dksX3_valueOf_0 12 rfl rfl)
theorem dX3_valueOf_13 : decode cX3_valueOf 13 = .ok (.if_icmp .ge 40, 3) := dk_162 0 40 (dk_at dksX3_valueOf_0 13 rfl rfl)
theorem dX3_valueOf_16 : decode cX3_valueOf 16 = .ok (.iload_n 3, 1) := dk_29 (dk_at dksX3_valueOf_0 16 rfl rfl)
theorem dX3_valueOf_17 : decode cX3_valueOf 17 = .ok (.aload_n 0, 1) := dk_42 (dk_at dksX3_valueOf_0 17 rfl rfl)
theorem dX3_valueOf_18 : decode cX3_valueOf 18 = .ok (.getfield 7, 3) := dk_180 0 7 (dk_at dksX3_valueOf_0 18 rfl rfl)
theorem dX3_valueOf_21 : decode cX3_valueOf 21 = .ok (.bipush 13, 2) := dk_16 13 (dk_at dksX3_valueOf_0 21 rfl rfl)
theorem dX3_valueOf_23 : decode cX3_valueOf 23 = .ok (.iload 4, 2) := dk_21 4 (dk_at dksX3_valueOf_1 0 rfl rfl)
theorem dX3_valueOf_25 : decode cX3_valueOf 25 = .ok (.iadd, 1) := dk_96 (dk_at dksX3_valueOf_1 2 rfl rfl)
theorem dX3_valueOf_26 : decode cX3_valueOf 26 = .ok (.iaload, 1) := dk_46 (dk_at dksX3_valueOf_1 3 rfl rfl)
theorem dX3_valueOf_27 : decode cX3_valueOf 27 = .ok (.aload_n 0, 1) := dk_42 (dk_at dksX3_valueOf_1 4 rfl rfl)
theorem dX3_valueOf_28 : decode cX3_valueOf 28 = .ok (.getfield 7, 3) := dk_180 0 7 (dk_at dksX3_valueOf_1 5 rfl rfl)
theorem dX3_valueOf_31 : decode cX3_valueOf 31 = .ok (.bipush 84, 2) := dk_16 84 (dk_at dksX3_valueOf_1 8 rfl rfl)
theorem dX3_valueOf_33 : decode cX3_valueOf 33 = .ok (.bipush 9, 2) := dk_16 9 (dk_at dksX3_valueOf_1 10 rfl rfl)
theorem dX3_valueOf_35 : decode cX3_valueOf 35 = .ok (.iload_n 1, 1) := dk_27 (dk_at dksX3_valueOf_1 12 rfl rfl)
theorem dX3_valueOf_36 : decode cX3_valueOf 36 = .ok (.imul, 1) := dk_104 (dk_at dksX3_valueOf_1 13 rfl rfl)
theorem dX3_valueOf_37 : decode cX3_valueOf 37 = .ok (.iadd, 1) := dk_96 (dk_at dksX3_valueOf_1 14 rfl rfl)
theorem dX3_valueOf_38 : decode cX3_valueOf 38 = .ok (.iconst 1, 1) := dk_4 (dk_at dksX3_valueOf_1 15 rfl rfl)
theorem dX3_valueOf_39 : decode cX3_valueOf 39 = .ok (.iadd, 1) := dk_96 (dk_at dksX3_valueOf_1 16 rfl rfl)
theorem dX3_valueOf_40 : decode cX3_valueOf 40 = .ok (.iload 4, 2) := dk_21 4 (dk_at dksX3_valueOf_1 17 rfl rfl)
theorem dX3_valueOf_42 : decode cX3_valueOf 42 = .ok (.iadd, 1) := dk_96 (dk_at dksX3_valueOf_1 19 rfl rfl)
theorem dX3_valueOf_43 : decode cX3_valueOf 43 = .ok (.iaload, 1) := dk_46 (dk_at dksX3_valueOf_1 20 rfl rfl)
theorem dX3_valueOf_44 : decode cX3_valueOf 44 = .ok (.imul, 1) := dk_104 (dk_at dksX3_valueOf_1 21 rfl rfl)
theorem dX3_valueOf_45 : decode cX3_valueOf 45 = .ok (.iadd, 1) := dk_96 (dk_at dksX3_valueOf_1 22 rfl rfl)
theorem dX3_valueOf_46 : decode cX3_valueOf 46 = .ok (.istore_n 3, 1) := dk_62 (dk_at dksX3_valueOf_1 23 rfl rfl)
theorem dX3_valueOf_47 : decode cX3_valueOf 47 = .ok (.iinc 4 1, 3) := dk_132 4 1 (dk_at dksX3_valueOf_2 0 rfl rfl)
theorem dX3_valueOf_50 : decode cX3_valueOf 50 = .ok (.goto (-45), 3) := dk_167 255 211 (dk_at dksX3_valueOf_2 3 rfl rfl)
theorem dX3_valueOf_53 : decode cX3_valueOf 53 = .ok (.iconst 0, 1) := dk_3 (dk_at dksX3_valueOf_2 6 rfl rfl)
theorem dX3_valueOf_54 : decode cX3_valueOf 54 = .ok (.istore 4, 2) := dk_54 4 (dk_at dksX3_valueOf_2 7 rfl rfl)
theorem dX3_valueOf_56 : decode cX3_valueOf 56 = .ok (.iload 4, 2) := dk_21 4 (dk_at dksX3_valueOf_2 9 rfl rfl)
theorem dX3_valueOf_58 : decode cX3_valueOf 58 = .ok (.aload_n 0, 1) := dk_42 (dk_at dksX3_valueOf_2 11 rfl rfl)
theorem dX3_valueOf_59 : decode cX3_valueOf 59 = .ok (.getfield 7, 3) := dk_180 0 7 (dk_at dksX3_valueOf_2 12 rfl rfl)
theorem dX3_valueOf_62 : decode cX3_valueOf 62 = .ok (.iconst 0, 1) := dk_3 (dk_at dksX3_valueOf_2 15 rfl rfl)
theorem dX3_valueOf_63 : decode cX3_valueOf 63 = .ok (.iaload, 1) := dk_46 (dk_at dksX3_valueOf_2 16 rfl rfl)
theorem dX3_valueOf_64 : decode cX3_valueOf 64 = .ok (.if_icmp .ge 32, 3) := dk_162 0 32 (dk_at dksX3_valueOf_2 17 rfl rfl)
theorem dX3_valueOf_67 : decode cX3_valueOf 67 = .ok (.iload_n 3, 1) := dk_29 (dk_at dksX3_valueOf_2 20 rfl rfl)
theorem dX3_valueOf_68 : decode cX3_valueOf 68 = .ok (.iload_n 2, 1) := dk_28 (dk_at dksX3_valueOf_2 21 rfl rfl)
theorem dX3_valueOf_69 : decode cX3_valueOf 69 = .ok (.iload 4, 2) := dk_21 4 (dk_at dksX3_valueOf_2 22 rfl rfl)
theorem dX3_valueOf_71 : decode cX3_valueOf 71 = .ok (.invokestatic 67, 3) := dk_184 0 67 (dk_at dksX3_valueOf_3 0 rfl rfl)
theorem dX3_valueOf_74 : decode cX3_valueOf 74 = .ok (.ifCond .eq 13, 3) := dk_153 0 13 (dk_at dksX3_valueOf_3 3 rfl rfl)
theorem dX3_valueOf_77 : decode cX3_valueOf 77 = .ok (.aload_n 0, 1) := dk_42 (dk_at dksX3_valueOf_3 6 rfl rfl)
theorem dX3_valueOf_78 : decode cX3_valueOf 78 = .ok (.iload_n 1, 1) := dk_27 (dk_at dksX3_valueOf_3 7 rfl rfl)
theorem dX3_valueOf_79 : decode cX3_valueOf 79 = .ok (.iload 4, 2) := dk_21 4 (dk_at dksX3_valueOf_3 8 rfl rfl)
theorem dX3_valueOf_81 : decode cX3_valueOf 81 = .ok (.invokevirtual 90, 3) := dk_182 0 90 (dk_at dksX3_valueOf_3 10 rfl rfl)
theorem dX3_valueOf_84 : decode cX3_valueOf 84 = .ok (.goto 4, 3) := dk_167 0 4 (dk_at dksX3_valueOf_3 13 rfl rfl)
theorem dX3_valueOf_87 : decode cX3_valueOf 87 = .ok (.iconst 0, 1) := dk_3 (dk_at dksX3_valueOf_3 16 rfl rfl)
theorem dX3_valueOf_88 : decode cX3_valueOf 88 = .ok (.isub, 1) := dk_100 (dk_at dksX3_valueOf_3 17 rfl rfl)
theorem dX3_valueOf_89 : decode cX3_valueOf 89 = .ok (.istore_n 3, 1) := dk_62 (dk_at dksX3_valueOf_3 18 rfl rfl)
theorem dX3_valueOf_90 : decode cX3_valueOf 90 = .ok (.iinc 4 1, 3) := dk_132 4 1 (dk_at dksX3_valueOf_3 19 rfl rfl)
theorem dX3_valueOf_93 : decode cX3_valueOf 93 = .ok (.goto (-37), 3) := dk_167 255 219 (dk_at dksX3_valueOf_4 0 rfl rfl)
theorem dX3_valueOf_96 : decode cX3_valueOf 96 = .ok (.iload_n 3, 1) := dk_29 (dk_at dksX3_valueOf_4 3 rfl rfl)
theorem dX3_valueOf_97 : decode cX3_valueOf 97 = .ok (.ireturn, 1) := dk_172 (dk_at dksX3_valueOf_4 4 rfl rfl)
abbrev cX3_weightOf : ByteArray := prog_18_method_35_code
def yX3_weightOf : MethodName := ⟨RX3, "weightOf", "(II)I"⟩
def dkwX3_weightOf_3 : List UInt8 := [132, 4, 1, 167, 255, 186, 29, 172]
abbrev dktX3_weightOf_3 : List UInt8 := dkwX3_weightOf_3 ++ []
def dkwX3_weightOf_2 : List UInt8 := [21, 5, 158, 0, 19, 42, 180, 0, 7, 16, 13, 21, 4, 96, 46, 21, 5, 104, 167, 0, 4, 3, 96, 62]
abbrev dktX3_weightOf_2 : List UInt8 := dkwX3_weightOf_2 ++ dktX3_weightOf_3
def dkwX3_weightOf_1 : List UInt8 := [27, 104, 96, 4, 96, 21, 4, 96, 46, 42, 180, 0, 7, 28, 21, 4, 184, 0, 64, 46, 100, 54, 5, 29]
abbrev dktX3_weightOf_1 : List UInt8 := dkwX3_weightOf_1 ++ dktX3_weightOf_2
def dkwX3_weightOf_0 : List UInt8 := [3, 62, 3, 54, 4, 21, 4, 42, 180, 0, 7, 4, 46, 162, 0, 65, 42, 180, 0, 7, 16, 84, 16, 9]
abbrev dktX3_weightOf_0 : List UInt8 := dkwX3_weightOf_0 ++ dktX3_weightOf_1
theorem dksX3_weightOf_0 : cX3_weightOf.data.toList.drop 0 = dktX3_weightOf_0 := by decide +kernel
theorem dksX3_weightOf_1 : cX3_weightOf.data.toList.drop 24 = dktX3_weightOf_1 := dk_seg dksX3_weightOf_0 24 rfl rfl
theorem dksX3_weightOf_2 : cX3_weightOf.data.toList.drop 48 = dktX3_weightOf_2 := dk_seg dksX3_weightOf_1 24 rfl rfl
theorem dksX3_weightOf_3 : cX3_weightOf.data.toList.drop 72 = dktX3_weightOf_3 := dk_seg dksX3_weightOf_2 24 rfl rfl
theorem dX3_weightOf_0 : decode cX3_weightOf 0 = .ok (.iconst 0, 1) := dk_3 (dk_at dksX3_weightOf_0 0 rfl rfl)
theorem dX3_weightOf_1 : decode cX3_weightOf 1 = .ok (.istore_n 3, 1) := dk_62 (dk_at dksX3_weightOf_0 1 rfl rfl)
theorem dX3_weightOf_2 : decode cX3_weightOf 2 = .ok (.iconst 0, 1) := dk_3 (dk_at dksX3_weightOf_0 2 rfl rfl)
theorem dX3_weightOf_3 : decode cX3_weightOf 3 = .ok (.istore 4, 2) := dk_54 4 (dk_at dksX3_weightOf_0 3 rfl rfl)
theorem dX3_weightOf_5 : decode cX3_weightOf 5 = .ok (.iload 4, 2) := dk_21 4 (dk_at dksX3_weightOf_0 5 rfl rfl)
theorem dX3_weightOf_7 : decode cX3_weightOf 7 = .ok (.aload_n 0, 1) := dk_42 (dk_at dksX3_weightOf_0 7 rfl rfl)
theorem dX3_weightOf_8 : decode cX3_weightOf 8 = .ok (.getfield 7, 3) := dk_180 0 7 (dk_at dksX3_weightOf_0 8 rfl rfl)
theorem dX3_weightOf_11 : decode cX3_weightOf 11 = .ok (.iconst 1, 1) := dk_4 (dk_at dksX3_weightOf_0 11 rfl rfl)
theorem dX3_weightOf_12 : decode cX3_weightOf 12 = .ok (.iaload, 1) := dk_46 (dk_at dksX3_weightOf_0 12 rfl rfl)
theorem dX3_weightOf_13 : decode cX3_weightOf 13 = .ok (.if_icmp .ge 65, 3) := dk_162 0 65 (dk_at dksX3_weightOf_0 13 rfl rfl)
theorem dX3_weightOf_16 : decode cX3_weightOf 16 = .ok (.aload_n 0, 1) := dk_42 (dk_at dksX3_weightOf_0 16 rfl rfl)
theorem dX3_weightOf_17 : decode cX3_weightOf 17 = .ok (.getfield 7, 3) := dk_180 0 7 (dk_at dksX3_weightOf_0 17 rfl rfl)
theorem dX3_weightOf_20 : decode cX3_weightOf 20 = .ok (.bipush 84, 2) := dk_16 84 (dk_at dksX3_weightOf_0 20 rfl rfl)
theorem dX3_weightOf_22 : decode cX3_weightOf 22 = .ok (.bipush 9, 2) := dk_16 9 (dk_at dksX3_weightOf_0 22 rfl rfl)
theorem dX3_weightOf_24 : decode cX3_weightOf 24 = .ok (.iload_n 1, 1) := dk_27 (dk_at dksX3_weightOf_1 0 rfl rfl)
theorem dX3_weightOf_25 : decode cX3_weightOf 25 = .ok (.imul, 1) := dk_104 (dk_at dksX3_weightOf_1 1 rfl rfl)
theorem dX3_weightOf_26 : decode cX3_weightOf 26 = .ok (.iadd, 1) := dk_96 (dk_at dksX3_weightOf_1 2 rfl rfl)
theorem dX3_weightOf_27 : decode cX3_weightOf 27 = .ok (.iconst 1, 1) := dk_4 (dk_at dksX3_weightOf_1 3 rfl rfl)
theorem dX3_weightOf_28 : decode cX3_weightOf 28 = .ok (.iadd, 1) := dk_96 (dk_at dksX3_weightOf_1 4 rfl rfl)
theorem dX3_weightOf_29 : decode cX3_weightOf 29 = .ok (.iload 4, 2) := dk_21 4 (dk_at dksX3_weightOf_1 5 rfl rfl)
theorem dX3_weightOf_31 : decode cX3_weightOf 31 = .ok (.iadd, 1) := dk_96 (dk_at dksX3_weightOf_1 7 rfl rfl)
theorem dX3_weightOf_32 : decode cX3_weightOf 32 = .ok (.iaload, 1) := dk_46 (dk_at dksX3_weightOf_1 8 rfl rfl)
theorem dX3_weightOf_33 : decode cX3_weightOf 33 = .ok (.aload_n 0, 1) := dk_42 (dk_at dksX3_weightOf_1 9 rfl rfl)
theorem dX3_weightOf_34 : decode cX3_weightOf 34 = .ok (.getfield 7, 3) := dk_180 0 7 (dk_at dksX3_weightOf_1 10 rfl rfl)
theorem dX3_weightOf_37 : decode cX3_weightOf 37 = .ok (.iload_n 2, 1) := dk_28 (dk_at dksX3_weightOf_1 13 rfl rfl)
theorem dX3_weightOf_38 : decode cX3_weightOf 38 = .ok (.iload 4, 2) := dk_21 4 (dk_at dksX3_weightOf_1 14 rfl rfl)
theorem dX3_weightOf_40 : decode cX3_weightOf 40 = .ok (.invokestatic 64, 3) := dk_184 0 64 (dk_at dksX3_weightOf_1 16 rfl rfl)
theorem dX3_weightOf_43 : decode cX3_weightOf 43 = .ok (.iaload, 1) := dk_46 (dk_at dksX3_weightOf_1 19 rfl rfl)
theorem dX3_weightOf_44 : decode cX3_weightOf 44 = .ok (.isub, 1) := dk_100 (dk_at dksX3_weightOf_1 20 rfl rfl)
theorem dX3_weightOf_45 : decode cX3_weightOf 45 = .ok (.istore 5, 2) := dk_54 5 (dk_at dksX3_weightOf_1 21 rfl rfl)
theorem dX3_weightOf_47 : decode cX3_weightOf 47 = .ok (.iload_n 3, 1) := dk_29 (dk_at dksX3_weightOf_1 23 rfl rfl)
theorem dX3_weightOf_48 : decode cX3_weightOf 48 = .ok (.iload 5, 2) := dk_21 5 (dk_at dksX3_weightOf_2 0 rfl rfl)
theorem dX3_weightOf_50 : decode cX3_weightOf 50 = .ok (.ifCond .le 19, 3) := dk_158 0 19 (dk_at dksX3_weightOf_2 2 rfl rfl)
theorem dX3_weightOf_53 : decode cX3_weightOf 53 = .ok (.aload_n 0, 1) := dk_42 (dk_at dksX3_weightOf_2 5 rfl rfl)
theorem dX3_weightOf_54 : decode cX3_weightOf 54 = .ok (.getfield 7, 3) := dk_180 0 7 (dk_at dksX3_weightOf_2 6 rfl rfl)
theorem dX3_weightOf_57 : decode cX3_weightOf 57 = .ok (.bipush 13, 2) := dk_16 13 (dk_at dksX3_weightOf_2 9 rfl rfl)
theorem dX3_weightOf_59 : decode cX3_weightOf 59 = .ok (.iload 4, 2) := dk_21 4 (dk_at dksX3_weightOf_2 11 rfl rfl)
theorem dX3_weightOf_61 : decode cX3_weightOf 61 = .ok (.iadd, 1) := dk_96 (dk_at dksX3_weightOf_2 13 rfl rfl)
theorem dX3_weightOf_62 : decode cX3_weightOf 62 = .ok (.iaload, 1) := dk_46 (dk_at dksX3_weightOf_2 14 rfl rfl)
theorem dX3_weightOf_63 : decode cX3_weightOf 63 = .ok (.iload 5, 2) := dk_21 5 (dk_at dksX3_weightOf_2 15 rfl rfl)
theorem dX3_weightOf_65 : decode cX3_weightOf 65 = .ok (.imul, 1) := dk_104 (dk_at dksX3_weightOf_2 17 rfl rfl)
theorem dX3_weightOf_66 : decode cX3_weightOf 66 = .ok (.goto 4, 3) := dk_167 0 4 (dk_at dksX3_weightOf_2 18 rfl rfl)
theorem dX3_weightOf_69 : decode cX3_weightOf 69 = .ok (.iconst 0, 1) := dk_3 (dk_at dksX3_weightOf_2 21 rfl rfl)
theorem dX3_weightOf_70 : decode cX3_weightOf 70 = .ok (.iadd, 1) := dk_96 (dk_at dksX3_weightOf_2 22 rfl rfl)
theorem dX3_weightOf_71 : decode cX3_weightOf 71 = .ok (.istore_n 3, 1) := dk_62 (dk_at dksX3_weightOf_2 23 rfl rfl)
theorem dX3_weightOf_72 : decode cX3_weightOf 72 = .ok (.iinc 4 1, 3) := dk_132 4 1 (dk_at dksX3_weightOf_3 0 rfl rfl)
theorem dX3_weightOf_75 : decode cX3_weightOf 75 = .ok (.goto (-70), 3) := dk_167 255 186 (dk_at dksX3_weightOf_3 3 rfl rfl)
theorem dX3_weightOf_78 : decode cX3_weightOf 78 = .ok (.iload_n 3, 1) := dk_29 (dk_at dksX3_weightOf_3 6 rfl rfl)
theorem dX3_weightOf_79 : decode cX3_weightOf 79 = .ok (.ireturn, 1) := dk_172 (dk_at dksX3_weightOf_3 7 rfl rfl)
abbrev cX3_prices : ByteArray := prog_18_method_30_code
def yX3_prices : MethodName := ⟨RX3, "prices", "(I)I"⟩
def dkwX3_prices_1 : List UInt8 := [180, 0, 7, 16, 6, 29, 96, 46, 167, 0, 4, 3, 96, 61, 132, 3, 1, 167, 255, 219, 28, 172]
abbrev dktX3_prices_1 : List UInt8 := dkwX3_prices_1 ++ []
def dkwX3_prices_0 : List UInt8 := [3, 61, 3, 62, 29, 42, 180, 0, 7, 3, 46, 162, 0, 33, 28, 27, 29, 184, 0, 67, 153, 0, 15, 42]
abbrev dktX3_prices_0 : List UInt8 := dkwX3_prices_0 ++ dktX3_prices_1
theorem dksX3_prices_0 : cX3_prices.data.toList.drop 0 = dktX3_prices_0 := by decide +kernel
theorem dksX3_prices_1 : cX3_prices.data.toList.drop 24 = dktX3_prices_1 := dk_seg dksX3_prices_0 24 rfl rfl
theorem dX3_prices_0 : decode cX3_prices 0 = .ok (.iconst 0, 1) := dk_3 (dk_at dksX3_prices_0 0 rfl rfl)
theorem dX3_prices_1 : decode cX3_prices 1 = .ok (.istore_n 2, 1) := dk_61 (dk_at dksX3_prices_0 1 rfl rfl)
theorem dX3_prices_2 : decode cX3_prices 2 = .ok (.iconst 0, 1) := dk_3 (dk_at dksX3_prices_0 2 rfl rfl)
theorem dX3_prices_3 : decode cX3_prices 3 = .ok (.istore_n 3, 1) := dk_62 (dk_at dksX3_prices_0 3 rfl rfl)
theorem dX3_prices_4 : decode cX3_prices 4 = .ok (.iload_n 3, 1) := dk_29 (dk_at dksX3_prices_0 4 rfl rfl)
theorem dX3_prices_5 : decode cX3_prices 5 = .ok (.aload_n 0, 1) := dk_42 (dk_at dksX3_prices_0 5 rfl rfl)
theorem dX3_prices_6 : decode cX3_prices 6 = .ok (.getfield 7, 3) := dk_180 0 7 (dk_at dksX3_prices_0 6 rfl rfl)
theorem dX3_prices_9 : decode cX3_prices 9 = .ok (.iconst 0, 1) := dk_3 (dk_at dksX3_prices_0 9 rfl rfl)
theorem dX3_prices_10 : decode cX3_prices 10 = .ok (.iaload, 1) := dk_46 (dk_at dksX3_prices_0 10 rfl rfl)
theorem dX3_prices_11 : decode cX3_prices 11 = .ok (.if_icmp .ge 33, 3) := dk_162 0 33 (dk_at dksX3_prices_0 11 rfl rfl)
theorem dX3_prices_14 : decode cX3_prices 14 = .ok (.iload_n 2, 1) := dk_28 (dk_at dksX3_prices_0 14 rfl rfl)
theorem dX3_prices_15 : decode cX3_prices 15 = .ok (.iload_n 1, 1) := dk_27 (dk_at dksX3_prices_0 15 rfl rfl)
theorem dX3_prices_16 : decode cX3_prices 16 = .ok (.iload_n 3, 1) := dk_29 (dk_at dksX3_prices_0 16 rfl rfl)
theorem dX3_prices_17 : decode cX3_prices 17 = .ok (.invokestatic 67, 3) := dk_184 0 67 (dk_at dksX3_prices_0 17 rfl rfl)
theorem dX3_prices_20 : decode cX3_prices 20 = .ok (.ifCond .eq 15, 3) := dk_153 0 15 (dk_at dksX3_prices_0 20 rfl rfl)
theorem dX3_prices_23 : decode cX3_prices 23 = .ok (.aload_n 0, 1) := dk_42 (dk_at dksX3_prices_0 23 rfl rfl)
theorem dX3_prices_24 : decode cX3_prices 24 = .ok (.getfield 7, 3) := dk_180 0 7 (dk_at dksX3_prices_1 0 rfl rfl)
theorem dX3_prices_27 : decode cX3_prices 27 = .ok (.bipush 6, 2) := dk_16 6 (dk_at dksX3_prices_1 3 rfl rfl)
theorem dX3_prices_29 : decode cX3_prices 29 = .ok (.iload_n 3, 1) := dk_29 (dk_at dksX3_prices_1 5 rfl rfl)
theorem dX3_prices_30 : decode cX3_prices 30 = .ok (.iadd, 1) := dk_96 (dk_at dksX3_prices_1 6 rfl rfl)
theorem dX3_prices_31 : decode cX3_prices 31 = .ok (.iaload, 1) := dk_46 (dk_at dksX3_prices_1 7 rfl rfl)
theorem dX3_prices_32 : decode cX3_prices 32 = .ok (.goto 4, 3) := dk_167 0 4 (dk_at dksX3_prices_1 8 rfl rfl)
theorem dX3_prices_35 : decode cX3_prices 35 = .ok (.iconst 0, 1) := dk_3 (dk_at dksX3_prices_1 11 rfl rfl)
theorem dX3_prices_36 : decode cX3_prices 36 = .ok (.iadd, 1) := dk_96 (dk_at dksX3_prices_1 12 rfl rfl)
theorem dX3_prices_37 : decode cX3_prices 37 = .ok (.istore_n 2, 1) := dk_61 (dk_at dksX3_prices_1 13 rfl rfl)
theorem dX3_prices_38 : decode cX3_prices 38 = .ok (.iinc 3 1, 3) := dk_132 3 1 (dk_at dksX3_prices_1 14 rfl rfl)
theorem dX3_prices_41 : decode cX3_prices 41 = .ok (.goto (-37), 3) := dk_167 255 219 (dk_at dksX3_prices_1 17 rfl rfl)
theorem dX3_prices_44 : decode cX3_prices 44 = .ok (.iload_n 2, 1) := dk_28 (dk_at dksX3_prices_1 20 rfl rfl)
theorem dX3_prices_45 : decode cX3_prices 45 = .ok (.ireturn, 1) := dk_172 (dk_at dksX3_prices_1 21 rfl rfl)
abbrev cX3_missed : ByteArray := prog_18_method_28_code
def yX3_missed : MethodName := ⟨RX3, "missed", "(I)I"⟩
def dkwX3_missed_1 : List UInt8 := [132, 2, 1, 167, 255, 231, 16, 251, 172]
abbrev dktX3_missed_1 : List UInt8 := dkwX3_missed_1 ++ []
def dkwX3_missed_0 : List UInt8 := [3, 61, 28, 42, 180, 0, 7, 4, 46, 162, 0, 21, 27, 42, 28, 182, 0, 78, 126, 154, 0, 5, 28, 172]
abbrev dktX3_missed_0 : List UInt8 := dkwX3_missed_0 ++ dktX3_missed_1
theorem dksX3_missed_0 : cX3_missed.data.toList.drop 0 = dktX3_missed_0 := by decide +kernel
theorem dksX3_missed_1 : cX3_missed.data.toList.drop 24 = dktX3_missed_1 := dk_seg dksX3_missed_0 24 rfl rfl
theorem dX3_missed_0 : decode cX3_missed 0 = .ok (.iconst 0, 1) := dk_3 (dk_at dksX3_missed_0 0 rfl rfl)
theorem dX3_missed_1 : decode cX3_missed 1 = .ok (.istore_n 2, 1) := dk_61 (dk_at dksX3_missed_0 1 rfl rfl)
theorem dX3_missed_2 : decode cX3_missed 2 = .ok (.iload_n 2, 1) := dk_28 (dk_at dksX3_missed_0 2 rfl rfl)
theorem dX3_missed_3 : decode cX3_missed 3 = .ok (.aload_n 0, 1) := dk_42 (dk_at dksX3_missed_0 3 rfl rfl)
theorem dX3_missed_4 : decode cX3_missed 4 = .ok (.getfield 7, 3) := dk_180 0 7 (dk_at dksX3_missed_0 4 rfl rfl)
theorem dX3_missed_7 : decode cX3_missed 7 = .ok (.iconst 1, 1) := dk_4 (dk_at dksX3_missed_0 7 rfl rfl)
theorem dX3_missed_8 : decode cX3_missed 8 = .ok (.iaload, 1) := dk_46 (dk_at dksX3_missed_0 8 rfl rfl)
theorem dX3_missed_9 : decode cX3_missed 9 = .ok (.if_icmp .ge 21, 3) := dk_162 0 21 (dk_at dksX3_missed_0 9 rfl rfl)
theorem dX3_missed_12 : decode cX3_missed 12 = .ok (.iload_n 1, 1) := dk_27 (dk_at dksX3_missed_0 12 rfl rfl)
theorem dX3_missed_13 : decode cX3_missed 13 = .ok (.aload_n 0, 1) := dk_42 (dk_at dksX3_missed_0 13 rfl rfl)
theorem dX3_missed_14 : decode cX3_missed 14 = .ok (.iload_n 2, 1) := dk_28 (dk_at dksX3_missed_0 14 rfl rfl)
theorem dX3_missed_15 : decode cX3_missed 15 = .ok (.invokevirtual 78, 3) := dk_182 0 78 (dk_at dksX3_missed_0 15 rfl rfl)
theorem dX3_missed_18 : decode cX3_missed 18 = .ok (.iand, 1) := dk_126 (dk_at dksX3_missed_0 18 rfl rfl)
theorem dX3_missed_19 : decode cX3_missed 19 = .ok (.ifCond .ne 5, 3) := dk_154 0 5 (dk_at dksX3_missed_0 19 rfl rfl)
theorem dX3_missed_22 : decode cX3_missed 22 = .ok (.iload_n 2, 1) := dk_28 (dk_at dksX3_missed_0 22 rfl rfl)
theorem dX3_missed_23 : decode cX3_missed 23 = .ok (.ireturn, 1) := dk_172 (dk_at dksX3_missed_0 23 rfl rfl)
theorem dX3_missed_24 : decode cX3_missed 24 = .ok (.iinc 2 1, 3) := dk_132 2 1 (dk_at dksX3_missed_1 0 rfl rfl)
theorem dX3_missed_27 : decode cX3_missed 27 = .ok (.goto (-25), 3) := dk_167 255 231 (dk_at dksX3_missed_1 3 rfl rfl)
theorem dX3_missed_30 : decode cX3_missed 30 = .ok (.bipush (-5), 2) := dk_16 251 (dk_at dksX3_missed_1 6 rfl rfl)
theorem dX3_missed_32 : decode cX3_missed 32 = .ok (.ireturn, 1) := dk_172 (dk_at dksX3_missed_1 8 rfl rfl)
abbrev cX3_routes : ByteArray := prog_18_method_31_code
def yX3_routes : MethodName := ⟨RX3, "routes", "(I)I"⟩
def dkwX3_routes_2 : List UInt8 := [28, 172]
abbrev dktX3_routes_2 : List UInt8 := dkwX3_routes_2 ++ []
def dkwX3_routes_1 : List UInt8 := [42, 180, 0, 7, 42, 27, 29, 182, 0, 81, 29, 184, 0, 64, 46, 104, 96, 61, 132, 3, 1, 167, 255, 215]
abbrev dktX3_routes_1 : List UInt8 := dkwX3_routes_1 ++ dktX3_routes_2
def dkwX3_routes_0 : List UInt8 := [3, 61, 3, 62, 29, 42, 180, 0, 7, 4, 46, 162, 0, 37, 28, 42, 180, 0, 7, 16, 13, 29, 96, 46]
abbrev dktX3_routes_0 : List UInt8 := dkwX3_routes_0 ++ dktX3_routes_1
theorem dksX3_routes_0 : cX3_routes.data.toList.drop 0 = dktX3_routes_0 := by decide +kernel
theorem dksX3_routes_1 : cX3_routes.data.toList.drop 24 = dktX3_routes_1 := dk_seg dksX3_routes_0 24 rfl rfl
theorem dksX3_routes_2 : cX3_routes.data.toList.drop 48 = dktX3_routes_2 := dk_seg dksX3_routes_1 24 rfl rfl
theorem dX3_routes_0 : decode cX3_routes 0 = .ok (.iconst 0, 1) := dk_3 (dk_at dksX3_routes_0 0 rfl rfl)
theorem dX3_routes_1 : decode cX3_routes 1 = .ok (.istore_n 2, 1) := dk_61 (dk_at dksX3_routes_0 1 rfl rfl)
theorem dX3_routes_2 : decode cX3_routes 2 = .ok (.iconst 0, 1) := dk_3 (dk_at dksX3_routes_0 2 rfl rfl)
theorem dX3_routes_3 : decode cX3_routes 3 = .ok (.istore_n 3, 1) := dk_62 (dk_at dksX3_routes_0 3 rfl rfl)
theorem dX3_routes_4 : decode cX3_routes 4 = .ok (.iload_n 3, 1) := dk_29 (dk_at dksX3_routes_0 4 rfl rfl)
theorem dX3_routes_5 : decode cX3_routes 5 = .ok (.aload_n 0, 1) := dk_42 (dk_at dksX3_routes_0 5 rfl rfl)
theorem dX3_routes_6 : decode cX3_routes 6 = .ok (.getfield 7, 3) := dk_180 0 7 (dk_at dksX3_routes_0 6 rfl rfl)
theorem dX3_routes_9 : decode cX3_routes 9 = .ok (.iconst 1, 1) := dk_4 (dk_at dksX3_routes_0 9 rfl rfl)
theorem dX3_routes_10 : decode cX3_routes 10 = .ok (.iaload, 1) := dk_46 (dk_at dksX3_routes_0 10 rfl rfl)
theorem dX3_routes_11 : decode cX3_routes 11 = .ok (.if_icmp .ge 37, 3) := dk_162 0 37 (dk_at dksX3_routes_0 11 rfl rfl)
theorem dX3_routes_14 : decode cX3_routes 14 = .ok (.iload_n 2, 1) := dk_28 (dk_at dksX3_routes_0 14 rfl rfl)
theorem dX3_routes_15 : decode cX3_routes 15 = .ok (.aload_n 0, 1) := dk_42 (dk_at dksX3_routes_0 15 rfl rfl)
theorem dX3_routes_16 : decode cX3_routes 16 = .ok (.getfield 7, 3) := dk_180 0 7 (dk_at dksX3_routes_0 16 rfl rfl)
theorem dX3_routes_19 : decode cX3_routes 19 = .ok (.bipush 13, 2) := dk_16 13 (dk_at dksX3_routes_0 19 rfl rfl)
theorem dX3_routes_21 : decode cX3_routes 21 = .ok (.iload_n 3, 1) := dk_29 (dk_at dksX3_routes_0 21 rfl rfl)
theorem dX3_routes_22 : decode cX3_routes 22 = .ok (.iadd, 1) := dk_96 (dk_at dksX3_routes_0 22 rfl rfl)
theorem dX3_routes_23 : decode cX3_routes 23 = .ok (.iaload, 1) := dk_46 (dk_at dksX3_routes_0 23 rfl rfl)
theorem dX3_routes_24 : decode cX3_routes 24 = .ok (.aload_n 0, 1) := dk_42 (dk_at dksX3_routes_1 0 rfl rfl)
theorem dX3_routes_25 : decode cX3_routes 25 = .ok (.getfield 7, 3) := dk_180 0 7 (dk_at dksX3_routes_1 1 rfl rfl)
theorem dX3_routes_28 : decode cX3_routes 28 = .ok (.aload_n 0, 1) := dk_42 (dk_at dksX3_routes_1 4 rfl rfl)
theorem dX3_routes_29 : decode cX3_routes 29 = .ok (.iload_n 1, 1) := dk_27 (dk_at dksX3_routes_1 5 rfl rfl)
theorem dX3_routes_30 : decode cX3_routes 30 = .ok (.iload_n 3, 1) := dk_29 (dk_at dksX3_routes_1 6 rfl rfl)
theorem dX3_routes_31 : decode cX3_routes 31 = .ok (.invokevirtual 81, 3) := dk_182 0 81 (dk_at dksX3_routes_1 7 rfl rfl)
theorem dX3_routes_34 : decode cX3_routes 34 = .ok (.iload_n 3, 1) := dk_29 (dk_at dksX3_routes_1 10 rfl rfl)
theorem dX3_routes_35 : decode cX3_routes 35 = .ok (.invokestatic 64, 3) := dk_184 0 64 (dk_at dksX3_routes_1 11 rfl rfl)
theorem dX3_routes_38 : decode cX3_routes 38 = .ok (.iaload, 1) := dk_46 (dk_at dksX3_routes_1 14 rfl rfl)
theorem dX3_routes_39 : decode cX3_routes 39 = .ok (.imul, 1) := dk_104 (dk_at dksX3_routes_1 15 rfl rfl)
theorem dX3_routes_40 : decode cX3_routes 40 = .ok (.iadd, 1) := dk_96 (dk_at dksX3_routes_1 16 rfl rfl)
theorem dX3_routes_41 : decode cX3_routes 41 = .ok (.istore_n 2, 1) := dk_61 (dk_at dksX3_routes_1 17 rfl rfl)
theorem dX3_routes_42 : decode cX3_routes 42 = .ok (.iinc 3 1, 3) := dk_132 3 1 (dk_at dksX3_routes_1 18 rfl rfl)
theorem dX3_routes_45 : decode cX3_routes 45 = .ok (.goto (-41), 3) := dk_167 255 215 (dk_at dksX3_routes_1 21 rfl rfl)
theorem dX3_routes_48 : decode cX3_routes 48 = .ok (.iload_n 2, 1) := dk_28 (dk_at dksX3_routes_2 0 rfl rfl)
theorem dX3_routes_49 : decode cX3_routes 49 = .ok (.ireturn, 1) := dk_172 (dk_at dksX3_routes_2 1 rfl rfl)
abbrev cX3_server : ByteArray := prog_18_method_29_code
def yX3_server : MethodName := ⟨RX3, "server", "(II)I"⟩
def dkwX3_server_4 : List UInt8 := [167, 255, 170, 29, 172]
abbrev dktX3_server_4 : List UInt8 := dkwX3_server_4 ++ []
def dkwX3_server_3 : List UInt8 := [180, 0, 7, 29, 28, 184, 0, 64, 46, 162, 0, 8, 21, 4, 167, 0, 4, 29, 62, 132, 4, 1]
abbrev dktX3_server_3 : List UInt8 := dkwX3_server_3 ++ dktX3_server_4
def dkwX3_server_2 : List UInt8 := [54, 5, 21, 5, 153, 0, 36, 29, 155, 0, 27, 42, 180, 0, 7, 21, 4, 28, 184, 0, 64, 46, 42]
abbrev dktX3_server_2 : List UInt8 := dkwX3_server_2 ++ dktX3_server_3
def dkwX3_server_1 : List UInt8 := [153, 0, 23, 42, 180, 0, 7, 21, 4, 28, 184, 0, 64, 46, 16, 100, 162, 0, 7, 4, 167, 0, 4, 3]
abbrev dktX3_server_1 : List UInt8 := dkwX3_server_1 ++ dktX3_server_2
def dkwX3_server_0 : List UInt8 := [16, 251, 62, 3, 54, 4, 21, 4, 42, 180, 0, 7, 3, 46, 162, 0, 81, 27, 21, 4, 184, 0, 67]
abbrev dktX3_server_0 : List UInt8 := dkwX3_server_0 ++ dktX3_server_1
theorem dksX3_server_0 : cX3_server.data.toList.drop 0 = dktX3_server_0 := by decide +kernel
theorem dksX3_server_1 : cX3_server.data.toList.drop 23 = dktX3_server_1 := dk_seg dksX3_server_0 23 rfl rfl
theorem dksX3_server_2 : cX3_server.data.toList.drop 47 = dktX3_server_2 := dk_seg dksX3_server_1 24 rfl rfl
theorem dksX3_server_3 : cX3_server.data.toList.drop 70 = dktX3_server_3 := dk_seg dksX3_server_2 23 rfl rfl
theorem dksX3_server_4 : cX3_server.data.toList.drop 92 = dktX3_server_4 := dk_seg dksX3_server_3 22 rfl rfl
theorem dX3_server_0 : decode cX3_server 0 = .ok (.bipush (-5), 2) := dk_16 251 (dk_at dksX3_server_0 0 rfl rfl)
theorem dX3_server_2 : decode cX3_server 2 = .ok (.istore_n 3, 1) := dk_62 (dk_at dksX3_server_0 2 rfl rfl)
theorem dX3_server_3 : decode cX3_server 3 = .ok (.iconst 0, 1) := dk_3 (dk_at dksX3_server_0 3 rfl rfl)
theorem dX3_server_4 : decode cX3_server 4 = .ok (.istore 4, 2) := dk_54 4 (dk_at dksX3_server_0 4 rfl rfl)
theorem dX3_server_6 : decode cX3_server 6 = .ok (.iload 4, 2) := dk_21 4 (dk_at dksX3_server_0 6 rfl rfl)
theorem dX3_server_8 : decode cX3_server 8 = .ok (.aload_n 0, 1) := dk_42 (dk_at dksX3_server_0 8 rfl rfl)
theorem dX3_server_9 : decode cX3_server 9 = .ok (.getfield 7, 3) := dk_180 0 7 (dk_at dksX3_server_0 9 rfl rfl)
theorem dX3_server_12 : decode cX3_server 12 = .ok (.iconst 0, 1) := dk_3 (dk_at dksX3_server_0 12 rfl rfl)
theorem dX3_server_13 : decode cX3_server 13 = .ok (.iaload, 1) := dk_46 (dk_at dksX3_server_0 13 rfl rfl)
theorem dX3_server_14 : decode cX3_server 14 = .ok (.if_icmp .ge 81, 3) := dk_162 0 81 (dk_at dksX3_server_0 14 rfl rfl)
theorem dX3_server_17 : decode cX3_server 17 = .ok (.iload_n 1, 1) := dk_27 (dk_at dksX3_server_0 17 rfl rfl)
theorem dX3_server_18 : decode cX3_server 18 = .ok (.iload 4, 2) := dk_21 4 (dk_at dksX3_server_0 18 rfl rfl)
theorem dX3_server_20 : decode cX3_server 20 = .ok (.invokestatic 67, 3) := dk_184 0 67 (dk_at dksX3_server_0 20 rfl rfl)
theorem dX3_server_23 : decode cX3_server 23 = .ok (.ifCond .eq 23, 3) := dk_153 0 23 (dk_at dksX3_server_1 0 rfl rfl)
theorem dX3_server_26 : decode cX3_server 26 = .ok (.aload_n 0, 1) := dk_42 (dk_at dksX3_server_1 3 rfl rfl)
theorem dX3_server_27 : decode cX3_server 27 = .ok (.getfield 7, 3) := dk_180 0 7 (dk_at dksX3_server_1 4 rfl rfl)
theorem dX3_server_30 : decode cX3_server 30 = .ok (.iload 4, 2) := dk_21 4 (dk_at dksX3_server_1 7 rfl rfl)
theorem dX3_server_32 : decode cX3_server 32 = .ok (.iload_n 2, 1) := dk_28 (dk_at dksX3_server_1 9 rfl rfl)
theorem dX3_server_33 : decode cX3_server 33 = .ok (.invokestatic 64, 3) := dk_184 0 64 (dk_at dksX3_server_1 10 rfl rfl)
theorem dX3_server_36 : decode cX3_server 36 = .ok (.iaload, 1) := dk_46 (dk_at dksX3_server_1 13 rfl rfl)
theorem dX3_server_37 : decode cX3_server 37 = .ok (.bipush 100, 2) := dk_16 100 (dk_at dksX3_server_1 14 rfl rfl)
theorem dX3_server_39 : decode cX3_server 39 = .ok (.if_icmp .ge 7, 3) := dk_162 0 7 (dk_at dksX3_server_1 16 rfl rfl)
theorem dX3_server_42 : decode cX3_server 42 = .ok (.iconst 1, 1) := dk_4 (dk_at dksX3_server_1 19 rfl rfl)
theorem dX3_server_43 : decode cX3_server 43 = .ok (.goto 4, 3) := dk_167 0 4 (dk_at dksX3_server_1 20 rfl rfl)
theorem dX3_server_46 : decode cX3_server 46 = .ok (.iconst 0, 1) := dk_3 (dk_at dksX3_server_1 23 rfl rfl)
theorem dX3_server_47 : decode cX3_server 47 = .ok (.istore 5, 2) := dk_54 5 (dk_at dksX3_server_2 0 rfl rfl)
theorem dX3_server_49 : decode cX3_server 49 = .ok (.iload 5, 2) := dk_21 5 (dk_at dksX3_server_2 2 rfl rfl)
theorem dX3_server_51 : decode cX3_server 51 = .ok (.ifCond .eq 36, 3) := dk_153 0 36 (dk_at dksX3_server_2 4 rfl rfl)
theorem dX3_server_54 : decode cX3_server 54 = .ok (.iload_n 3, 1) := dk_29 (dk_at dksX3_server_2 7 rfl rfl)
theorem dX3_server_55 : decode cX3_server 55 = .ok (.ifCond .lt 27, 3) := dk_155 0 27 (dk_at dksX3_server_2 8 rfl rfl)
theorem dX3_server_58 : decode cX3_server 58 = .ok (.aload_n 0, 1) := dk_42 (dk_at dksX3_server_2 11 rfl rfl)
theorem dX3_server_59 : decode cX3_server 59 = .ok (.getfield 7, 3) := dk_180 0 7 (dk_at dksX3_server_2 12 rfl rfl)
theorem dX3_server_62 : decode cX3_server 62 = .ok (.iload 4, 2) := dk_21 4 (dk_at dksX3_server_2 15 rfl rfl)
theorem dX3_server_64 : decode cX3_server 64 = .ok (.iload_n 2, 1) := dk_28 (dk_at dksX3_server_2 17 rfl rfl)
theorem dX3_server_65 : decode cX3_server 65 = .ok (.invokestatic 64, 3) := dk_184 0 64 (dk_at dksX3_server_2 18 rfl rfl)
theorem dX3_server_68 : decode cX3_server 68 = .ok (.iaload, 1) := dk_46 (dk_at dksX3_server_2 21 rfl rfl)
theorem dX3_server_69 : decode cX3_server 69 = .ok (.aload_n 0, 1) := dk_42 (dk_at dksX3_server_2 22 rfl rfl)
theorem dX3_server_70 : decode cX3_server 70 = .ok (.getfield 7, 3) := dk_180 0 7 (dk_at dksX3_server_3 0 rfl rfl)
theorem dX3_server_73 : decode cX3_server 73 = .ok (.iload_n 3, 1) := dk_29 (dk_at dksX3_server_3 3 rfl rfl)
theorem dX3_server_74 : decode cX3_server 74 = .ok (.iload_n 2, 1) := dk_28 (dk_at dksX3_server_3 4 rfl rfl)
theorem dX3_server_75 : decode cX3_server 75 = .ok (.invokestatic 64, 3) := dk_184 0 64 (dk_at dksX3_server_3 5 rfl rfl)
theorem dX3_server_78 : decode cX3_server 78 = .ok (.iaload, 1) := dk_46 (dk_at dksX3_server_3 8 rfl rfl)
theorem dX3_server_79 : decode cX3_server 79 = .ok (.if_icmp .ge 8, 3) := dk_162 0 8 (dk_at dksX3_server_3 9 rfl rfl)
theorem dX3_server_82 : decode cX3_server 82 = .ok (.iload 4, 2) := dk_21 4 (dk_at dksX3_server_3 12 rfl rfl)
theorem dX3_server_84 : decode cX3_server 84 = .ok (.goto 4, 3) := dk_167 0 4 (dk_at dksX3_server_3 14 rfl rfl)
theorem dX3_server_87 : decode cX3_server 87 = .ok (.iload_n 3, 1) := dk_29 (dk_at dksX3_server_3 17 rfl rfl)
theorem dX3_server_88 : decode cX3_server 88 = .ok (.istore_n 3, 1) := dk_62 (dk_at dksX3_server_3 18 rfl rfl)
theorem dX3_server_89 : decode cX3_server 89 = .ok (.iinc 4 1, 3) := dk_132 4 1 (dk_at dksX3_server_3 19 rfl rfl)
theorem dX3_server_92 : decode cX3_server 92 = .ok (.goto (-86), 3) := dk_167 255 170 (dk_at dksX3_server_4 0 rfl rfl)
theorem dX3_server_95 : decode cX3_server 95 = .ok (.iload_n 3, 1) := dk_29 (dk_at dksX3_server_4 3 rfl rfl)
theorem dX3_server_96 : decode cX3_server 96 = .ok (.ireturn, 1) := dk_172 (dk_at dksX3_server_4 4 rfl rfl)
abbrev cX3_solve : ByteArray := prog_18_method_43_code
def yX3_solve : MethodName := ⟨RX3, "solve", "()I"⟩
def dkwX3_solve_3 : List UInt8 := [100, 172]
abbrev dktX3_solve_3 : List UInt8 := dkwX3_solve_3 ++ []
def dkwX3_solve_2 : List UInt8 := [160, 0, 13, 28, 154, 0, 9, 42, 182, 0, 121, 29, 172, 42, 182, 0, 36, 42, 180, 0, 7, 6, 46, 27]
abbrev dktX3_solve_2 : List UInt8 := dkwX3_solve_2 ++ dktX3_solve_3
def dkwX3_solve_1 : List UInt8 := [159, 0, 14, 132, 2, 1, 42, 182, 0, 118, 62, 167, 255, 239, 29, 16, 253, 159, 0, 13, 29, 16, 252]
abbrev dktX3_solve_1 : List UInt8 := dkwX3_solve_1 ++ dktX3_solve_2
def dkwX3_solve_0 : List UInt8 := [42, 182, 0, 33, 42, 180, 0, 7, 6, 46, 60, 3, 61, 42, 182, 0, 118, 62, 29, 155, 0, 19, 29, 5]
abbrev dktX3_solve_0 : List UInt8 := dkwX3_solve_0 ++ dktX3_solve_1
theorem dksX3_solve_0 : cX3_solve.data.toList.drop 0 = dktX3_solve_0 := by decide +kernel
theorem dksX3_solve_1 : cX3_solve.data.toList.drop 24 = dktX3_solve_1 := dk_seg dksX3_solve_0 24 rfl rfl
theorem dksX3_solve_2 : cX3_solve.data.toList.drop 47 = dktX3_solve_2 := dk_seg dksX3_solve_1 23 rfl rfl
theorem dksX3_solve_3 : cX3_solve.data.toList.drop 71 = dktX3_solve_3 := dk_seg dksX3_solve_2 24 rfl rfl
theorem dX3_solve_0 : decode cX3_solve 0 = .ok (.aload_n 0, 1) := dk_42 (dk_at dksX3_solve_0 0 rfl rfl)
theorem dX3_solve_1 : decode cX3_solve 1 = .ok (.invokevirtual 33, 3) := dk_182 0 33 (dk_at dksX3_solve_0 1 rfl rfl)
theorem dX3_solve_4 : decode cX3_solve 4 = .ok (.aload_n 0, 1) := dk_42 (dk_at dksX3_solve_0 4 rfl rfl)
theorem dX3_solve_5 : decode cX3_solve 5 = .ok (.getfield 7, 3) := dk_180 0 7 (dk_at dksX3_solve_0 5 rfl rfl)
theorem dX3_solve_8 : decode cX3_solve 8 = .ok (.iconst 3, 1) := dk_6 (dk_at dksX3_solve_0 8 rfl rfl)
theorem dX3_solve_9 : decode cX3_solve 9 = .ok (.iaload, 1) := dk_46 (dk_at dksX3_solve_0 9 rfl rfl)
theorem dX3_solve_10 : decode cX3_solve 10 = .ok (.istore_n 1, 1) := dk_60 (dk_at dksX3_solve_0 10 rfl rfl)
theorem dX3_solve_11 : decode cX3_solve 11 = .ok (.iconst 0, 1) := dk_3 (dk_at dksX3_solve_0 11 rfl rfl)
theorem dX3_solve_12 : decode cX3_solve 12 = .ok (.istore_n 2, 1) := dk_61 (dk_at dksX3_solve_0 12 rfl rfl)
theorem dX3_solve_13 : decode cX3_solve 13 = .ok (.aload_n 0, 1) := dk_42 (dk_at dksX3_solve_0 13 rfl rfl)
theorem dX3_solve_14 : decode cX3_solve 14 = .ok (.invokevirtual 118, 3) := dk_182 0 118 (dk_at dksX3_solve_0 14 rfl rfl)
theorem dX3_solve_17 : decode cX3_solve 17 = .ok (.istore_n 3, 1) := dk_62 (dk_at dksX3_solve_0 17 rfl rfl)
theorem dX3_solve_18 : decode cX3_solve 18 = .ok (.iload_n 3, 1) := dk_29 (dk_at dksX3_solve_0 18 rfl rfl)
theorem dX3_solve_19 : decode cX3_solve 19 = .ok (.ifCond .lt 19, 3) := dk_155 0 19 (dk_at dksX3_solve_0 19 rfl rfl)
theorem dX3_solve_22 : decode cX3_solve 22 = .ok (.iload_n 3, 1) := dk_29 (dk_at dksX3_solve_0 22 rfl rfl)
theorem dX3_solve_23 : decode cX3_solve 23 = .ok (.iconst 2, 1) := dk_5 (dk_at dksX3_solve_0 23 rfl rfl)
theorem dX3_solve_24 : decode cX3_solve 24 = .ok (.if_icmp .eq 14, 3) := dk_159 0 14 (dk_at dksX3_solve_1 0 rfl rfl)
theorem dX3_solve_27 : decode cX3_solve 27 = .ok (.iinc 2 1, 3) := dk_132 2 1 (dk_at dksX3_solve_1 3 rfl rfl)
theorem dX3_solve_30 : decode cX3_solve 30 = .ok (.aload_n 0, 1) := dk_42 (dk_at dksX3_solve_1 6 rfl rfl)
theorem dX3_solve_31 : decode cX3_solve 31 = .ok (.invokevirtual 118, 3) := dk_182 0 118 (dk_at dksX3_solve_1 7 rfl rfl)
theorem dX3_solve_34 : decode cX3_solve 34 = .ok (.istore_n 3, 1) := dk_62 (dk_at dksX3_solve_1 10 rfl rfl)
theorem dX3_solve_35 : decode cX3_solve 35 = .ok (.goto (-17), 3) := dk_167 255 239 (dk_at dksX3_solve_1 11 rfl rfl)
theorem dX3_solve_38 : decode cX3_solve 38 = .ok (.iload_n 3, 1) := dk_29 (dk_at dksX3_solve_1 14 rfl rfl)
theorem dX3_solve_39 : decode cX3_solve 39 = .ok (.bipush (-3), 2) := dk_16 253 (dk_at dksX3_solve_1 15 rfl rfl)
theorem dX3_solve_41 : decode cX3_solve 41 = .ok (.if_icmp .eq 13, 3) := dk_159 0 13 (dk_at dksX3_solve_1 17 rfl rfl)
theorem dX3_solve_44 : decode cX3_solve 44 = .ok (.iload_n 3, 1) := dk_29 (dk_at dksX3_solve_1 20 rfl rfl)
theorem dX3_solve_45 : decode cX3_solve 45 = .ok (.bipush (-4), 2) := dk_16 252 (dk_at dksX3_solve_1 21 rfl rfl)
theorem dX3_solve_47 : decode cX3_solve 47 = .ok (.if_icmp .ne 13, 3) := dk_160 0 13 (dk_at dksX3_solve_2 0 rfl rfl)
theorem dX3_solve_50 : decode cX3_solve 50 = .ok (.iload_n 2, 1) := dk_28 (dk_at dksX3_solve_2 3 rfl rfl)
theorem dX3_solve_51 : decode cX3_solve 51 = .ok (.ifCond .ne 9, 3) := dk_154 0 9 (dk_at dksX3_solve_2 4 rfl rfl)
theorem dX3_solve_54 : decode cX3_solve 54 = .ok (.aload_n 0, 1) := dk_42 (dk_at dksX3_solve_2 7 rfl rfl)
theorem dX3_solve_55 : decode cX3_solve 55 = .ok (.invokevirtual 121, 3) := dk_182 0 121 (dk_at dksX3_solve_2 8 rfl rfl)
theorem dX3_solve_58 : decode cX3_solve 58 = .ok (.iload_n 3, 1) := dk_29 (dk_at dksX3_solve_2 11 rfl rfl)
theorem dX3_solve_59 : decode cX3_solve 59 = .ok (.ireturn, 1) := dk_172 (dk_at dksX3_solve_2 12 rfl rfl)
theorem dX3_solve_60 : decode cX3_solve 60 = .ok (.aload_n 0, 1) := dk_42 (dk_at dksX3_solve_2 13 rfl rfl)
theorem dX3_solve_61 : decode cX3_solve 61 = .ok (.invokevirtual 36, 3) := dk_182 0 36 (dk_at dksX3_solve_2 14 rfl rfl)
theorem dX3_solve_64 : decode cX3_solve 64 = .ok (.aload_n 0, 1) := dk_42 (dk_at dksX3_solve_2 17 rfl rfl)
theorem dX3_solve_65 : decode cX3_solve 65 = .ok (.getfield 7, 3) := dk_180 0 7 (dk_at dksX3_solve_2 18 rfl rfl)
theorem dX3_solve_68 : decode cX3_solve 68 = .ok (.iconst 3, 1) := dk_6 (dk_at dksX3_solve_2 21 rfl rfl)
theorem dX3_solve_69 : decode cX3_solve 69 = .ok (.iaload, 1) := dk_46 (dk_at dksX3_solve_2 22 rfl rfl)
theorem dX3_solve_70 : decode cX3_solve 70 = .ok (.iload_n 1, 1) := dk_27 (dk_at dksX3_solve_2 23 rfl rfl)
theorem dX3_solve_71 : decode cX3_solve 71 = .ok (.isub, 1) := dk_100 (dk_at dksX3_solve_3 0 rfl rfl)
theorem dX3_solve_72 : decode cX3_solve 72 = .ok (.ireturn, 1) := dk_172 (dk_at dksX3_solve_3 1 rfl rfl)
abbrev cX3_goBack : ByteArray := prog_18_method_6_code
def yX3_goBack : MethodName := ⟨RX3, "goBack", "()V"⟩
def dkwX3_goBack_1 : List UInt8 := [167, 255, 234, 177]
abbrev dktX3_goBack_1 : List UInt8 := dkwX3_goBack_1 ++ []
def dkwX3_goBack_0 : List UInt8 := [3, 60, 27, 17, 1, 188, 162, 0, 21, 42, 180, 0, 7, 27, 42, 180, 0, 19, 27, 46, 79, 132, 1, 1]
abbrev dktX3_goBack_0 : List UInt8 := dkwX3_goBack_0 ++ dktX3_goBack_1
theorem dksX3_goBack_0 : cX3_goBack.data.toList.drop 0 = dktX3_goBack_0 := by decide +kernel
theorem dksX3_goBack_1 : cX3_goBack.data.toList.drop 24 = dktX3_goBack_1 := dk_seg dksX3_goBack_0 24 rfl rfl
theorem dX3_goBack_0 : decode cX3_goBack 0 = .ok (.iconst 0, 1) := dk_3 (dk_at dksX3_goBack_0 0 rfl rfl)
theorem dX3_goBack_1 : decode cX3_goBack 1 = .ok (.istore_n 1, 1) := dk_60 (dk_at dksX3_goBack_0 1 rfl rfl)
theorem dX3_goBack_2 : decode cX3_goBack 2 = .ok (.iload_n 1, 1) := dk_27 (dk_at dksX3_goBack_0 2 rfl rfl)
theorem dX3_goBack_3 : decode cX3_goBack 3 = .ok (.sipush 444, 3) := dk_17 1 188 (dk_at dksX3_goBack_0 3 rfl rfl)
theorem dX3_goBack_6 : decode cX3_goBack 6 = .ok (.if_icmp .ge 21, 3) := dk_162 0 21 (dk_at dksX3_goBack_0 6 rfl rfl)
theorem dX3_goBack_9 : decode cX3_goBack 9 = .ok (.aload_n 0, 1) := dk_42 (dk_at dksX3_goBack_0 9 rfl rfl)
theorem dX3_goBack_10 : decode cX3_goBack 10 = .ok (.getfield 7, 3) := dk_180 0 7 (dk_at dksX3_goBack_0 10 rfl rfl)
theorem dX3_goBack_13 : decode cX3_goBack 13 = .ok (.iload_n 1, 1) := dk_27 (dk_at dksX3_goBack_0 13 rfl rfl)
theorem dX3_goBack_14 : decode cX3_goBack 14 = .ok (.aload_n 0, 1) := dk_42 (dk_at dksX3_goBack_0 14 rfl rfl)
theorem dX3_goBack_15 : decode cX3_goBack 15 = .ok (.getfield 19, 3) := dk_180 0 19 (dk_at dksX3_goBack_0 15 rfl rfl)
theorem dX3_goBack_18 : decode cX3_goBack 18 = .ok (.iload_n 1, 1) := dk_27 (dk_at dksX3_goBack_0 18 rfl rfl)
theorem dX3_goBack_19 : decode cX3_goBack 19 = .ok (.iaload, 1) := dk_46 (dk_at dksX3_goBack_0 19 rfl rfl)
theorem dX3_goBack_20 : decode cX3_goBack 20 = .ok (.iastore, 1) := dk_79 (dk_at dksX3_goBack_0 20 rfl rfl)
theorem dX3_goBack_21 : decode cX3_goBack 21 = .ok (.iinc 1 1, 3) := dk_132 1 1 (dk_at dksX3_goBack_0 21 rfl rfl)
theorem dX3_goBack_24 : decode cX3_goBack 24 = .ok (.goto (-22), 3) := dk_167 255 234 (dk_at dksX3_goBack_1 0 rfl rfl)
theorem dX3_goBack_27 : decode cX3_goBack 27 = .ok (.return_, 1) := dk_177 (dk_at dksX3_goBack_1 3 rfl rfl)
abbrev cX3_drop : ByteArray := prog_18_method_45_code
def yX3_drop : MethodName := ⟨RX3, "drop", "(I)I"⟩
def dkwX3_drop_1 : List UInt8 := [46, 172]
abbrev dktX3_drop_1 : List UInt8 := dkwX3_drop_1 ++ []
def dkwX3_drop_0 : List UInt8 := [42, 27, 182, 0, 124, 153, 0, 5, 2, 172, 42, 182, 0, 43, 42, 27, 182, 0, 127, 42, 180, 0, 7, 6]
abbrev dktX3_drop_0 : List UInt8 := dkwX3_drop_0 ++ dktX3_drop_1
theorem dksX3_drop_0 : cX3_drop.data.toList.drop 0 = dktX3_drop_0 := by decide +kernel
theorem dksX3_drop_1 : cX3_drop.data.toList.drop 24 = dktX3_drop_1 := dk_seg dksX3_drop_0 24 rfl rfl
theorem dX3_drop_0 : decode cX3_drop 0 = .ok (.aload_n 0, 1) := dk_42 (dk_at dksX3_drop_0 0 rfl rfl)
theorem dX3_drop_1 : decode cX3_drop 1 = .ok (.iload_n 1, 1) := dk_27 (dk_at dksX3_drop_0 1 rfl rfl)
theorem dX3_drop_2 : decode cX3_drop 2 = .ok (.invokevirtual 124, 3) := dk_182 0 124 (dk_at dksX3_drop_0 2 rfl rfl)
theorem dX3_drop_5 : decode cX3_drop 5 = .ok (.ifCond .eq 5, 3) := dk_153 0 5 (dk_at dksX3_drop_0 5 rfl rfl)
theorem dX3_drop_8 : decode cX3_drop 8 = .ok (.iconst (-1), 1) := dk_2 (dk_at dksX3_drop_0 8 rfl rfl)
theorem dX3_drop_9 : decode cX3_drop 9 = .ok (.ireturn, 1) := dk_172 (dk_at dksX3_drop_0 9 rfl rfl)
theorem dX3_drop_10 : decode cX3_drop 10 = .ok (.aload_n 0, 1) := dk_42 (dk_at dksX3_drop_0 10 rfl rfl)
theorem dX3_drop_11 : decode cX3_drop 11 = .ok (.invokevirtual 43, 3) := dk_182 0 43 (dk_at dksX3_drop_0 11 rfl rfl)
theorem dX3_drop_14 : decode cX3_drop 14 = .ok (.aload_n 0, 1) := dk_42 (dk_at dksX3_drop_0 14 rfl rfl)
theorem dX3_drop_15 : decode cX3_drop 15 = .ok (.iload_n 1, 1) := dk_27 (dk_at dksX3_drop_0 15 rfl rfl)
theorem dX3_drop_16 : decode cX3_drop 16 = .ok (.invokevirtual 127, 3) := dk_182 0 127 (dk_at dksX3_drop_0 16 rfl rfl)
theorem dX3_drop_19 : decode cX3_drop 19 = .ok (.aload_n 0, 1) := dk_42 (dk_at dksX3_drop_0 19 rfl rfl)
theorem dX3_drop_20 : decode cX3_drop 20 = .ok (.getfield 7, 3) := dk_180 0 7 (dk_at dksX3_drop_0 20 rfl rfl)
theorem dX3_drop_23 : decode cX3_drop 23 = .ok (.iconst 3, 1) := dk_6 (dk_at dksX3_drop_0 23 rfl rfl)
theorem dX3_drop_24 : decode cX3_drop 24 = .ok (.iaload, 1) := dk_46 (dk_at dksX3_drop_1 0 rfl rfl)
theorem dX3_drop_25 : decode cX3_drop 25 = .ok (.ireturn, 1) := dk_172 (dk_at dksX3_drop_1 1 rfl rfl)
abbrev cX3_noCut : ByteArray := prog_18_method_33_code
def yX3_noCut : MethodName := ⟨RX3, "noCut", "(I)Z"⟩
def dkwX3_noCut_0 : List UInt8 := [27, 3, 42, 180, 0, 7, 6, 46, 4, 100, 184, 0, 46, 154, 0, 7, 4, 167, 0, 4, 3, 172]
abbrev dktX3_noCut_0 : List UInt8 := dkwX3_noCut_0 ++ []
theorem dksX3_noCut_0 : cX3_noCut.data.toList.drop 0 = dktX3_noCut_0 := by decide +kernel
theorem dX3_noCut_0 : decode cX3_noCut 0 = .ok (.iload_n 1, 1) := dk_27 (dk_at dksX3_noCut_0 0 rfl rfl)
theorem dX3_noCut_1 : decode cX3_noCut 1 = .ok (.iconst 0, 1) := dk_3 (dk_at dksX3_noCut_0 1 rfl rfl)
theorem dX3_noCut_2 : decode cX3_noCut 2 = .ok (.aload_n 0, 1) := dk_42 (dk_at dksX3_noCut_0 2 rfl rfl)
theorem dX3_noCut_3 : decode cX3_noCut 3 = .ok (.getfield 7, 3) := dk_180 0 7 (dk_at dksX3_noCut_0 3 rfl rfl)
theorem dX3_noCut_6 : decode cX3_noCut 6 = .ok (.iconst 3, 1) := dk_6 (dk_at dksX3_noCut_0 6 rfl rfl)
theorem dX3_noCut_7 : decode cX3_noCut 7 = .ok (.iaload, 1) := dk_46 (dk_at dksX3_noCut_0 7 rfl rfl)
theorem dX3_noCut_8 : decode cX3_noCut 8 = .ok (.iconst 1, 1) := dk_4 (dk_at dksX3_noCut_0 8 rfl rfl)
theorem dX3_noCut_9 : decode cX3_noCut 9 = .ok (.isub, 1) := dk_100 (dk_at dksX3_noCut_0 9 rfl rfl)
theorem dX3_noCut_10 : decode cX3_noCut 10 = .ok (.invokestatic 46, 3) := dk_184 0 46 (dk_at dksX3_noCut_0 10 rfl rfl)
theorem dX3_noCut_13 : decode cX3_noCut 13 = .ok (.ifCond .ne 7, 3) := dk_154 0 7 (dk_at dksX3_noCut_0 13 rfl rfl)
theorem dX3_noCut_16 : decode cX3_noCut 16 = .ok (.iconst 1, 1) := dk_4 (dk_at dksX3_noCut_0 16 rfl rfl)
theorem dX3_noCut_17 : decode cX3_noCut 17 = .ok (.goto 4, 3) := dk_167 0 4 (dk_at dksX3_noCut_0 17 rfl rfl)
theorem dX3_noCut_20 : decode cX3_noCut 20 = .ok (.iconst 0, 1) := dk_3 (dk_at dksX3_noCut_0 20 rfl rfl)
theorem dX3_noCut_21 : decode cX3_noCut 21 = .ok (.ireturn, 1) := dk_172 (dk_at dksX3_noCut_0 21 rfl rfl)
abbrev cX3_dropOne : ByteArray := prog_18_method_44_code
def yX3_dropOne : MethodName := ⟨RX3, "dropOne", "(I)V"⟩
def dkwX3_dropOne_2 : List UInt8 := [167, 255, 217, 42, 180, 0, 7, 6, 92, 46, 4, 100, 79, 177]
abbrev dktX3_dropOne_2 : List UInt8 := dkwX3_dropOne_2 ++ []
def dkwX3_dropOne_1 : List UInt8 := [17, 1, 188, 162, 0, 15, 42, 180, 0, 7, 28, 16, 9, 96, 46, 167, 0, 4, 3, 79, 132, 2, 1]
abbrev dktX3_dropOne_1 : List UInt8 := dkwX3_dropOne_1 ++ dktX3_dropOne_2
def dkwX3_dropOne_0 : List UInt8 := [16, 84, 16, 9, 27, 104, 96, 61, 28, 17, 1, 188, 162, 0, 38, 42, 180, 0, 7, 28, 28, 16, 9, 96]
abbrev dktX3_dropOne_0 : List UInt8 := dkwX3_dropOne_0 ++ dktX3_dropOne_1
theorem dksX3_dropOne_0 : cX3_dropOne.data.toList.drop 0 = dktX3_dropOne_0 := by decide +kernel
theorem dksX3_dropOne_1 : cX3_dropOne.data.toList.drop 24 = dktX3_dropOne_1 := dk_seg dksX3_dropOne_0 24 rfl rfl
theorem dksX3_dropOne_2 : cX3_dropOne.data.toList.drop 47 = dktX3_dropOne_2 := dk_seg dksX3_dropOne_1 23 rfl rfl
theorem dX3_dropOne_0 : decode cX3_dropOne 0 = .ok (.bipush 84, 2) := dk_16 84 (dk_at dksX3_dropOne_0 0 rfl rfl)
theorem dX3_dropOne_2 : decode cX3_dropOne 2 = .ok (.bipush 9, 2) := dk_16 9 (dk_at dksX3_dropOne_0 2 rfl rfl)
theorem dX3_dropOne_4 : decode cX3_dropOne 4 = .ok (.iload_n 1, 1) := dk_27 (dk_at dksX3_dropOne_0 4 rfl rfl)
theorem dX3_dropOne_5 : decode cX3_dropOne 5 = .ok (.imul, 1) := dk_104 (dk_at dksX3_dropOne_0 5 rfl rfl)
theorem dX3_dropOne_6 : decode cX3_dropOne 6 = .ok (.iadd, 1) := dk_96 (dk_at dksX3_dropOne_0 6 rfl rfl)
theorem dX3_dropOne_7 : decode cX3_dropOne 7 = .ok (.istore_n 2, 1) := dk_61 (dk_at dksX3_dropOne_0 7 rfl rfl)
theorem dX3_dropOne_8 : decode cX3_dropOne 8 = .ok (.iload_n 2, 1) := dk_28 (dk_at dksX3_dropOne_0 8 rfl rfl)
theorem dX3_dropOne_9 : decode cX3_dropOne 9 = .ok (.sipush 444, 3) := dk_17 1 188 (dk_at dksX3_dropOne_0 9 rfl rfl)
theorem dX3_dropOne_12 : decode cX3_dropOne 12 = .ok (.if_icmp .ge 38, 3) := dk_162 0 38 (dk_at dksX3_dropOne_0 12 rfl rfl)
theorem dX3_dropOne_15 : decode cX3_dropOne 15 = .ok (.aload_n 0, 1) := dk_42 (dk_at dksX3_dropOne_0 15 rfl rfl)
theorem dX3_dropOne_16 : decode cX3_dropOne 16 = .ok (.getfield 7, 3) := dk_180 0 7 (dk_at dksX3_dropOne_0 16 rfl rfl)
theorem dX3_dropOne_19 : decode cX3_dropOne 19 = .ok (.iload_n 2, 1) := dk_28 (dk_at dksX3_dropOne_0 19 rfl rfl)
theorem dX3_dropOne_20 : decode cX3_dropOne 20 = .ok (.iload_n 2, 1) := dk_28 (dk_at dksX3_dropOne_0 20 rfl rfl)
theorem dX3_dropOne_21 : decode cX3_dropOne 21 = .ok (.bipush 9, 2) := dk_16 9 (dk_at dksX3_dropOne_0 21 rfl rfl)
theorem dX3_dropOne_23 : decode cX3_dropOne 23 = .ok (.iadd, 1) := dk_96 (dk_at dksX3_dropOne_0 23 rfl rfl)
theorem dX3_dropOne_24 : decode cX3_dropOne 24 = .ok (.sipush 444, 3) := dk_17 1 188 (dk_at dksX3_dropOne_1 0 rfl rfl)
theorem dX3_dropOne_27 : decode cX3_dropOne 27 = .ok (.if_icmp .ge 15, 3) := dk_162 0 15 (dk_at dksX3_dropOne_1 3 rfl rfl)
theorem dX3_dropOne_30 : decode cX3_dropOne 30 = .ok (.aload_n 0, 1) := dk_42 (dk_at dksX3_dropOne_1 6 rfl rfl)
theorem dX3_dropOne_31 : decode cX3_dropOne 31 = .ok (.getfield 7, 3) := dk_180 0 7 (dk_at dksX3_dropOne_1 7 rfl rfl)
theorem dX3_dropOne_34 : decode cX3_dropOne 34 = .ok (.iload_n 2, 1) := dk_28 (dk_at dksX3_dropOne_1 10 rfl rfl)
theorem dX3_dropOne_35 : decode cX3_dropOne 35 = .ok (.bipush 9, 2) := dk_16 9 (dk_at dksX3_dropOne_1 11 rfl rfl)
theorem dX3_dropOne_37 : decode cX3_dropOne 37 = .ok (.iadd, 1) := dk_96 (dk_at dksX3_dropOne_1 13 rfl rfl)
theorem dX3_dropOne_38 : decode cX3_dropOne 38 = .ok (.iaload, 1) := dk_46 (dk_at dksX3_dropOne_1 14 rfl rfl)
theorem dX3_dropOne_39 : decode cX3_dropOne 39 = .ok (.goto 4, 3) := dk_167 0 4 (dk_at dksX3_dropOne_1 15 rfl rfl)
theorem dX3_dropOne_42 : decode cX3_dropOne 42 = .ok (.iconst 0, 1) := dk_3 (dk_at dksX3_dropOne_1 18 rfl rfl)
theorem dX3_dropOne_43 : decode cX3_dropOne 43 = .ok (.iastore, 1) := dk_79 (dk_at dksX3_dropOne_1 19 rfl rfl)
theorem dX3_dropOne_44 : decode cX3_dropOne 44 = .ok (.iinc 2 1, 3) := dk_132 2 1 (dk_at dksX3_dropOne_1 20 rfl rfl)
theorem dX3_dropOne_47 : decode cX3_dropOne 47 = .ok (.goto (-39), 3) := dk_167 255 217 (dk_at dksX3_dropOne_2 0 rfl rfl)
theorem dX3_dropOne_50 : decode cX3_dropOne 50 = .ok (.aload_n 0, 1) := dk_42 (dk_at dksX3_dropOne_2 3 rfl rfl)
theorem dX3_dropOne_51 : decode cX3_dropOne 51 = .ok (.getfield 7, 3) := dk_180 0 7 (dk_at dksX3_dropOne_2 4 rfl rfl)
theorem dX3_dropOne_54 : decode cX3_dropOne 54 = .ok (.iconst 3, 1) := dk_6 (dk_at dksX3_dropOne_2 7 rfl rfl)
theorem dX3_dropOne_55 : decode cX3_dropOne 55 = .ok (.dup2, 1) := dk_92 (dk_at dksX3_dropOne_2 8 rfl rfl)
theorem dX3_dropOne_56 : decode cX3_dropOne 56 = .ok (.iaload, 1) := dk_46 (dk_at dksX3_dropOne_2 9 rfl rfl)
theorem dX3_dropOne_57 : decode cX3_dropOne 57 = .ok (.iconst 1, 1) := dk_4 (dk_at dksX3_dropOne_2 10 rfl rfl)
theorem dX3_dropOne_58 : decode cX3_dropOne 58 = .ok (.isub, 1) := dk_100 (dk_at dksX3_dropOne_2 11 rfl rfl)
theorem dX3_dropOne_59 : decode cX3_dropOne 59 = .ok (.iastore, 1) := dk_79 (dk_at dksX3_dropOne_2 12 rfl rfl)
theorem dX3_dropOne_60 : decode cX3_dropOne 60 = .ok (.return_, 1) := dk_177 (dk_at dksX3_dropOne_2 13 rfl rfl)
abbrev cX3_dropLoose : ByteArray := prog_18_method_47_code
def yX3_dropLoose : MethodName := ⟨RX3, "dropLoose", "()I"⟩
def dkwX3_dropLoose_4 : List UInt8 := [21, 4, 27, 28, 182, 0, 131, 153, 0, 9, 42, 21, 4, 182, 0, 127, 132, 4, 255, 167, 255, 231, 29, 172]
abbrev dktX3_dropLoose_4 : List UInt8 := dkwX3_dropLoose_4 ++ []
def dkwX3_dropLoose_3 : List UInt8 := [16, 251, 172, 42, 182, 0, 43, 42, 180, 0, 7, 6, 46, 4, 100, 54, 4, 21, 4, 155, 0, 26, 42]
abbrev dktX3_dropLoose_3 : List UInt8 := dkwX3_dropLoose_3 ++ dktX3_dropLoose_4
def dkwX3_dropLoose_2 : List UInt8 := [182, 0, 131, 153, 0, 7, 4, 167, 0, 4, 3, 96, 62, 132, 4, 1, 167, 255, 223, 29, 154, 0, 6]
abbrev dktX3_dropLoose_2 : List UInt8 := dkwX3_dropLoose_2 ++ dktX3_dropLoose_3
def dkwX3_dropLoose_1 : List UInt8 := [3, 62, 3, 54, 4, 21, 4, 42, 180, 0, 7, 6, 46, 162, 0, 28, 29, 42, 21, 4, 27, 28]
abbrev dktX3_dropLoose_1 : List UInt8 := dkwX3_dropLoose_1 ++ dktX3_dropLoose_2
def dkwX3_dropLoose_0 : List UInt8 := [42, 182, 0, 111, 60, 27, 156, 0, 6, 16, 252, 172, 42, 27, 182, 0, 108, 42, 27, 182, 0, 102, 100, 61]
abbrev dktX3_dropLoose_0 : List UInt8 := dkwX3_dropLoose_0 ++ dktX3_dropLoose_1
theorem dksX3_dropLoose_0 : cX3_dropLoose.data.toList.drop 0 = dktX3_dropLoose_0 := by decide +kernel
theorem dksX3_dropLoose_1 : cX3_dropLoose.data.toList.drop 24 = dktX3_dropLoose_1 := dk_seg dksX3_dropLoose_0 24 rfl rfl
theorem dksX3_dropLoose_2 : cX3_dropLoose.data.toList.drop 46 = dktX3_dropLoose_2 := dk_seg dksX3_dropLoose_1 22 rfl rfl
theorem dksX3_dropLoose_3 : cX3_dropLoose.data.toList.drop 69 = dktX3_dropLoose_3 := dk_seg dksX3_dropLoose_2 23 rfl rfl
theorem dksX3_dropLoose_4 : cX3_dropLoose.data.toList.drop 92 = dktX3_dropLoose_4 := dk_seg dksX3_dropLoose_3 23 rfl rfl
theorem dX3_dropLoose_0 : decode cX3_dropLoose 0 = .ok (.aload_n 0, 1) := dk_42 (dk_at dksX3_dropLoose_0 0 rfl rfl)
theorem dX3_dropLoose_1 : decode cX3_dropLoose 1 = .ok (.invokevirtual 111, 3) := dk_182 0 111 (dk_at dksX3_dropLoose_0 1 rfl rfl)
theorem dX3_dropLoose_4 : decode cX3_dropLoose 4 = .ok (.istore_n 1, 1) := dk_60 (dk_at dksX3_dropLoose_0 4 rfl rfl)
theorem dX3_dropLoose_5 : decode cX3_dropLoose 5 = .ok (.iload_n 1, 1) := dk_27 (dk_at dksX3_dropLoose_0 5 rfl rfl)
theorem dX3_dropLoose_6 : decode cX3_dropLoose 6 = .ok (.ifCond .ge 6, 3) := dk_156 0 6 (dk_at dksX3_dropLoose_0 6 rfl rfl)
theorem dX3_dropLoose_9 : decode cX3_dropLoose 9 = .ok (.bipush (-4), 2) := dk_16 252 (dk_at dksX3_dropLoose_0 9 rfl rfl)
theorem dX3_dropLoose_11 : decode cX3_dropLoose 11 = .ok (.ireturn, 1) := dk_172 (dk_at dksX3_dropLoose_0 11 rfl rfl)
theorem dX3_dropLoose_12 : decode cX3_dropLoose 12 = .ok (.aload_n 0, 1) := dk_42 (dk_at dksX3_dropLoose_0 12 rfl rfl)
theorem dX3_dropLoose_13 : decode cX3_dropLoose 13 = .ok (.iload_n 1, 1) := dk_27 (dk_at dksX3_dropLoose_0 13 rfl rfl)
theorem dX3_dropLoose_14 : decode cX3_dropLoose 14 = .ok (.invokevirtual 108, 3) := dk_182 0 108 (dk_at dksX3_dropLoose_0 14 rfl rfl)
theorem dX3_dropLoose_17 : decode cX3_dropLoose 17 = .ok (.aload_n 0, 1) := dk_42 (dk_at dksX3_dropLoose_0 17 rfl rfl)
theorem dX3_dropLoose_18 : decode cX3_dropLoose 18 = .ok (.iload_n 1, 1) := dk_27 (dk_at dksX3_dropLoose_0 18 rfl rfl)
theorem dX3_dropLoose_19 : decode cX3_dropLoose 19 = .ok (.invokevirtual 102, 3) := dk_182 0 102 (dk_at dksX3_dropLoose_0 19 rfl rfl)
theorem dX3_dropLoose_22 : decode cX3_dropLoose 22 = .ok (.isub, 1) := dk_100 (dk_at dksX3_dropLoose_0 22 rfl rfl)
theorem dX3_dropLoose_23 : decode cX3_dropLoose 23 = .ok (.istore_n 2, 1) := dk_61 (dk_at dksX3_dropLoose_0 23 rfl rfl)
theorem dX3_dropLoose_24 : decode cX3_dropLoose 24 = .ok (.iconst 0, 1) := dk_3 (dk_at dksX3_dropLoose_1 0 rfl rfl)
theorem dX3_dropLoose_25 : decode cX3_dropLoose 25 = .ok (.istore_n 3, 1) := dk_62 (dk_at dksX3_dropLoose_1 1 rfl rfl)
theorem dX3_dropLoose_26 : decode cX3_dropLoose 26 = .ok (.iconst 0, 1) := dk_3 (dk_at dksX3_dropLoose_1 2 rfl rfl)
theorem dX3_dropLoose_27 : decode cX3_dropLoose 27 = .ok (.istore 4, 2) := dk_54 4 (dk_at dksX3_dropLoose_1 3 rfl rfl)
theorem dX3_dropLoose_29 : decode cX3_dropLoose 29 = .ok (.iload 4, 2) := dk_21 4 (dk_at dksX3_dropLoose_1 5 rfl rfl)
theorem dX3_dropLoose_31 : decode cX3_dropLoose 31 = .ok (.aload_n 0, 1) := dk_42 (dk_at dksX3_dropLoose_1 7 rfl rfl)
theorem dX3_dropLoose_32 : decode cX3_dropLoose 32 = .ok (.getfield 7, 3) := dk_180 0 7 (dk_at dksX3_dropLoose_1 8 rfl rfl)
theorem dX3_dropLoose_35 : decode cX3_dropLoose 35 = .ok (.iconst 3, 1) := dk_6 (dk_at dksX3_dropLoose_1 11 rfl rfl)
theorem dX3_dropLoose_36 : decode cX3_dropLoose 36 = .ok (.iaload, 1) := dk_46 (dk_at dksX3_dropLoose_1 12 rfl rfl)
theorem dX3_dropLoose_37 : decode cX3_dropLoose 37 = .ok (.if_icmp .ge 28, 3) := dk_162 0 28 (dk_at dksX3_dropLoose_1 13 rfl rfl)
theorem dX3_dropLoose_40 : decode cX3_dropLoose 40 = .ok (.iload_n 3, 1) := dk_29 (dk_at dksX3_dropLoose_1 16 rfl rfl)
theorem dX3_dropLoose_41 : decode cX3_dropLoose 41 = .ok (.aload_n 0, 1) := dk_42 (dk_at dksX3_dropLoose_1 17 rfl rfl)
theorem dX3_dropLoose_42 : decode cX3_dropLoose 42 = .ok (.iload 4, 2) := dk_21 4 (dk_at dksX3_dropLoose_1 18 rfl rfl)
theorem dX3_dropLoose_44 : decode cX3_dropLoose 44 = .ok (.iload_n 1, 1) := dk_27 (dk_at dksX3_dropLoose_1 20 rfl rfl)
theorem dX3_dropLoose_45 : decode cX3_dropLoose 45 = .ok (.iload_n 2, 1) := dk_28 (dk_at dksX3_dropLoose_1 21 rfl rfl)
theorem dX3_dropLoose_46 : decode cX3_dropLoose 46 = .ok (.invokevirtual 131, 3) := dk_182 0 131 (dk_at dksX3_dropLoose_2 0 rfl rfl)
theorem dX3_dropLoose_49 : decode cX3_dropLoose 49 = .ok (.ifCond .eq 7, 3) := dk_153 0 7 (dk_at dksX3_dropLoose_2 3 rfl rfl)
theorem dX3_dropLoose_52 : decode cX3_dropLoose 52 = .ok (.iconst 1, 1) := dk_4 (dk_at dksX3_dropLoose_2 6 rfl rfl)
theorem dX3_dropLoose_53 : decode cX3_dropLoose 53 = .ok (.goto 4, 3) := dk_167 0 4 (dk_at dksX3_dropLoose_2 7 rfl rfl)
theorem dX3_dropLoose_56 : decode cX3_dropLoose 56 = .ok (.iconst 0, 1) := dk_3 (dk_at dksX3_dropLoose_2 10 rfl rfl)
theorem dX3_dropLoose_57 : decode cX3_dropLoose 57 = .ok (.iadd, 1) := dk_96 (dk_at dksX3_dropLoose_2 11 rfl rfl)
theorem dX3_dropLoose_58 : decode cX3_dropLoose 58 = .ok (.istore_n 3, 1) := dk_62 (dk_at dksX3_dropLoose_2 12 rfl rfl)
theorem dX3_dropLoose_59 : decode cX3_dropLoose 59 = .ok (.iinc 4 1, 3) := dk_132 4 1 (dk_at dksX3_dropLoose_2 13 rfl rfl)
theorem dX3_dropLoose_62 : decode cX3_dropLoose 62 = .ok (.goto (-33), 3) := dk_167 255 223 (dk_at dksX3_dropLoose_2 16 rfl rfl)
theorem dX3_dropLoose_65 : decode cX3_dropLoose 65 = .ok (.iload_n 3, 1) := dk_29 (dk_at dksX3_dropLoose_2 19 rfl rfl)
theorem dX3_dropLoose_66 : decode cX3_dropLoose 66 = .ok (.ifCond .ne 6, 3) := dk_154 0 6 (dk_at dksX3_dropLoose_2 20 rfl rfl)
theorem dX3_dropLoose_69 : decode cX3_dropLoose 69 = .ok (.bipush (-5), 2) := dk_16 251 (dk_at dksX3_dropLoose_3 0 rfl rfl)
theorem dX3_dropLoose_71 : decode cX3_dropLoose 71 = .ok (.ireturn, 1) := dk_172 (dk_at dksX3_dropLoose_3 2 rfl rfl)
theorem dX3_dropLoose_72 : decode cX3_dropLoose 72 = .ok (.aload_n 0, 1) := dk_42 (dk_at dksX3_dropLoose_3 3 rfl rfl)
theorem dX3_dropLoose_73 : decode cX3_dropLoose 73 = .ok (.invokevirtual 43, 3) := dk_182 0 43 (dk_at dksX3_dropLoose_3 4 rfl rfl)
theorem dX3_dropLoose_76 : decode cX3_dropLoose 76 = .ok (.aload_n 0, 1) := dk_42 (dk_at dksX3_dropLoose_3 7 rfl rfl)
theorem dX3_dropLoose_77 : decode cX3_dropLoose 77 = .ok (.getfield 7, 3) := dk_180 0 7 (dk_at dksX3_dropLoose_3 8 rfl rfl)
theorem dX3_dropLoose_80 : decode cX3_dropLoose 80 = .ok (.iconst 3, 1) := dk_6 (dk_at dksX3_dropLoose_3 11 rfl rfl)
theorem dX3_dropLoose_81 : decode cX3_dropLoose 81 = .ok (.iaload, 1) := dk_46 (dk_at dksX3_dropLoose_3 12 rfl rfl)
theorem dX3_dropLoose_82 : decode cX3_dropLoose 82 = .ok (.iconst 1, 1) := dk_4 (dk_at dksX3_dropLoose_3 13 rfl rfl)
theorem dX3_dropLoose_83 : decode cX3_dropLoose 83 = .ok (.isub, 1) := dk_100 (dk_at dksX3_dropLoose_3 14 rfl rfl)
theorem dX3_dropLoose_84 : decode cX3_dropLoose 84 = .ok (.istore 4, 2) := dk_54 4 (dk_at dksX3_dropLoose_3 15 rfl rfl)
theorem dX3_dropLoose_86 : decode cX3_dropLoose 86 = .ok (.iload 4, 2) := dk_21 4 (dk_at dksX3_dropLoose_3 17 rfl rfl)
theorem dX3_dropLoose_88 : decode cX3_dropLoose 88 = .ok (.ifCond .lt 26, 3) := dk_155 0 26 (dk_at dksX3_dropLoose_3 19 rfl rfl)
theorem dX3_dropLoose_91 : decode cX3_dropLoose 91 = .ok (.aload_n 0, 1) := dk_42 (dk_at dksX3_dropLoose_3 22 rfl rfl)
theorem dX3_dropLoose_92 : decode cX3_dropLoose 92 = .ok (.iload 4, 2) := dk_21 4 (dk_at dksX3_dropLoose_4 0 rfl rfl)
theorem dX3_dropLoose_94 : decode cX3_dropLoose 94 = .ok (.iload_n 1, 1) := dk_27 (dk_at dksX3_dropLoose_4 2 rfl rfl)
theorem dX3_dropLoose_95 : decode cX3_dropLoose 95 = .ok (.iload_n 2, 1) := dk_28 (dk_at dksX3_dropLoose_4 3 rfl rfl)
theorem dX3_dropLoose_96 : decode cX3_dropLoose 96 = .ok (.invokevirtual 131, 3) := dk_182 0 131 (dk_at dksX3_dropLoose_4 4 rfl rfl)
theorem dX3_dropLoose_99 : decode cX3_dropLoose 99 = .ok (.ifCond .eq 9, 3) := dk_153 0 9 (dk_at dksX3_dropLoose_4 7 rfl rfl)
theorem dX3_dropLoose_102 : decode cX3_dropLoose 102 = .ok (.aload_n 0, 1) := dk_42 (dk_at dksX3_dropLoose_4 10 rfl rfl)
theorem dX3_dropLoose_103 : decode cX3_dropLoose 103 = .ok (.iload 4, 2) := dk_21 4 (dk_at dksX3_dropLoose_4 11 rfl rfl)
theorem dX3_dropLoose_105 : decode cX3_dropLoose 105 = .ok (.invokevirtual 127, 3) := dk_182 0 127 (dk_at dksX3_dropLoose_4 13 rfl rfl)
theorem dX3_dropLoose_108 : decode cX3_dropLoose 108 = .ok (.iinc 4 (-1), 3) := dk_132 4 255 (dk_at dksX3_dropLoose_4 16 rfl rfl)
theorem dX3_dropLoose_111 : decode cX3_dropLoose 111 = .ok (.goto (-25), 3) := dk_167 255 231 (dk_at dksX3_dropLoose_4 19 rfl rfl)
theorem dX3_dropLoose_114 : decode cX3_dropLoose 114 = .ok (.iload_n 3, 1) := dk_29 (dk_at dksX3_dropLoose_4 22 rfl rfl)
theorem dX3_dropLoose_115 : decode cX3_dropLoose 115 = .ok (.ireturn, 1) := dk_172 (dk_at dksX3_dropLoose_4 23 rfl rfl)
abbrev cX3_isLoose : ByteArray := prog_18_method_46_code
def yX3_isLoose : MethodName := ⟨RX3, "isLoose", "(III)Z"⟩
def dkwX3_isLoose_1 : List UInt8 := [167, 0, 18, 42, 27, 28, 182, 0, 99, 29, 162, 0, 7, 4, 167, 0, 4, 3, 172]
abbrev dktX3_isLoose_1 : List UInt8 := dkwX3_isLoose_1 ++ []
def dkwX3_isLoose_0 : List UInt8 := [42, 27, 182, 0, 93, 153, 0, 21, 42, 27, 28, 182, 0, 96, 4, 164, 0, 7, 4, 167, 0, 22, 3]
abbrev dktX3_isLoose_0 : List UInt8 := dkwX3_isLoose_0 ++ dktX3_isLoose_1
theorem dksX3_isLoose_0 : cX3_isLoose.data.toList.drop 0 = dktX3_isLoose_0 := by decide +kernel
theorem dksX3_isLoose_1 : cX3_isLoose.data.toList.drop 23 = dktX3_isLoose_1 := dk_seg dksX3_isLoose_0 23 rfl rfl
theorem dX3_isLoose_0 : decode cX3_isLoose 0 = .ok (.aload_n 0, 1) := dk_42 (dk_at dksX3_isLoose_0 0 rfl rfl)
theorem dX3_isLoose_1 : decode cX3_isLoose 1 = .ok (.iload_n 1, 1) := dk_27 (dk_at dksX3_isLoose_0 1 rfl rfl)
theorem dX3_isLoose_2 : decode cX3_isLoose 2 = .ok (.invokevirtual 93, 3) := dk_182 0 93 (dk_at dksX3_isLoose_0 2 rfl rfl)
theorem dX3_isLoose_5 : decode cX3_isLoose 5 = .ok (.ifCond .eq 21, 3) := dk_153 0 21 (dk_at dksX3_isLoose_0 5 rfl rfl)
theorem dX3_isLoose_8 : decode cX3_isLoose 8 = .ok (.aload_n 0, 1) := dk_42 (dk_at dksX3_isLoose_0 8 rfl rfl)
theorem dX3_isLoose_9 : decode cX3_isLoose 9 = .ok (.iload_n 1, 1) := dk_27 (dk_at dksX3_isLoose_0 9 rfl rfl)
theorem dX3_isLoose_10 : decode cX3_isLoose 10 = .ok (.iload_n 2, 1) := dk_28 (dk_at dksX3_isLoose_0 10 rfl rfl)
theorem dX3_isLoose_11 : decode cX3_isLoose 11 = .ok (.invokevirtual 96, 3) := dk_182 0 96 (dk_at dksX3_isLoose_0 11 rfl rfl)
theorem dX3_isLoose_14 : decode cX3_isLoose 14 = .ok (.iconst 1, 1) := dk_4 (dk_at dksX3_isLoose_0 14 rfl rfl)
theorem dX3_isLoose_15 : decode cX3_isLoose 15 = .ok (.if_icmp .le 7, 3) := dk_164 0 7 (dk_at dksX3_isLoose_0 15 rfl rfl)
theorem dX3_isLoose_18 : decode cX3_isLoose 18 = .ok (.iconst 1, 1) := dk_4 (dk_at dksX3_isLoose_0 18 rfl rfl)
theorem dX3_isLoose_19 : decode cX3_isLoose 19 = .ok (.goto 22, 3) := dk_167 0 22 (dk_at dksX3_isLoose_0 19 rfl rfl)
theorem dX3_isLoose_22 : decode cX3_isLoose 22 = .ok (.iconst 0, 1) := dk_3 (dk_at dksX3_isLoose_0 22 rfl rfl)
theorem dX3_isLoose_23 : decode cX3_isLoose 23 = .ok (.goto 18, 3) := dk_167 0 18 (dk_at dksX3_isLoose_1 0 rfl rfl)
theorem dX3_isLoose_26 : decode cX3_isLoose 26 = .ok (.aload_n 0, 1) := dk_42 (dk_at dksX3_isLoose_1 3 rfl rfl)
theorem dX3_isLoose_27 : decode cX3_isLoose 27 = .ok (.iload_n 1, 1) := dk_27 (dk_at dksX3_isLoose_1 4 rfl rfl)
theorem dX3_isLoose_28 : decode cX3_isLoose 28 = .ok (.iload_n 2, 1) := dk_28 (dk_at dksX3_isLoose_1 5 rfl rfl)
theorem dX3_isLoose_29 : decode cX3_isLoose 29 = .ok (.invokevirtual 99, 3) := dk_182 0 99 (dk_at dksX3_isLoose_1 6 rfl rfl)
theorem dX3_isLoose_32 : decode cX3_isLoose 32 = .ok (.iload_n 3, 1) := dk_29 (dk_at dksX3_isLoose_1 9 rfl rfl)
theorem dX3_isLoose_33 : decode cX3_isLoose 33 = .ok (.if_icmp .ge 7, 3) := dk_162 0 7 (dk_at dksX3_isLoose_1 10 rfl rfl)
theorem dX3_isLoose_36 : decode cX3_isLoose 36 = .ok (.iconst 1, 1) := dk_4 (dk_at dksX3_isLoose_1 13 rfl rfl)
theorem dX3_isLoose_37 : decode cX3_isLoose 37 = .ok (.goto 4, 3) := dk_167 0 4 (dk_at dksX3_isLoose_1 14 rfl rfl)
theorem dX3_isLoose_40 : decode cX3_isLoose 40 = .ok (.iconst 0, 1) := dk_3 (dk_at dksX3_isLoose_1 17 rfl rfl)
theorem dX3_isLoose_41 : decode cX3_isLoose 41 = .ok (.ireturn, 1) := dk_172 (dk_at dksX3_isLoose_1 18 rfl rfl)
abbrev cX3_type : ByteArray := prog_18_method_48_code
def yX3_type : MethodName := ⟨RX3, "type", "(C)I"⟩
def dkwX3_type_1 : List UInt8 := [180, 0, 134, 4, 96, 181, 0, 134, 42, 180, 0, 134, 172]
abbrev dktX3_type_1 : List UInt8 := dkwX3_type_1 ++ []
def dkwX3_type_0 : List UInt8 := [42, 180, 0, 134, 16, 60, 160, 0, 6, 16, 253, 172, 42, 180, 0, 22, 42, 180, 0, 134, 27, 85, 42, 89]
abbrev dktX3_type_0 : List UInt8 := dkwX3_type_0 ++ dktX3_type_1
theorem dksX3_type_0 : cX3_type.data.toList.drop 0 = dktX3_type_0 := by decide +kernel
theorem dksX3_type_1 : cX3_type.data.toList.drop 24 = dktX3_type_1 := dk_seg dksX3_type_0 24 rfl rfl
theorem dX3_type_0 : decode cX3_type 0 = .ok (.aload_n 0, 1) := dk_42 (dk_at dksX3_type_0 0 rfl rfl)
theorem dX3_type_1 : decode cX3_type 1 = .ok (.getfield 134, 3) := dk_180 0 134 (dk_at dksX3_type_0 1 rfl rfl)
theorem dX3_type_4 : decode cX3_type 4 = .ok (.bipush 60, 2) := dk_16 60 (dk_at dksX3_type_0 4 rfl rfl)
theorem dX3_type_6 : decode cX3_type 6 = .ok (.if_icmp .ne 6, 3) := dk_160 0 6 (dk_at dksX3_type_0 6 rfl rfl)
theorem dX3_type_9 : decode cX3_type 9 = .ok (.bipush (-3), 2) := dk_16 253 (dk_at dksX3_type_0 9 rfl rfl)
theorem dX3_type_11 : decode cX3_type 11 = .ok (.ireturn, 1) := dk_172 (dk_at dksX3_type_0 11 rfl rfl)
theorem dX3_type_12 : decode cX3_type 12 = .ok (.aload_n 0, 1) := dk_42 (dk_at dksX3_type_0 12 rfl rfl)
theorem dX3_type_13 : decode cX3_type 13 = .ok (.getfield 22, 3) := dk_180 0 22 (dk_at dksX3_type_0 13 rfl rfl)
theorem dX3_type_16 : decode cX3_type 16 = .ok (.aload_n 0, 1) := dk_42 (dk_at dksX3_type_0 16 rfl rfl)
theorem dX3_type_17 : decode cX3_type 17 = .ok (.getfield 134, 3) := dk_180 0 134 (dk_at dksX3_type_0 17 rfl rfl)
theorem dX3_type_20 : decode cX3_type 20 = .ok (.iload_n 1, 1) := dk_27 (dk_at dksX3_type_0 20 rfl rfl)
theorem dX3_type_21 : decode cX3_type 21 = .ok (.castore, 1) := dk_85 (dk_at dksX3_type_0 21 rfl rfl)
theorem dX3_type_22 : decode cX3_type 22 = .ok (.aload_n 0, 1) := dk_42 (dk_at dksX3_type_0 22 rfl rfl)
theorem dX3_type_23 : decode cX3_type 23 = .ok (.dup, 1) := dk_89 (dk_at dksX3_type_0 23 rfl rfl)
theorem dX3_type_24 : decode cX3_type 24 = .ok (.getfield 134, 3) := dk_180 0 134 (dk_at dksX3_type_1 0 rfl rfl)
theorem dX3_type_27 : decode cX3_type 27 = .ok (.iconst 1, 1) := dk_4 (dk_at dksX3_type_1 3 rfl rfl)
theorem dX3_type_28 : decode cX3_type 28 = .ok (.iadd, 1) := dk_96 (dk_at dksX3_type_1 4 rfl rfl)
theorem dX3_type_29 : decode cX3_type 29 = .ok (.putfield 134, 3) := dk_181 0 134 (dk_at dksX3_type_1 5 rfl rfl)
theorem dX3_type_32 : decode cX3_type 32 = .ok (.aload_n 0, 1) := dk_42 (dk_at dksX3_type_1 8 rfl rfl)
theorem dX3_type_33 : decode cX3_type 33 = .ok (.getfield 134, 3) := dk_180 0 134 (dk_at dksX3_type_1 9 rfl rfl)
theorem dX3_type_36 : decode cX3_type 36 = .ok (.ireturn, 1) := dk_172 (dk_at dksX3_type_1 12 rfl rfl)
abbrev cX3_clearText : ByteArray := prog_18_method_49_code
def yX3_clearText : MethodName := ⟨RX3, "clearText", "()I"⟩
def dkwX3_clearText_0 : List UInt8 := [42, 180, 0, 134, 60, 42, 3, 181, 0, 134, 27, 172]
abbrev dktX3_clearText_0 : List UInt8 := dkwX3_clearText_0 ++ []
theorem dksX3_clearText_0 : cX3_clearText.data.toList.drop 0 = dktX3_clearText_0 := by decide +kernel
theorem dX3_clearText_0 : decode cX3_clearText 0 = .ok (.aload_n 0, 1) := dk_42 (dk_at dksX3_clearText_0 0 rfl rfl)
theorem dX3_clearText_1 : decode cX3_clearText 1 = .ok (.getfield 134, 3) := dk_180 0 134 (dk_at dksX3_clearText_0 1 rfl rfl)
theorem dX3_clearText_4 : decode cX3_clearText 4 = .ok (.istore_n 1, 1) := dk_60 (dk_at dksX3_clearText_0 4 rfl rfl)
theorem dX3_clearText_5 : decode cX3_clearText 5 = .ok (.aload_n 0, 1) := dk_42 (dk_at dksX3_clearText_0 5 rfl rfl)
theorem dX3_clearText_6 : decode cX3_clearText 6 = .ok (.iconst 0, 1) := dk_3 (dk_at dksX3_clearText_0 6 rfl rfl)
theorem dX3_clearText_7 : decode cX3_clearText 7 = .ok (.putfield 134, 3) := dk_181 0 134 (dk_at dksX3_clearText_0 7 rfl rfl)
theorem dX3_clearText_10 : decode cX3_clearText 10 = .ok (.iload_n 1, 1) := dk_27 (dk_at dksX3_clearText_0 10 rfl rfl)
theorem dX3_clearText_11 : decode cX3_clearText 11 = .ok (.ireturn, 1) := dk_172 (dk_at dksX3_clearText_0 11 rfl rfl)
abbrev cX3_readCut : ByteArray := prog_18_method_52_code
def yX3_readCut : MethodName := ⟨RX3, "readCut", "()I"⟩
def dkwX3_readCut_4 : List UInt8 := [28, 46, 79, 132, 2, 1, 167, 255, 221, 42, 180, 0, 7, 6, 92, 46, 4, 96, 79, 27, 172]
abbrev dktX3_readCut_4 : List UInt8 := dkwX3_readCut_4 ++ []
def dkwX3_readCut_3 : List UInt8 := [4, 46, 162, 0, 31, 42, 180, 0, 7, 16, 84, 16, 9, 27, 104, 96, 4, 96, 28, 96, 42, 180, 0, 26]
abbrev dktX3_readCut_3 : List UInt8 := dkwX3_readCut_3 ++ dktX3_readCut_4
def dkwX3_readCut_2 : List UInt8 := [182, 0, 43, 42, 180, 0, 7, 16, 84, 16, 9, 27, 104, 96, 16, 251, 79, 3, 61, 28, 42, 180, 0, 7]
abbrev dktX3_readCut_2 : List UInt8 := dkwX3_readCut_2 ++ dktX3_readCut_3
def dkwX3_readCut_1 : List UInt8 := [180, 0, 137, 100, 172, 42, 180, 0, 7, 6, 46, 60, 27, 16, 40, 160, 0, 6, 16, 253, 172, 42]
abbrev dktX3_readCut_1 : List UInt8 := dkwX3_readCut_1 ++ dktX3_readCut_2
def dkwX3_readCut_0 : List UInt8 := [42, 180, 0, 7, 4, 46, 154, 0, 6, 16, 252, 172, 42, 182, 0, 143, 154, 0, 11, 16, 156, 42]
abbrev dktX3_readCut_0 : List UInt8 := dkwX3_readCut_0 ++ dktX3_readCut_1
theorem dksX3_readCut_0 : cX3_readCut.data.toList.drop 0 = dktX3_readCut_0 := by decide +kernel
theorem dksX3_readCut_1 : cX3_readCut.data.toList.drop 22 = dktX3_readCut_1 := dk_seg dksX3_readCut_0 22 rfl rfl
theorem dksX3_readCut_2 : cX3_readCut.data.toList.drop 44 = dktX3_readCut_2 := dk_seg dksX3_readCut_1 22 rfl rfl
theorem dksX3_readCut_3 : cX3_readCut.data.toList.drop 68 = dktX3_readCut_3 := dk_seg dksX3_readCut_2 24 rfl rfl
theorem dksX3_readCut_4 : cX3_readCut.data.toList.drop 92 = dktX3_readCut_4 := dk_seg dksX3_readCut_3 24 rfl rfl
theorem dX3_readCut_0 : decode cX3_readCut 0 = .ok (.aload_n 0, 1) := dk_42 (dk_at dksX3_readCut_0 0 rfl rfl)
theorem dX3_readCut_1 : decode cX3_readCut 1 = .ok (.getfield 7, 3) := dk_180 0 7 (dk_at dksX3_readCut_0 1 rfl rfl)
theorem dX3_readCut_4 : decode cX3_readCut 4 = .ok (.iconst 1, 1) := dk_4 (dk_at dksX3_readCut_0 4 rfl rfl)
theorem dX3_readCut_5 : decode cX3_readCut 5 = .ok (.iaload, 1) := dk_46 (dk_at dksX3_readCut_0 5 rfl rfl)
theorem dX3_readCut_6 : decode cX3_readCut 6 = .ok (.ifCond .ne 6, 3) := dk_154 0 6 (dk_at dksX3_readCut_0 6 rfl rfl)
theorem dX3_readCut_9 : decode cX3_readCut 9 = .ok (.bipush (-4), 2) := dk_16 252 (dk_at dksX3_readCut_0 9 rfl rfl)
theorem dX3_readCut_11 : decode cX3_readCut 11 = .ok (.ireturn, 1) := dk_172 (dk_at dksX3_readCut_0 11 rfl rfl)
theorem dX3_readCut_12 : decode cX3_readCut 12 = .ok (.aload_n 0, 1) := dk_42 (dk_at dksX3_readCut_0 12 rfl rfl)
theorem dX3_readCut_13 : decode cX3_readCut 13 = .ok (.invokevirtual 143, 3) := dk_182 0 143 (dk_at dksX3_readCut_0 13 rfl rfl)
theorem dX3_readCut_16 : decode cX3_readCut 16 = .ok (.ifCond .ne 11, 3) := dk_154 0 11 (dk_at dksX3_readCut_0 16 rfl rfl)
theorem dX3_readCut_19 : decode cX3_readCut 19 = .ok (.bipush (-100), 2) := dk_16 156 (dk_at dksX3_readCut_0 19 rfl rfl)
theorem dX3_readCut_21 : decode cX3_readCut 21 = .ok (.aload_n 0, 1) := dk_42 (dk_at dksX3_readCut_0 21 rfl rfl)
theorem dX3_readCut_22 : decode cX3_readCut 22 = .ok (.getfield 137, 3) := dk_180 0 137 (dk_at dksX3_readCut_1 0 rfl rfl)
theorem dX3_readCut_25 : decode cX3_readCut 25 = .ok (.isub, 1) := dk_100 (dk_at dksX3_readCut_1 3 rfl rfl)
theorem dX3_readCut_26 : decode cX3_readCut 26 = .ok (.ireturn, 1) := dk_172 (dk_at dksX3_readCut_1 4 rfl rfl)
theorem dX3_readCut_27 : decode cX3_readCut 27 = .ok (.aload_n 0, 1) := dk_42 (dk_at dksX3_readCut_1 5 rfl rfl)
theorem dX3_readCut_28 : decode cX3_readCut 28 = .ok (.getfield 7, 3) := dk_180 0 7 (dk_at dksX3_readCut_1 6 rfl rfl)
theorem dX3_readCut_31 : decode cX3_readCut 31 = .ok (.iconst 3, 1) := dk_6 (dk_at dksX3_readCut_1 9 rfl rfl)
theorem dX3_readCut_32 : decode cX3_readCut 32 = .ok (.iaload, 1) := dk_46 (dk_at dksX3_readCut_1 10 rfl rfl)
theorem dX3_readCut_33 : decode cX3_readCut 33 = .ok (.istore_n 1, 1) := dk_60 (dk_at dksX3_readCut_1 11 rfl rfl)
theorem dX3_readCut_34 : decode cX3_readCut 34 = .ok (.iload_n 1, 1) := dk_27 (dk_at dksX3_readCut_1 12 rfl rfl)
theorem dX3_readCut_35 : decode cX3_readCut 35 = .ok (.bipush 40, 2) := dk_16 40 (dk_at dksX3_readCut_1 13 rfl rfl)
theorem dX3_readCut_37 : decode cX3_readCut 37 = .ok (.if_icmp .ne 6, 3) := dk_160 0 6 (dk_at dksX3_readCut_1 15 rfl rfl)
theorem dX3_readCut_40 : decode cX3_readCut 40 = .ok (.bipush (-3), 2) := dk_16 253 (dk_at dksX3_readCut_1 18 rfl rfl)
theorem dX3_readCut_42 : decode cX3_readCut 42 = .ok (.ireturn, 1) := dk_172 (dk_at dksX3_readCut_1 20 rfl rfl)
theorem dX3_readCut_43 : decode cX3_readCut 43 = .ok (.aload_n 0, 1) := dk_42 (dk_at dksX3_readCut_1 21 rfl rfl)
theorem dX3_readCut_44 : decode cX3_readCut 44 = .ok (.invokevirtual 43, 3) := dk_182 0 43 (dk_at dksX3_readCut_2 0 rfl rfl)
theorem dX3_readCut_47 : decode cX3_readCut 47 = .ok (.aload_n 0, 1) := dk_42 (dk_at dksX3_readCut_2 3 rfl rfl)
theorem dX3_readCut_48 : decode cX3_readCut 48 = .ok (.getfield 7, 3) := dk_180 0 7 (dk_at dksX3_readCut_2 4 rfl rfl)
theorem dX3_readCut_51 : decode cX3_readCut 51 = .ok (.bipush 84, 2) := dk_16 84 (dk_at dksX3_readCut_2 7 rfl rfl)
theorem dX3_readCut_53 : decode cX3_readCut 53 = .ok (.bipush 9, 2) := dk_16 9 (dk_at dksX3_readCut_2 9 rfl rfl)
theorem dX3_readCut_55 : decode cX3_readCut 55 = .ok (.iload_n 1, 1) := dk_27 (dk_at dksX3_readCut_2 11 rfl rfl)
theorem dX3_readCut_56 : decode cX3_readCut 56 = .ok (.imul, 1) := dk_104 (dk_at dksX3_readCut_2 12 rfl rfl)
theorem dX3_readCut_57 : decode cX3_readCut 57 = .ok (.iadd, 1) := dk_96 (dk_at dksX3_readCut_2 13 rfl rfl)
theorem dX3_readCut_58 : decode cX3_readCut 58 = .ok (.bipush (-5), 2) := dk_16 251 (dk_at dksX3_readCut_2 14 rfl rfl)
theorem dX3_readCut_60 : decode cX3_readCut 60 = .ok (.iastore, 1) := dk_79 (dk_at dksX3_readCut_2 16 rfl rfl)
theorem dX3_readCut_61 : decode cX3_readCut 61 = .ok (.iconst 0, 1) := dk_3 (dk_at dksX3_readCut_2 17 rfl rfl)
theorem dX3_readCut_62 : decode cX3_readCut 62 = .ok (.istore_n 2, 1) := dk_61 (dk_at dksX3_readCut_2 18 rfl rfl)
theorem dX3_readCut_63 : decode cX3_readCut 63 = .ok (.iload_n 2, 1) := dk_28 (dk_at dksX3_readCut_2 19 rfl rfl)
theorem dX3_readCut_64 : decode cX3_readCut 64 = .ok (.aload_n 0, 1) := dk_42 (dk_at dksX3_readCut_2 20 rfl rfl)
theorem dX3_readCut_65 : decode cX3_readCut 65 = .ok (.getfield 7, 3) := dk_180 0 7 (dk_at dksX3_readCut_2 21 rfl rfl)
theorem dX3_readCut_68 : decode cX3_readCut 68 = .ok (.iconst 1, 1) := dk_4 (dk_at dksX3_readCut_3 0 rfl rfl)
theorem dX3_readCut_69 : decode cX3_readCut 69 = .ok (.iaload, 1) := dk_46 (dk_at dksX3_readCut_3 1 rfl rfl)
theorem dX3_readCut_70 : decode cX3_readCut 70 = .ok (.if_icmp .ge 31, 3) := dk_162 0 31 (dk_at dksX3_readCut_3 2 rfl rfl)
theorem dX3_readCut_73 : decode cX3_readCut 73 = .ok (.aload_n 0, 1) := dk_42 (dk_at dksX3_readCut_3 5 rfl rfl)
theorem dX3_readCut_74 : decode cX3_readCut 74 = .ok (.getfield 7, 3) := dk_180 0 7 (dk_at dksX3_readCut_3 6 rfl rfl)
theorem dX3_readCut_77 : decode cX3_readCut 77 = .ok (.bipush 84, 2) := dk_16 84 (dk_at dksX3_readCut_3 9 rfl rfl)
theorem dX3_readCut_79 : decode cX3_readCut 79 = .ok (.bipush 9, 2) := dk_16 9 (dk_at dksX3_readCut_3 11 rfl rfl)
theorem dX3_readCut_81 : decode cX3_readCut 81 = .ok (.iload_n 1, 1) := dk_27 (dk_at dksX3_readCut_3 13 rfl rfl)
theorem dX3_readCut_82 : decode cX3_readCut 82 = .ok (.imul, 1) := dk_104 (dk_at dksX3_readCut_3 14 rfl rfl)
theorem dX3_readCut_83 : decode cX3_readCut 83 = .ok (.iadd, 1) := dk_96 (dk_at dksX3_readCut_3 15 rfl rfl)
theorem dX3_readCut_84 : decode cX3_readCut 84 = .ok (.iconst 1, 1) := dk_4 (dk_at dksX3_readCut_3 16 rfl rfl)
theorem dX3_readCut_85 : decode cX3_readCut 85 = .ok (.iadd, 1) := dk_96 (dk_at dksX3_readCut_3 17 rfl rfl)
theorem dX3_readCut_86 : decode cX3_readCut 86 = .ok (.iload_n 2, 1) := dk_28 (dk_at dksX3_readCut_3 18 rfl rfl)
theorem dX3_readCut_87 : decode cX3_readCut 87 = .ok (.iadd, 1) := dk_96 (dk_at dksX3_readCut_3 19 rfl rfl)
theorem dX3_readCut_88 : decode cX3_readCut 88 = .ok (.aload_n 0, 1) := dk_42 (dk_at dksX3_readCut_3 20 rfl rfl)
theorem dX3_readCut_89 : decode cX3_readCut 89 = .ok (.getfield 26, 3) := dk_180 0 26 (dk_at dksX3_readCut_3 21 rfl rfl)
theorem dX3_readCut_92 : decode cX3_readCut 92 = .ok (.iload_n 2, 1) := dk_28 (dk_at dksX3_readCut_4 0 rfl rfl)
theorem dX3_readCut_93 : decode cX3_readCut 93 = .ok (.iaload, 1) := dk_46 (dk_at dksX3_readCut_4 1 rfl rfl)
theorem dX3_readCut_94 : decode cX3_readCut 94 = .ok (.iastore, 1) := dk_79 (dk_at dksX3_readCut_4 2 rfl rfl)
theorem dX3_readCut_95 : decode cX3_readCut 95 = .ok (.iinc 2 1, 3) := dk_132 2 1 (dk_at dksX3_readCut_4 3 rfl rfl)
theorem dX3_readCut_98 : decode cX3_readCut 98 = .ok (.goto (-35), 3) := dk_167 255 221 (dk_at dksX3_readCut_4 6 rfl rfl)
theorem dX3_readCut_101 : decode cX3_readCut 101 = .ok (.aload_n 0, 1) := dk_42 (dk_at dksX3_readCut_4 9 rfl rfl)
theorem dX3_readCut_102 : decode cX3_readCut 102 = .ok (.getfield 7, 3) := dk_180 0 7 (dk_at dksX3_readCut_4 10 rfl rfl)
theorem dX3_readCut_105 : decode cX3_readCut 105 = .ok (.iconst 3, 1) := dk_6 (dk_at dksX3_readCut_4 13 rfl rfl)
theorem dX3_readCut_106 : decode cX3_readCut 106 = .ok (.dup2, 1) := dk_92 (dk_at dksX3_readCut_4 14 rfl rfl)
theorem dX3_readCut_107 : decode cX3_readCut 107 = .ok (.iaload, 1) := dk_46 (dk_at dksX3_readCut_4 15 rfl rfl)
theorem dX3_readCut_108 : decode cX3_readCut 108 = .ok (.iconst 1, 1) := dk_4 (dk_at dksX3_readCut_4 16 rfl rfl)
theorem dX3_readCut_109 : decode cX3_readCut 109 = .ok (.iadd, 1) := dk_96 (dk_at dksX3_readCut_4 17 rfl rfl)
theorem dX3_readCut_110 : decode cX3_readCut 110 = .ok (.iastore, 1) := dk_79 (dk_at dksX3_readCut_4 18 rfl rfl)
theorem dX3_readCut_111 : decode cX3_readCut 111 = .ok (.iload_n 1, 1) := dk_27 (dk_at dksX3_readCut_4 19 rfl rfl)
theorem dX3_readCut_112 : decode cX3_readCut 112 = .ok (.ireturn, 1) := dk_172 (dk_at dksX3_readCut_4 20 rfl rfl)
abbrev cX3_readNumbers : ByteArray := prog_18_method_51_code
def yX3_readNumbers : MethodName := ⟨RX3, "readNumbers", "()Z"⟩
def dkwX3_readNumbers_6 : List UInt8 := [180, 0, 134, 160, 0, 7, 4, 167, 0, 4, 3, 172]
abbrev dktX3_readNumbers_6 : List UInt8 := dkwX3_readNumbers_6 ++ []
def dkwX3_readNumbers_5 : List UInt8 := [96, 181, 0, 137, 42, 180, 0, 26, 27, 28, 79, 132, 1, 1, 167, 255, 130, 42, 180, 0, 137, 42]
abbrev dktX3_readNumbers_5 : List UInt8 := dkwX3_readNumbers_5 ++ dktX3_readNumbers_6
def dkwX3_readNumbers_4 : List UInt8 := [16, 10, 28, 104, 42, 180, 0, 22, 42, 180, 0, 137, 52, 96, 16, 48, 100, 61, 42, 89, 180, 0, 137, 4]
abbrev dktX3_readNumbers_4 : List UInt8 := dkwX3_readNumbers_4 ++ dktX3_readNumbers_5
def dkwX3_readNumbers_3 : List UInt8 := [89, 180, 0, 137, 4, 96, 181, 0, 137, 28, 158, 0, 42, 42, 16, 48, 16, 57, 182, 0, 140, 153, 0, 31]
abbrev dktX3_readNumbers_3 : List UInt8 := dkwX3_readNumbers_3 ++ dktX3_readNumbers_4
def dkwX3_readNumbers_2 : List UInt8 := [16, 57, 182, 0, 140, 154, 0, 5, 3, 172, 42, 180, 0, 22, 42, 180, 0, 137, 52, 16, 48, 100, 61, 42]
abbrev dktX3_readNumbers_2 : List UInt8 := dkwX3_readNumbers_2 ++ dktX3_readNumbers_3
def dkwX3_readNumbers_1 : List UInt8 := [16, 44, 182, 0, 140, 154, 0, 5, 3, 172, 42, 89, 180, 0, 137, 4, 96, 181, 0, 137, 42, 16, 48]
abbrev dktX3_readNumbers_1 : List UInt8 := dkwX3_readNumbers_1 ++ dktX3_readNumbers_2
def dkwX3_readNumbers_0 : List UInt8 := [42, 3, 181, 0, 137, 3, 60, 27, 42, 180, 0, 7, 4, 46, 162, 0, 122, 27, 158, 0, 26, 42, 16, 44]
abbrev dktX3_readNumbers_0 : List UInt8 := dkwX3_readNumbers_0 ++ dktX3_readNumbers_1
theorem dksX3_readNumbers_0 : cX3_readNumbers.data.toList.drop 0 = dktX3_readNumbers_0 := by decide +kernel
theorem dksX3_readNumbers_1 : cX3_readNumbers.data.toList.drop 24 = dktX3_readNumbers_1 := dk_seg dksX3_readNumbers_0 24 rfl rfl
theorem dksX3_readNumbers_2 : cX3_readNumbers.data.toList.drop 47 = dktX3_readNumbers_2 := dk_seg dksX3_readNumbers_1 23 rfl rfl
theorem dksX3_readNumbers_3 : cX3_readNumbers.data.toList.drop 71 = dktX3_readNumbers_3 := dk_seg dksX3_readNumbers_2 24 rfl rfl
theorem dksX3_readNumbers_4 : cX3_readNumbers.data.toList.drop 95 = dktX3_readNumbers_4 := dk_seg dksX3_readNumbers_3 24 rfl rfl
theorem dksX3_readNumbers_5 : cX3_readNumbers.data.toList.drop 119 = dktX3_readNumbers_5 := dk_seg dksX3_readNumbers_4 24 rfl rfl
theorem dksX3_readNumbers_6 : cX3_readNumbers.data.toList.drop 141 = dktX3_readNumbers_6 := dk_seg dksX3_readNumbers_5 22 rfl rfl
theorem dX3_readNumbers_0 : decode cX3_readNumbers 0 = .ok (.aload_n 0, 1) := dk_42 (dk_at dksX3_readNumbers_0 0 rfl rfl)
theorem dX3_readNumbers_1 : decode cX3_readNumbers 1 = .ok (.iconst 0, 1) := dk_3 (dk_at dksX3_readNumbers_0 1 rfl rfl)
theorem dX3_readNumbers_2 : decode cX3_readNumbers 2 = .ok (.putfield 137, 3) := dk_181 0 137 (dk_at dksX3_readNumbers_0 2 rfl rfl)
theorem dX3_readNumbers_5 : decode cX3_readNumbers 5 = .ok (.iconst 0, 1) := dk_3 (dk_at dksX3_readNumbers_0 5 rfl rfl)
theorem dX3_readNumbers_6 : decode cX3_readNumbers 6 = .ok (.istore_n 1, 1) := dk_60 (dk_at dksX3_readNumbers_0 6 rfl rfl)
theorem dX3_readNumbers_7 : decode cX3_readNumbers 7 = .ok (.iload_n 1, 1) := dk_27 (dk_at dksX3_readNumbers_0 7 rfl rfl)
theorem dX3_readNumbers_8 : decode cX3_readNumbers 8 = .ok (.aload_n 0, 1) := dk_42 (dk_at dksX3_readNumbers_0 8 rfl rfl)
theorem dX3_readNumbers_9 : decode cX3_readNumbers 9 = .ok (.getfield 7, 3) := dk_180 0 7 (dk_at dksX3_readNumbers_0 9 rfl rfl)
theorem dX3_readNumbers_12 : decode cX3_readNumbers 12 = .ok (.iconst 1, 1) := dk_4 (dk_at dksX3_readNumbers_0 12 rfl rfl)
theorem dX3_readNumbers_13 : decode cX3_readNumbers 13 = .ok (.iaload, 1) := dk_46 (dk_at dksX3_readNumbers_0 13 rfl rfl)
theorem dX3_readNumbers_14 : decode cX3_readNumbers 14 = .ok (.if_icmp .ge 122, 3) := dk_162 0 122 (dk_at dksX3_readNumbers_0 14 rfl rfl)
theorem dX3_readNumbers_17 : decode cX3_readNumbers 17 = .ok (.iload_n 1, 1) := dk_27 (dk_at dksX3_readNumbers_0 17 rfl rfl)
theorem dX3_readNumbers_18 : decode cX3_readNumbers 18 = .ok (.ifCond .le 26, 3) := dk_158 0 26 (dk_at dksX3_readNumbers_0 18 rfl rfl)
theorem dX3_readNumbers_21 : decode cX3_readNumbers 21 = .ok (.aload_n 0, 1) := dk_42 (dk_at dksX3_readNumbers_0 21 rfl rfl)
theorem dX3_readNumbers_22 : decode cX3_readNumbers 22 = .ok (.bipush 44, 2) := dk_16 44 (dk_at dksX3_readNumbers_0 22 rfl rfl)
theorem dX3_readNumbers_24 : decode cX3_readNumbers 24 = .ok (.bipush 44, 2) := dk_16 44 (dk_at dksX3_readNumbers_1 0 rfl rfl)
theorem dX3_readNumbers_26 : decode cX3_readNumbers 26 = .ok (.invokevirtual 140, 3) := dk_182 0 140 (dk_at dksX3_readNumbers_1 2 rfl rfl)
theorem dX3_readNumbers_29 : decode cX3_readNumbers 29 = .ok (.ifCond .ne 5, 3) := dk_154 0 5 (dk_at dksX3_readNumbers_1 5 rfl rfl)
theorem dX3_readNumbers_32 : decode cX3_readNumbers 32 = .ok (.iconst 0, 1) := dk_3 (dk_at dksX3_readNumbers_1 8 rfl rfl)
theorem dX3_readNumbers_33 : decode cX3_readNumbers 33 = .ok (.ireturn, 1) := dk_172 (dk_at dksX3_readNumbers_1 9 rfl rfl)
theorem dX3_readNumbers_34 : decode cX3_readNumbers 34 = .ok (.aload_n 0, 1) := dk_42 (dk_at dksX3_readNumbers_1 10 rfl rfl)
theorem dX3_readNumbers_35 : decode cX3_readNumbers 35 = .ok (.dup, 1) := dk_89 (dk_at dksX3_readNumbers_1 11 rfl rfl)
theorem dX3_readNumbers_36 : decode cX3_readNumbers 36 = .ok (.getfield 137, 3) := dk_180 0 137 (dk_at dksX3_readNumbers_1 12 rfl rfl)
theorem dX3_readNumbers_39 : decode cX3_readNumbers 39 = .ok (.iconst 1, 1) := dk_4 (dk_at dksX3_readNumbers_1 15 rfl rfl)
theorem dX3_readNumbers_40 : decode cX3_readNumbers 40 = .ok (.iadd, 1) := dk_96 (dk_at dksX3_readNumbers_1 16 rfl rfl)
theorem dX3_readNumbers_41 : decode cX3_readNumbers 41 = .ok (.putfield 137, 3) := dk_181 0 137 (dk_at dksX3_readNumbers_1 17 rfl rfl)
theorem dX3_readNumbers_44 : decode cX3_readNumbers 44 = .ok (.aload_n 0, 1) := dk_42 (dk_at dksX3_readNumbers_1 20 rfl rfl)
theorem dX3_readNumbers_45 : decode cX3_readNumbers 45 = .ok (.bipush 48, 2) := dk_16 48 (dk_at dksX3_readNumbers_1 21 rfl rfl)
theorem dX3_readNumbers_47 : decode cX3_readNumbers 47 = .ok (.bipush 57, 2) := dk_16 57 (dk_at dksX3_readNumbers_2 0 rfl rfl)
theorem dX3_readNumbers_49 : decode cX3_readNumbers 49 = .ok (.invokevirtual 140, 3) := dk_182 0 140 (dk_at dksX3_readNumbers_2 2 rfl rfl)
theorem dX3_readNumbers_52 : decode cX3_readNumbers 52 = .ok (.ifCond .ne 5, 3) := dk_154 0 5 (dk_at dksX3_readNumbers_2 5 rfl rfl)
theorem dX3_readNumbers_55 : decode cX3_readNumbers 55 = .ok (.iconst 0, 1) := dk_3 (dk_at dksX3_readNumbers_2 8 rfl rfl)
theorem dX3_readNumbers_56 : decode cX3_readNumbers 56 = .ok (.ireturn, 1) := dk_172 (dk_at dksX3_readNumbers_2 9 rfl rfl)
theorem dX3_readNumbers_57 : decode cX3_readNumbers 57 = .ok (.aload_n 0, 1) := dk_42 (dk_at dksX3_readNumbers_2 10 rfl rfl)
theorem dX3_readNumbers_58 : decode cX3_readNumbers 58 = .ok (.getfield 22, 3) := dk_180 0 22 (dk_at dksX3_readNumbers_2 11 rfl rfl)
theorem dX3_readNumbers_61 : decode cX3_readNumbers 61 = .ok (.aload_n 0, 1) := dk_42 (dk_at dksX3_readNumbers_2 14 rfl rfl)
theorem dX3_readNumbers_62 : decode cX3_readNumbers 62 = .ok (.getfield 137, 3) := dk_180 0 137 (dk_at dksX3_readNumbers_2 15 rfl rfl)
theorem dX3_readNumbers_65 : decode cX3_readNumbers 65 = .ok (.caload, 1) := dk_52 (dk_at dksX3_readNumbers_2 18 rfl rfl)
theorem dX3_readNumbers_66 : decode cX3_readNumbers 66 = .ok (.bipush 48, 2) := dk_16 48 (dk_at dksX3_readNumbers_2 19 rfl rfl)
theorem dX3_readNumbers_68 : decode cX3_readNumbers 68 = .ok (.isub, 1) := dk_100 (dk_at dksX3_readNumbers_2 21 rfl rfl)
theorem dX3_readNumbers_69 : decode cX3_readNumbers 69 = .ok (.istore_n 2, 1) := dk_61 (dk_at dksX3_readNumbers_2 22 rfl rfl)
theorem dX3_readNumbers_70 : decode cX3_readNumbers 70 = .ok (.aload_n 0, 1) := dk_42 (dk_at dksX3_readNumbers_2 23 rfl rfl)
theorem dX3_readNumbers_71 : decode cX3_readNumbers 71 = .ok (.dup, 1) := dk_89 (dk_at dksX3_readNumbers_3 0 rfl rfl)
theorem dX3_readNumbers_72 : decode cX3_readNumbers 72 = .ok (.getfield 137, 3) := dk_180 0 137 (dk_at dksX3_readNumbers_3 1 rfl rfl)
theorem dX3_readNumbers_75 : decode cX3_readNumbers 75 = .ok (.iconst 1, 1) := dk_4 (dk_at dksX3_readNumbers_3 4 rfl rfl)
theorem dX3_readNumbers_76 : decode cX3_readNumbers 76 = .ok (.iadd, 1) := dk_96 (dk_at dksX3_readNumbers_3 5 rfl rfl)
theorem dX3_readNumbers_77 : decode cX3_readNumbers 77 = .ok (.putfield 137, 3) := dk_181 0 137 (dk_at dksX3_readNumbers_3 6 rfl rfl)
theorem dX3_readNumbers_80 : decode cX3_readNumbers 80 = .ok (.iload_n 2, 1) := dk_28 (dk_at dksX3_readNumbers_3 9 rfl rfl)
theorem dX3_readNumbers_81 : decode cX3_readNumbers 81 = .ok (.ifCond .le 42, 3) := dk_158 0 42 (dk_at dksX3_readNumbers_3 10 rfl rfl)
theorem dX3_readNumbers_84 : decode cX3_readNumbers 84 = .ok (.aload_n 0, 1) := dk_42 (dk_at dksX3_readNumbers_3 13 rfl rfl)
theorem dX3_readNumbers_85 : decode cX3_readNumbers 85 = .ok (.bipush 48, 2) := dk_16 48 (dk_at dksX3_readNumbers_3 14 rfl rfl)
theorem dX3_readNumbers_87 : decode cX3_readNumbers 87 = .ok (.bipush 57, 2) := dk_16 57 (dk_at dksX3_readNumbers_3 16 rfl rfl)
theorem dX3_readNumbers_89 : decode cX3_readNumbers 89 = .ok (.invokevirtual 140, 3) := dk_182 0 140 (dk_at dksX3_readNumbers_3 18 rfl rfl)
theorem dX3_readNumbers_92 : decode cX3_readNumbers 92 = .ok (.ifCond .eq 31, 3) := dk_153 0 31 (dk_at dksX3_readNumbers_3 21 rfl rfl)
theorem dX3_readNumbers_95 : decode cX3_readNumbers 95 = .ok (.bipush 10, 2) := dk_16 10 (dk_at dksX3_readNumbers_4 0 rfl rfl)
theorem dX3_readNumbers_97 : decode cX3_readNumbers 97 = .ok (.iload_n 2, 1) := dk_28 (dk_at dksX3_readNumbers_4 2 rfl rfl)
theorem dX3_readNumbers_98 : decode cX3_readNumbers 98 = .ok (.imul, 1) := dk_104 (dk_at dksX3_readNumbers_4 3 rfl rfl)
theorem dX3_readNumbers_99 : decode cX3_readNumbers 99 = .ok (.aload_n 0, 1) := dk_42 (dk_at dksX3_readNumbers_4 4 rfl rfl)
theorem dX3_readNumbers_100 : decode cX3_readNumbers 100 = .ok (.getfield 22, 3) := dk_180 0 22 (dk_at dksX3_readNumbers_4 5 rfl rfl)
theorem dX3_readNumbers_103 : decode cX3_readNumbers 103 = .ok (.aload_n 0, 1) := dk_42 (dk_at dksX3_readNumbers_4 8 rfl rfl)
theorem dX3_readNumbers_104 : decode cX3_readNumbers 104 = .ok (.getfield 137, 3) := dk_180 0 137 (dk_at dksX3_readNumbers_4 9 rfl rfl)
theorem dX3_readNumbers_107 : decode cX3_readNumbers 107 = .ok (.caload, 1) := dk_52 (dk_at dksX3_readNumbers_4 12 rfl rfl)
theorem dX3_readNumbers_108 : decode cX3_readNumbers 108 = .ok (.iadd, 1) := dk_96 (dk_at dksX3_readNumbers_4 13 rfl rfl)
theorem dX3_readNumbers_109 : decode cX3_readNumbers 109 = .ok (.bipush 48, 2) := dk_16 48 (dk_at dksX3_readNumbers_4 14 rfl rfl)
theorem dX3_readNumbers_111 : decode cX3_readNumbers 111 = .ok (.isub, 1) := dk_100 (dk_at dksX3_readNumbers_4 16 rfl rfl)
theorem dX3_readNumbers_112 : decode cX3_readNumbers 112 = .ok (.istore_n 2, 1) := dk_61 (dk_at dksX3_readNumbers_4 17 rfl rfl)
theorem dX3_readNumbers_113 : decode cX3_readNumbers 113 = .ok (.aload_n 0, 1) := dk_42 (dk_at dksX3_readNumbers_4 18 rfl rfl)
theorem dX3_readNumbers_114 : decode cX3_readNumbers 114 = .ok (.dup, 1) := dk_89 (dk_at dksX3_readNumbers_4 19 rfl rfl)
theorem dX3_readNumbers_115 : decode cX3_readNumbers 115 = .ok (.getfield 137, 3) := dk_180 0 137 (dk_at dksX3_readNumbers_4 20 rfl rfl)
theorem dX3_readNumbers_118 : decode cX3_readNumbers 118 = .ok (.iconst 1, 1) := dk_4 (dk_at dksX3_readNumbers_4 23 rfl rfl)
theorem dX3_readNumbers_119 : decode cX3_readNumbers 119 = .ok (.iadd, 1) := dk_96 (dk_at dksX3_readNumbers_5 0 rfl rfl)
theorem dX3_readNumbers_120 : decode cX3_readNumbers 120 = .ok (.putfield 137, 3) := dk_181 0 137 (dk_at dksX3_readNumbers_5 1 rfl rfl)
theorem dX3_readNumbers_123 : decode cX3_readNumbers 123 = .ok (.aload_n 0, 1) := dk_42 (dk_at dksX3_readNumbers_5 4 rfl rfl)
theorem dX3_readNumbers_124 : decode cX3_readNumbers 124 = .ok (.getfield 26, 3) := dk_180 0 26 (dk_at dksX3_readNumbers_5 5 rfl rfl)
theorem dX3_readNumbers_127 : decode cX3_readNumbers 127 = .ok (.iload_n 1, 1) := dk_27 (dk_at dksX3_readNumbers_5 8 rfl rfl)
theorem dX3_readNumbers_128 : decode cX3_readNumbers 128 = .ok (.iload_n 2, 1) := dk_28 (dk_at dksX3_readNumbers_5 9 rfl rfl)
theorem dX3_readNumbers_129 : decode cX3_readNumbers 129 = .ok (.iastore, 1) := dk_79 (dk_at dksX3_readNumbers_5 10 rfl rfl)
theorem dX3_readNumbers_130 : decode cX3_readNumbers 130 = .ok (.iinc 1 1, 3) := dk_132 1 1 (dk_at dksX3_readNumbers_5 11 rfl rfl)
theorem dX3_readNumbers_133 : decode cX3_readNumbers 133 = .ok (.goto (-126), 3) := dk_167 255 130 (dk_at dksX3_readNumbers_5 14 rfl rfl)
theorem dX3_readNumbers_136 : decode cX3_readNumbers 136 = .ok (.aload_n 0, 1) := dk_42 (dk_at dksX3_readNumbers_5 17 rfl rfl)
theorem dX3_readNumbers_137 : decode cX3_readNumbers 137 = .ok (.getfield 137, 3) := dk_180 0 137 (dk_at dksX3_readNumbers_5 18 rfl rfl)
theorem dX3_readNumbers_140 : decode cX3_readNumbers 140 = .ok (.aload_n 0, 1) := dk_42 (dk_at dksX3_readNumbers_5 21 rfl rfl)
theorem dX3_readNumbers_141 : decode cX3_readNumbers 141 = .ok (.getfield 134, 3) := dk_180 0 134 (dk_at dksX3_readNumbers_6 0 rfl rfl)
theorem dX3_readNumbers_144 : decode cX3_readNumbers 144 = .ok (.if_icmp .ne 7, 3) := dk_160 0 7 (dk_at dksX3_readNumbers_6 3 rfl rfl)
theorem dX3_readNumbers_147 : decode cX3_readNumbers 147 = .ok (.iconst 1, 1) := dk_4 (dk_at dksX3_readNumbers_6 6 rfl rfl)
theorem dX3_readNumbers_148 : decode cX3_readNumbers 148 = .ok (.goto 4, 3) := dk_167 0 4 (dk_at dksX3_readNumbers_6 7 rfl rfl)
theorem dX3_readNumbers_151 : decode cX3_readNumbers 151 = .ok (.iconst 0, 1) := dk_3 (dk_at dksX3_readNumbers_6 10 rfl rfl)
theorem dX3_readNumbers_152 : decode cX3_readNumbers 152 = .ok (.ireturn, 1) := dk_172 (dk_at dksX3_readNumbers_6 11 rfl rfl)
abbrev cX3_sees : ByteArray := prog_18_method_50_code
def yX3_sees : MethodName := ⟨RX3, "sees", "(II)Z"⟩
def dkwX3_sees_1 : List UInt8 := [184, 0, 46, 153, 0, 7, 4, 167, 0, 4, 3, 172]
abbrev dktX3_sees_1 : List UInt8 := dkwX3_sees_1 ++ []
def dkwX3_sees_0 : List UInt8 := [42, 180, 0, 137, 42, 180, 0, 134, 162, 0, 24, 42, 180, 0, 22, 42, 180, 0, 137, 52, 27, 28]
abbrev dktX3_sees_0 : List UInt8 := dkwX3_sees_0 ++ dktX3_sees_1
theorem dksX3_sees_0 : cX3_sees.data.toList.drop 0 = dktX3_sees_0 := by decide +kernel
theorem dksX3_sees_1 : cX3_sees.data.toList.drop 22 = dktX3_sees_1 := dk_seg dksX3_sees_0 22 rfl rfl
theorem dX3_sees_0 : decode cX3_sees 0 = .ok (.aload_n 0, 1) := dk_42 (dk_at dksX3_sees_0 0 rfl rfl)
theorem dX3_sees_1 : decode cX3_sees 1 = .ok (.getfield 137, 3) := dk_180 0 137 (dk_at dksX3_sees_0 1 rfl rfl)
theorem dX3_sees_4 : decode cX3_sees 4 = .ok (.aload_n 0, 1) := dk_42 (dk_at dksX3_sees_0 4 rfl rfl)
theorem dX3_sees_5 : decode cX3_sees 5 = .ok (.getfield 134, 3) := dk_180 0 134 (dk_at dksX3_sees_0 5 rfl rfl)
theorem dX3_sees_8 : decode cX3_sees 8 = .ok (.if_icmp .ge 24, 3) := dk_162 0 24 (dk_at dksX3_sees_0 8 rfl rfl)
theorem dX3_sees_11 : decode cX3_sees 11 = .ok (.aload_n 0, 1) := dk_42 (dk_at dksX3_sees_0 11 rfl rfl)
theorem dX3_sees_12 : decode cX3_sees 12 = .ok (.getfield 22, 3) := dk_180 0 22 (dk_at dksX3_sees_0 12 rfl rfl)
theorem dX3_sees_15 : decode cX3_sees 15 = .ok (.aload_n 0, 1) := dk_42 (dk_at dksX3_sees_0 15 rfl rfl)
theorem dX3_sees_16 : decode cX3_sees 16 = .ok (.getfield 137, 3) := dk_180 0 137 (dk_at dksX3_sees_0 16 rfl rfl)
theorem dX3_sees_19 : decode cX3_sees 19 = .ok (.caload, 1) := dk_52 (dk_at dksX3_sees_0 19 rfl rfl)
theorem dX3_sees_20 : decode cX3_sees 20 = .ok (.iload_n 1, 1) := dk_27 (dk_at dksX3_sees_0 20 rfl rfl)
theorem dX3_sees_21 : decode cX3_sees 21 = .ok (.iload_n 2, 1) := dk_28 (dk_at dksX3_sees_0 21 rfl rfl)
theorem dX3_sees_22 : decode cX3_sees 22 = .ok (.invokestatic 46, 3) := dk_184 0 46 (dk_at dksX3_sees_1 0 rfl rfl)
theorem dX3_sees_25 : decode cX3_sees 25 = .ok (.ifCond .eq 7, 3) := dk_153 0 7 (dk_at dksX3_sees_1 3 rfl rfl)
theorem dX3_sees_28 : decode cX3_sees 28 = .ok (.iconst 1, 1) := dk_4 (dk_at dksX3_sees_1 6 rfl rfl)
theorem dX3_sees_29 : decode cX3_sees 29 = .ok (.goto 4, 3) := dk_167 0 4 (dk_at dksX3_sees_1 7 rfl rfl)
theorem dX3_sees_32 : decode cX3_sees 32 = .ok (.iconst 0, 1) := dk_3 (dk_at dksX3_sees_1 10 rfl rfl)
theorem dX3_sees_33 : decode cX3_sees 33 = .ok (.ireturn, 1) := dk_172 (dk_at dksX3_sees_1 11 rfl rfl)
abbrev cX3_judge : ByteArray := prog_18_method_53_code
def yX3_judge : MethodName := ⟨RX3, "judge", "(I)I"⟩
def dkwX3_judge_2 : List UInt8 := [6, 167, 0, 4, 3, 172]
abbrev dktX3_judge_2 : List UInt8 := dkwX3_judge_2 ++ []
def dkwX3_judge_1 : List UInt8 := [4, 167, 0, 28, 42, 27, 182, 0, 75, 153, 0, 7, 5, 167, 0, 16, 42, 27, 182, 0, 87, 155, 0, 7]
abbrev dktX3_judge_1 : List UInt8 := dkwX3_judge_1 ++ dktX3_judge_2
def dkwX3_judge_0 : List UInt8 := [42, 27, 182, 0, 147, 153, 0, 6, 16, 254, 172, 27, 184, 0, 71, 42, 180, 0, 7, 5, 46, 164, 0, 7]
abbrev dktX3_judge_0 : List UInt8 := dkwX3_judge_0 ++ dktX3_judge_1
theorem dksX3_judge_0 : cX3_judge.data.toList.drop 0 = dktX3_judge_0 := by decide +kernel
theorem dksX3_judge_1 : cX3_judge.data.toList.drop 24 = dktX3_judge_1 := dk_seg dksX3_judge_0 24 rfl rfl
theorem dksX3_judge_2 : cX3_judge.data.toList.drop 48 = dktX3_judge_2 := dk_seg dksX3_judge_1 24 rfl rfl
theorem dX3_judge_0 : decode cX3_judge 0 = .ok (.aload_n 0, 1) := dk_42 (dk_at dksX3_judge_0 0 rfl rfl)
theorem dX3_judge_1 : decode cX3_judge 1 = .ok (.iload_n 1, 1) := dk_27 (dk_at dksX3_judge_0 1 rfl rfl)
theorem dX3_judge_2 : decode cX3_judge 2 = .ok (.invokevirtual 147, 3) := dk_182 0 147 (dk_at dksX3_judge_0 2 rfl rfl)
theorem dX3_judge_5 : decode cX3_judge 5 = .ok (.ifCond .eq 6, 3) := dk_153 0 6 (dk_at dksX3_judge_0 5 rfl rfl)
theorem dX3_judge_8 : decode cX3_judge 8 = .ok (.bipush (-2), 2) := dk_16 254 (dk_at dksX3_judge_0 8 rfl rfl)
theorem dX3_judge_10 : decode cX3_judge 10 = .ok (.ireturn, 1) := dk_172 (dk_at dksX3_judge_0 10 rfl rfl)
theorem dX3_judge_11 : decode cX3_judge 11 = .ok (.iload_n 1, 1) := dk_27 (dk_at dksX3_judge_0 11 rfl rfl)
theorem dX3_judge_12 : decode cX3_judge 12 = .ok (.invokestatic 71, 3) := dk_184 0 71 (dk_at dksX3_judge_0 12 rfl rfl)
theorem dX3_judge_15 : decode cX3_judge 15 = .ok (.aload_n 0, 1) := dk_42 (dk_at dksX3_judge_0 15 rfl rfl)
theorem dX3_judge_16 : decode cX3_judge 16 = .ok (.getfield 7, 3) := dk_180 0 7 (dk_at dksX3_judge_0 16 rfl rfl)
theorem dX3_judge_19 : decode cX3_judge 19 = .ok (.iconst 2, 1) := dk_5 (dk_at dksX3_judge_0 19 rfl rfl)
theorem dX3_judge_20 : decode cX3_judge 20 = .ok (.iaload, 1) := dk_46 (dk_at dksX3_judge_0 20 rfl rfl)
theorem dX3_judge_21 : decode cX3_judge 21 = .ok (.if_icmp .le 7, 3) := dk_164 0 7 (dk_at dksX3_judge_0 21 rfl rfl)
theorem dX3_judge_24 : decode cX3_judge 24 = .ok (.iconst 1, 1) := dk_4 (dk_at dksX3_judge_1 0 rfl rfl)
theorem dX3_judge_25 : decode cX3_judge 25 = .ok (.goto 28, 3) := dk_167 0 28 (dk_at dksX3_judge_1 1 rfl rfl)
theorem dX3_judge_28 : decode cX3_judge 28 = .ok (.aload_n 0, 1) := dk_42 (dk_at dksX3_judge_1 4 rfl rfl)
theorem dX3_judge_29 : decode cX3_judge 29 = .ok (.iload_n 1, 1) := dk_27 (dk_at dksX3_judge_1 5 rfl rfl)
theorem dX3_judge_30 : decode cX3_judge 30 = .ok (.invokevirtual 75, 3) := dk_182 0 75 (dk_at dksX3_judge_1 6 rfl rfl)
theorem dX3_judge_33 : decode cX3_judge 33 = .ok (.ifCond .eq 7, 3) := dk_153 0 7 (dk_at dksX3_judge_1 9 rfl rfl)
theorem dX3_judge_36 : decode cX3_judge 36 = .ok (.iconst 2, 1) := dk_5 (dk_at dksX3_judge_1 12 rfl rfl)
theorem dX3_judge_37 : decode cX3_judge 37 = .ok (.goto 16, 3) := dk_167 0 16 (dk_at dksX3_judge_1 13 rfl rfl)
theorem dX3_judge_40 : decode cX3_judge 40 = .ok (.aload_n 0, 1) := dk_42 (dk_at dksX3_judge_1 16 rfl rfl)
theorem dX3_judge_41 : decode cX3_judge 41 = .ok (.iload_n 1, 1) := dk_27 (dk_at dksX3_judge_1 17 rfl rfl)
theorem dX3_judge_42 : decode cX3_judge 42 = .ok (.invokevirtual 87, 3) := dk_182 0 87 (dk_at dksX3_judge_1 18 rfl rfl)
theorem dX3_judge_45 : decode cX3_judge 45 = .ok (.ifCond .lt 7, 3) := dk_155 0 7 (dk_at dksX3_judge_1 21 rfl rfl)
theorem dX3_judge_48 : decode cX3_judge 48 = .ok (.iconst 3, 1) := dk_6 (dk_at dksX3_judge_2 0 rfl rfl)
theorem dX3_judge_49 : decode cX3_judge 49 = .ok (.goto 4, 3) := dk_167 0 4 (dk_at dksX3_judge_2 1 rfl rfl)
theorem dX3_judge_52 : decode cX3_judge 52 = .ok (.iconst 0, 1) := dk_3 (dk_at dksX3_judge_2 4 rfl rfl)
theorem dX3_judge_53 : decode cX3_judge 53 = .ok (.ireturn, 1) := dk_172 (dk_at dksX3_judge_2 5 rfl rfl)
abbrev cX3_noPlan : ByteArray := prog_18_method_24_code
def yX3_noPlan : MethodName := ⟨RX3, "noPlan", "(I)Z"⟩
def dkwX3_noPlan_0 : List UInt8 := [27, 3, 4, 42, 180, 0, 7, 3, 46, 120, 4, 100, 184, 0, 46, 154, 0, 7, 4, 167, 0, 4, 3, 172]
abbrev dktX3_noPlan_0 : List UInt8 := dkwX3_noPlan_0 ++ []
theorem dksX3_noPlan_0 : cX3_noPlan.data.toList.drop 0 = dktX3_noPlan_0 := by decide +kernel
theorem dX3_noPlan_0 : decode cX3_noPlan 0 = .ok (.iload_n 1, 1) := dk_27 (dk_at dksX3_noPlan_0 0 rfl rfl)
theorem dX3_noPlan_1 : decode cX3_noPlan 1 = .ok (.iconst 0, 1) := dk_3 (dk_at dksX3_noPlan_0 1 rfl rfl)
theorem dX3_noPlan_2 : decode cX3_noPlan 2 = .ok (.iconst 1, 1) := dk_4 (dk_at dksX3_noPlan_0 2 rfl rfl)
theorem dX3_noPlan_3 : decode cX3_noPlan 3 = .ok (.aload_n 0, 1) := dk_42 (dk_at dksX3_noPlan_0 3 rfl rfl)
theorem dX3_noPlan_4 : decode cX3_noPlan 4 = .ok (.getfield 7, 3) := dk_180 0 7 (dk_at dksX3_noPlan_0 4 rfl rfl)
theorem dX3_noPlan_7 : decode cX3_noPlan 7 = .ok (.iconst 0, 1) := dk_3 (dk_at dksX3_noPlan_0 7 rfl rfl)
theorem dX3_noPlan_8 : decode cX3_noPlan 8 = .ok (.iaload, 1) := dk_46 (dk_at dksX3_noPlan_0 8 rfl rfl)
theorem dX3_noPlan_9 : decode cX3_noPlan 9 = .ok (.ishl, 1) := dk_120 (dk_at dksX3_noPlan_0 9 rfl rfl)
theorem dX3_noPlan_10 : decode cX3_noPlan 10 = .ok (.iconst 1, 1) := dk_4 (dk_at dksX3_noPlan_0 10 rfl rfl)
theorem dX3_noPlan_11 : decode cX3_noPlan 11 = .ok (.isub, 1) := dk_100 (dk_at dksX3_noPlan_0 11 rfl rfl)
theorem dX3_noPlan_12 : decode cX3_noPlan 12 = .ok (.invokestatic 46, 3) := dk_184 0 46 (dk_at dksX3_noPlan_0 12 rfl rfl)
theorem dX3_noPlan_15 : decode cX3_noPlan 15 = .ok (.ifCond .ne 7, 3) := dk_154 0 7 (dk_at dksX3_noPlan_0 15 rfl rfl)
theorem dX3_noPlan_18 : decode cX3_noPlan 18 = .ok (.iconst 1, 1) := dk_4 (dk_at dksX3_noPlan_0 18 rfl rfl)
theorem dX3_noPlan_19 : decode cX3_noPlan 19 = .ok (.goto 4, 3) := dk_167 0 4 (dk_at dksX3_noPlan_0 19 rfl rfl)
theorem dX3_noPlan_22 : decode cX3_noPlan 22 = .ok (.iconst 0, 1) := dk_3 (dk_at dksX3_noPlan_0 22 rfl rfl)
theorem dX3_noPlan_23 : decode cX3_noPlan 23 = .ok (.ireturn, 1) := dk_172 (dk_at dksX3_noPlan_0 23 rfl rfl)
abbrev cX3_plan : ByteArray := prog_18_method_54_code
def yX3_plan : MethodName := ⟨RX3, "plan", "(II)I"⟩
def dkwX3_plan_4 : List UInt8 := [42, 27, 182, 0, 108, 172, 42, 27, 182, 0, 105, 172]
abbrev dktX3_plan_4 : List UInt8 := dkwX3_plan_4 ++ []
def dkwX3_plan_3 : List UInt8 := [42, 27, 182, 0, 102, 42, 27, 182, 0, 115, 96, 172, 42, 27, 182, 0, 102, 172, 42, 27, 182, 0, 115, 172]
abbrev dktX3_plan_3 : List UInt8 := dkwX3_plan_3 ++ dktX3_plan_4
def dkwX3_plan_2 : List UInt8 := [170, 0, 0, 0, 0, 0, 61, 0, 0, 0, 0, 0, 0, 0, 3, 0, 0, 0, 31, 0, 0, 0, 43, 0, 0, 0, 49, 0, 0, 0, 55]
abbrev dktX3_plan_2 : List UInt8 := dkwX3_plan_2 ++ dktX3_plan_3
def dkwX3_plan_1 : List UInt8 := [28, 5, 160, 0, 14, 42, 27, 182, 0, 87, 155, 0, 6, 16, 252, 172, 28]
abbrev dktX3_plan_1 : List UInt8 := dkwX3_plan_1 ++ dktX3_plan_2
def dkwX3_plan_0 : List UInt8 := [42, 27, 182, 0, 147, 154, 0, 12, 28, 3, 7, 184, 0, 46, 154, 0, 6, 16, 254, 172, 28, 153, 0, 8]
abbrev dktX3_plan_0 : List UInt8 := dkwX3_plan_0 ++ dktX3_plan_1
theorem dksX3_plan_0 : cX3_plan.data.toList.drop 0 = dktX3_plan_0 := by decide +kernel
theorem dksX3_plan_1 : cX3_plan.data.toList.drop 24 = dktX3_plan_1 := dk_seg dksX3_plan_0 24 rfl rfl
theorem dksX3_plan_2 : cX3_plan.data.toList.drop 41 = dktX3_plan_2 := dk_seg dksX3_plan_1 17 rfl rfl
theorem dksX3_plan_3 : cX3_plan.data.toList.drop 72 = dktX3_plan_3 := dk_seg dksX3_plan_2 31 rfl rfl
theorem dksX3_plan_4 : cX3_plan.data.toList.drop 96 = dktX3_plan_4 := dk_seg dksX3_plan_3 24 rfl rfl
theorem dX3_plan_0 : decode cX3_plan 0 = .ok (.aload_n 0, 1) := dk_42 (dk_at dksX3_plan_0 0 rfl rfl)
theorem dX3_plan_1 : decode cX3_plan 1 = .ok (.iload_n 1, 1) := dk_27 (dk_at dksX3_plan_0 1 rfl rfl)
theorem dX3_plan_2 : decode cX3_plan 2 = .ok (.invokevirtual 147, 3) := dk_182 0 147 (dk_at dksX3_plan_0 2 rfl rfl)
theorem dX3_plan_5 : decode cX3_plan 5 = .ok (.ifCond .ne 12, 3) := dk_154 0 12 (dk_at dksX3_plan_0 5 rfl rfl)
theorem dX3_plan_8 : decode cX3_plan 8 = .ok (.iload_n 2, 1) := dk_28 (dk_at dksX3_plan_0 8 rfl rfl)
theorem dX3_plan_9 : decode cX3_plan 9 = .ok (.iconst 0, 1) := dk_3 (dk_at dksX3_plan_0 9 rfl rfl)
theorem dX3_plan_10 : decode cX3_plan 10 = .ok (.iconst 4, 1) := dk_7 (dk_at dksX3_plan_0 10 rfl rfl)
theorem dX3_plan_11 : decode cX3_plan 11 = .ok (.invokestatic 46, 3) := dk_184 0 46 (dk_at dksX3_plan_0 11 rfl rfl)
theorem dX3_plan_14 : decode cX3_plan 14 = .ok (.ifCond .ne 6, 3) := dk_154 0 6 (dk_at dksX3_plan_0 14 rfl rfl)
theorem dX3_plan_17 : decode cX3_plan 17 = .ok (.bipush (-2), 2) := dk_16 254 (dk_at dksX3_plan_0 17 rfl rfl)
theorem dX3_plan_19 : decode cX3_plan 19 = .ok (.ireturn, 1) := dk_172 (dk_at dksX3_plan_0 19 rfl rfl)
theorem dX3_plan_20 : decode cX3_plan 20 = .ok (.iload_n 2, 1) := dk_28 (dk_at dksX3_plan_0 20 rfl rfl)
theorem dX3_plan_21 : decode cX3_plan 21 = .ok (.ifCond .eq 8, 3) := dk_153 0 8 (dk_at dksX3_plan_0 21 rfl rfl)
theorem dX3_plan_24 : decode cX3_plan 24 = .ok (.iload_n 2, 1) := dk_28 (dk_at dksX3_plan_1 0 rfl rfl)
theorem dX3_plan_25 : decode cX3_plan 25 = .ok (.iconst 2, 1) := dk_5 (dk_at dksX3_plan_1 1 rfl rfl)
theorem dX3_plan_26 : decode cX3_plan 26 = .ok (.if_icmp .ne 14, 3) := dk_160 0 14 (dk_at dksX3_plan_1 2 rfl rfl)
theorem dX3_plan_29 : decode cX3_plan 29 = .ok (.aload_n 0, 1) := dk_42 (dk_at dksX3_plan_1 5 rfl rfl)
theorem dX3_plan_30 : decode cX3_plan 30 = .ok (.iload_n 1, 1) := dk_27 (dk_at dksX3_plan_1 6 rfl rfl)
theorem dX3_plan_31 : decode cX3_plan 31 = .ok (.invokevirtual 87, 3) := dk_182 0 87 (dk_at dksX3_plan_1 7 rfl rfl)
theorem dX3_plan_34 : decode cX3_plan 34 = .ok (.ifCond .lt 6, 3) := dk_155 0 6 (dk_at dksX3_plan_1 10 rfl rfl)
theorem dX3_plan_37 : decode cX3_plan 37 = .ok (.bipush (-4), 2) := dk_16 252 (dk_at dksX3_plan_1 13 rfl rfl)
theorem dX3_plan_39 : decode cX3_plan 39 = .ok (.ireturn, 1) := dk_172 (dk_at dksX3_plan_1 15 rfl rfl)
theorem dX3_plan_40 : decode cX3_plan 40 = .ok (.iload_n 2, 1) := dk_28 (dk_at dksX3_plan_1 16 rfl rfl)
theorem dX3_plan_41 : decode cX3_plan 41 = .ok (.tableswitch 61 0 3 #[31, 43, 49, 55], 31) := by decide +kernel
theorem dX3_plan_72 : decode cX3_plan 72 = .ok (.aload_n 0, 1) := dk_42 (dk_at dksX3_plan_3 0 rfl rfl)
theorem dX3_plan_73 : decode cX3_plan 73 = .ok (.iload_n 1, 1) := dk_27 (dk_at dksX3_plan_3 1 rfl rfl)
theorem dX3_plan_74 : decode cX3_plan 74 = .ok (.invokevirtual 102, 3) := dk_182 0 102 (dk_at dksX3_plan_3 2 rfl rfl)
theorem dX3_plan_77 : decode cX3_plan 77 = .ok (.aload_n 0, 1) := dk_42 (dk_at dksX3_plan_3 5 rfl rfl)
theorem dX3_plan_78 : decode cX3_plan 78 = .ok (.iload_n 1, 1) := dk_27 (dk_at dksX3_plan_3 6 rfl rfl)
theorem dX3_plan_79 : decode cX3_plan 79 = .ok (.invokevirtual 115, 3) := dk_182 0 115 (dk_at dksX3_plan_3 7 rfl rfl)
theorem dX3_plan_82 : decode cX3_plan 82 = .ok (.iadd, 1) := dk_96 (dk_at dksX3_plan_3 10 rfl rfl)
theorem dX3_plan_83 : decode cX3_plan 83 = .ok (.ireturn, 1) := dk_172 (dk_at dksX3_plan_3 11 rfl rfl)
theorem dX3_plan_84 : decode cX3_plan 84 = .ok (.aload_n 0, 1) := dk_42 (dk_at dksX3_plan_3 12 rfl rfl)
theorem dX3_plan_85 : decode cX3_plan 85 = .ok (.iload_n 1, 1) := dk_27 (dk_at dksX3_plan_3 13 rfl rfl)
theorem dX3_plan_86 : decode cX3_plan 86 = .ok (.invokevirtual 102, 3) := dk_182 0 102 (dk_at dksX3_plan_3 14 rfl rfl)
theorem dX3_plan_89 : decode cX3_plan 89 = .ok (.ireturn, 1) := dk_172 (dk_at dksX3_plan_3 17 rfl rfl)
theorem dX3_plan_90 : decode cX3_plan 90 = .ok (.aload_n 0, 1) := dk_42 (dk_at dksX3_plan_3 18 rfl rfl)
theorem dX3_plan_91 : decode cX3_plan 91 = .ok (.iload_n 1, 1) := dk_27 (dk_at dksX3_plan_3 19 rfl rfl)
theorem dX3_plan_92 : decode cX3_plan 92 = .ok (.invokevirtual 115, 3) := dk_182 0 115 (dk_at dksX3_plan_3 20 rfl rfl)
theorem dX3_plan_95 : decode cX3_plan 95 = .ok (.ireturn, 1) := dk_172 (dk_at dksX3_plan_3 23 rfl rfl)
theorem dX3_plan_96 : decode cX3_plan 96 = .ok (.aload_n 0, 1) := dk_42 (dk_at dksX3_plan_4 0 rfl rfl)
theorem dX3_plan_97 : decode cX3_plan 97 = .ok (.iload_n 1, 1) := dk_27 (dk_at dksX3_plan_4 1 rfl rfl)
theorem dX3_plan_98 : decode cX3_plan 98 = .ok (.invokevirtual 108, 3) := dk_182 0 108 (dk_at dksX3_plan_4 2 rfl rfl)
theorem dX3_plan_101 : decode cX3_plan 101 = .ok (.ireturn, 1) := dk_172 (dk_at dksX3_plan_4 5 rfl rfl)
theorem dX3_plan_102 : decode cX3_plan 102 = .ok (.aload_n 0, 1) := dk_42 (dk_at dksX3_plan_4 6 rfl rfl)
theorem dX3_plan_103 : decode cX3_plan 103 = .ok (.iload_n 1, 1) := dk_27 (dk_at dksX3_plan_4 7 rfl rfl)
theorem dX3_plan_104 : decode cX3_plan 104 = .ok (.invokevirtual 105, 3) := dk_182 0 105 (dk_at dksX3_plan_4 8 rfl rfl)
theorem dX3_plan_107 : decode cX3_plan 107 = .ok (.ireturn, 1) := dk_172 (dk_at dksX3_plan_4 11 rfl rfl)
abbrev cX3_serves : ByteArray := prog_18_method_55_code
def yX3_serves : MethodName := ⟨RX3, "serves", "(II)I"⟩
def dkwX3_serves_1 : List UInt8 := [27, 28, 182, 0, 81, 172]
abbrev dktX3_serves_1 : List UInt8 := dkwX3_serves_1 ++ []
def dkwX3_serves_0 : List UInt8 := [42, 27, 182, 0, 147, 153, 0, 6, 16, 254, 172, 42, 28, 182, 0, 61, 153, 0, 7, 2, 167, 0, 9, 42]
abbrev dktX3_serves_0 : List UInt8 := dkwX3_serves_0 ++ dktX3_serves_1
theorem dksX3_serves_0 : cX3_serves.data.toList.drop 0 = dktX3_serves_0 := by decide +kernel
theorem dksX3_serves_1 : cX3_serves.data.toList.drop 24 = dktX3_serves_1 := dk_seg dksX3_serves_0 24 rfl rfl
theorem dX3_serves_0 : decode cX3_serves 0 = .ok (.aload_n 0, 1) := dk_42 (dk_at dksX3_serves_0 0 rfl rfl)
theorem dX3_serves_1 : decode cX3_serves 1 = .ok (.iload_n 1, 1) := dk_27 (dk_at dksX3_serves_0 1 rfl rfl)
theorem dX3_serves_2 : decode cX3_serves 2 = .ok (.invokevirtual 147, 3) := dk_182 0 147 (dk_at dksX3_serves_0 2 rfl rfl)
theorem dX3_serves_5 : decode cX3_serves 5 = .ok (.ifCond .eq 6, 3) := dk_153 0 6 (dk_at dksX3_serves_0 5 rfl rfl)
theorem dX3_serves_8 : decode cX3_serves 8 = .ok (.bipush (-2), 2) := dk_16 254 (dk_at dksX3_serves_0 8 rfl rfl)
theorem dX3_serves_10 : decode cX3_serves 10 = .ok (.ireturn, 1) := dk_172 (dk_at dksX3_serves_0 10 rfl rfl)
theorem dX3_serves_11 : decode cX3_serves 11 = .ok (.aload_n 0, 1) := dk_42 (dk_at dksX3_serves_0 11 rfl rfl)
theorem dX3_serves_12 : decode cX3_serves 12 = .ok (.iload_n 2, 1) := dk_28 (dk_at dksX3_serves_0 12 rfl rfl)
theorem dX3_serves_13 : decode cX3_serves 13 = .ok (.invokevirtual 61, 3) := dk_182 0 61 (dk_at dksX3_serves_0 13 rfl rfl)
theorem dX3_serves_16 : decode cX3_serves 16 = .ok (.ifCond .eq 7, 3) := dk_153 0 7 (dk_at dksX3_serves_0 16 rfl rfl)
theorem dX3_serves_19 : decode cX3_serves 19 = .ok (.iconst (-1), 1) := dk_2 (dk_at dksX3_serves_0 19 rfl rfl)
theorem dX3_serves_20 : decode cX3_serves 20 = .ok (.goto 9, 3) := dk_167 0 9 (dk_at dksX3_serves_0 20 rfl rfl)
theorem dX3_serves_23 : decode cX3_serves 23 = .ok (.aload_n 0, 1) := dk_42 (dk_at dksX3_serves_0 23 rfl rfl)
theorem dX3_serves_24 : decode cX3_serves 24 = .ok (.iload_n 1, 1) := dk_27 (dk_at dksX3_serves_1 0 rfl rfl)
theorem dX3_serves_25 : decode cX3_serves 25 = .ok (.iload_n 2, 1) := dk_28 (dk_at dksX3_serves_1 1 rfl rfl)
theorem dX3_serves_26 : decode cX3_serves 26 = .ok (.invokevirtual 81, 3) := dk_182 0 81 (dk_at dksX3_serves_1 2 rfl rfl)
theorem dX3_serves_29 : decode cX3_serves 29 = .ok (.ireturn, 1) := dk_172 (dk_at dksX3_serves_1 5 rfl rfl)
abbrev cX3_cut : ByteArray := prog_18_method_57_code
def yX3_cut : MethodName := ⟨RX3, "cut", "(II)I"⟩
def dkwX3_cut_5 : List UInt8 := [182, 0, 153, 172, 16, 254, 172]
abbrev dktX3_cut_5 : List UInt8 := dkwX3_cut_5 ++ []
def dkwX3_cut_4 : List UInt8 := [153, 0, 7, 4, 167, 0, 9, 42, 27, 3, 182, 0, 99, 172, 42, 27, 3, 182, 0, 153, 172, 42, 27, 4]
abbrev dktX3_cut_4 : List UInt8 := dkwX3_cut_4 ++ dktX3_cut_5
def dkwX3_cut_3 : List UInt8 := [180, 0, 7, 16, 84, 16, 9, 27, 104, 96, 46, 167, 0, 5, 16, 251, 172, 42, 27, 182, 0, 93]
abbrev dktX3_cut_3 : List UInt8 := dkwX3_cut_3 ++ dktX3_cut_4
def dkwX3_cut_2 : List UInt8 := [42, 27, 182, 0, 93, 153, 0, 7, 3, 167, 0, 4, 4, 172, 42, 27, 182, 0, 93, 153, 0, 18, 42]
abbrev dktX3_cut_2 : List UInt8 := dkwX3_cut_2 ++ dktX3_cut_3
def dkwX3_cut_1 : List UInt8 := [170, 0, 0, 0, 106, 0, 0, 0, 0, 0, 0, 0, 4, 0, 0, 0, 33, 0, 0, 0, 47, 0, 0, 0, 73, 0, 0, 0, 92, 0, 0, 0, 99]
abbrev dktX3_cut_1 : List UInt8 := dkwX3_cut_1 ++ dktX3_cut_2
def dkwX3_cut_0 : List UInt8 := [42, 27, 182, 0, 124, 153, 0, 5, 2, 172, 28]
abbrev dktX3_cut_0 : List UInt8 := dkwX3_cut_0 ++ dktX3_cut_1
theorem dksX3_cut_0 : cX3_cut.data.toList.drop 0 = dktX3_cut_0 := by decide +kernel
theorem dksX3_cut_1 : cX3_cut.data.toList.drop 11 = dktX3_cut_1 := dk_seg dksX3_cut_0 11 rfl rfl
theorem dksX3_cut_2 : cX3_cut.data.toList.drop 44 = dktX3_cut_2 := dk_seg dksX3_cut_1 33 rfl rfl
theorem dksX3_cut_3 : cX3_cut.data.toList.drop 67 = dktX3_cut_3 := dk_seg dksX3_cut_2 23 rfl rfl
theorem dksX3_cut_4 : cX3_cut.data.toList.drop 89 = dktX3_cut_4 := dk_seg dksX3_cut_3 22 rfl rfl
theorem dksX3_cut_5 : cX3_cut.data.toList.drop 113 = dktX3_cut_5 := dk_seg dksX3_cut_4 24 rfl rfl
theorem dX3_cut_0 : decode cX3_cut 0 = .ok (.aload_n 0, 1) := dk_42 (dk_at dksX3_cut_0 0 rfl rfl)
theorem dX3_cut_1 : decode cX3_cut 1 = .ok (.iload_n 1, 1) := dk_27 (dk_at dksX3_cut_0 1 rfl rfl)
theorem dX3_cut_2 : decode cX3_cut 2 = .ok (.invokevirtual 124, 3) := dk_182 0 124 (dk_at dksX3_cut_0 2 rfl rfl)
theorem dX3_cut_5 : decode cX3_cut 5 = .ok (.ifCond .eq 5, 3) := dk_153 0 5 (dk_at dksX3_cut_0 5 rfl rfl)
theorem dX3_cut_8 : decode cX3_cut 8 = .ok (.iconst (-1), 1) := dk_2 (dk_at dksX3_cut_0 8 rfl rfl)
theorem dX3_cut_9 : decode cX3_cut 9 = .ok (.ireturn, 1) := dk_172 (dk_at dksX3_cut_0 9 rfl rfl)
theorem dX3_cut_10 : decode cX3_cut 10 = .ok (.iload_n 2, 1) := dk_28 (dk_at dksX3_cut_0 10 rfl rfl)
theorem dX3_cut_11 : decode cX3_cut 11 = .ok (.tableswitch 106 0 4 #[33, 47, 73, 92, 99], 33) := by decide +kernel
theorem dX3_cut_44 : decode cX3_cut 44 = .ok (.aload_n 0, 1) := dk_42 (dk_at dksX3_cut_2 0 rfl rfl)
theorem dX3_cut_45 : decode cX3_cut 45 = .ok (.iload_n 1, 1) := dk_27 (dk_at dksX3_cut_2 1 rfl rfl)
theorem dX3_cut_46 : decode cX3_cut 46 = .ok (.invokevirtual 93, 3) := dk_182 0 93 (dk_at dksX3_cut_2 2 rfl rfl)
theorem dX3_cut_49 : decode cX3_cut 49 = .ok (.ifCond .eq 7, 3) := dk_153 0 7 (dk_at dksX3_cut_2 5 rfl rfl)
theorem dX3_cut_52 : decode cX3_cut 52 = .ok (.iconst 0, 1) := dk_3 (dk_at dksX3_cut_2 8 rfl rfl)
theorem dX3_cut_53 : decode cX3_cut 53 = .ok (.goto 4, 3) := dk_167 0 4 (dk_at dksX3_cut_2 9 rfl rfl)
theorem dX3_cut_56 : decode cX3_cut 56 = .ok (.iconst 1, 1) := dk_4 (dk_at dksX3_cut_2 12 rfl rfl)
theorem dX3_cut_57 : decode cX3_cut 57 = .ok (.ireturn, 1) := dk_172 (dk_at dksX3_cut_2 13 rfl rfl)
theorem dX3_cut_58 : decode cX3_cut 58 = .ok (.aload_n 0, 1) := dk_42 (dk_at dksX3_cut_2 14 rfl rfl)
theorem dX3_cut_59 : decode cX3_cut 59 = .ok (.iload_n 1, 1) := dk_27 (dk_at dksX3_cut_2 15 rfl rfl)
theorem dX3_cut_60 : decode cX3_cut 60 = .ok (.invokevirtual 93, 3) := dk_182 0 93 (dk_at dksX3_cut_2 16 rfl rfl)
theorem dX3_cut_63 : decode cX3_cut 63 = .ok (.ifCond .eq 18, 3) := dk_153 0 18 (dk_at dksX3_cut_2 19 rfl rfl)
theorem dX3_cut_66 : decode cX3_cut 66 = .ok (.aload_n 0, 1) := dk_42 (dk_at dksX3_cut_2 22 rfl rfl)
theorem dX3_cut_67 : decode cX3_cut 67 = .ok (.getfield 7, 3) := dk_180 0 7 (dk_at dksX3_cut_3 0 rfl rfl)
theorem dX3_cut_70 : decode cX3_cut 70 = .ok (.bipush 84, 2) := dk_16 84 (dk_at dksX3_cut_3 3 rfl rfl)
theorem dX3_cut_72 : decode cX3_cut 72 = .ok (.bipush 9, 2) := dk_16 9 (dk_at dksX3_cut_3 5 rfl rfl)
theorem dX3_cut_74 : decode cX3_cut 74 = .ok (.iload_n 1, 1) := dk_27 (dk_at dksX3_cut_3 7 rfl rfl)
theorem dX3_cut_75 : decode cX3_cut 75 = .ok (.imul, 1) := dk_104 (dk_at dksX3_cut_3 8 rfl rfl)
theorem dX3_cut_76 : decode cX3_cut 76 = .ok (.iadd, 1) := dk_96 (dk_at dksX3_cut_3 9 rfl rfl)
theorem dX3_cut_77 : decode cX3_cut 77 = .ok (.iaload, 1) := dk_46 (dk_at dksX3_cut_3 10 rfl rfl)
theorem dX3_cut_78 : decode cX3_cut 78 = .ok (.goto 5, 3) := dk_167 0 5 (dk_at dksX3_cut_3 11 rfl rfl)
theorem dX3_cut_81 : decode cX3_cut 81 = .ok (.bipush (-5), 2) := dk_16 251 (dk_at dksX3_cut_3 14 rfl rfl)
theorem dX3_cut_83 : decode cX3_cut 83 = .ok (.ireturn, 1) := dk_172 (dk_at dksX3_cut_3 16 rfl rfl)
theorem dX3_cut_84 : decode cX3_cut 84 = .ok (.aload_n 0, 1) := dk_42 (dk_at dksX3_cut_3 17 rfl rfl)
theorem dX3_cut_85 : decode cX3_cut 85 = .ok (.iload_n 1, 1) := dk_27 (dk_at dksX3_cut_3 18 rfl rfl)
theorem dX3_cut_86 : decode cX3_cut 86 = .ok (.invokevirtual 93, 3) := dk_182 0 93 (dk_at dksX3_cut_3 19 rfl rfl)
theorem dX3_cut_89 : decode cX3_cut 89 = .ok (.ifCond .eq 7, 3) := dk_153 0 7 (dk_at dksX3_cut_4 0 rfl rfl)
theorem dX3_cut_92 : decode cX3_cut 92 = .ok (.iconst 1, 1) := dk_4 (dk_at dksX3_cut_4 3 rfl rfl)
theorem dX3_cut_93 : decode cX3_cut 93 = .ok (.goto 9, 3) := dk_167 0 9 (dk_at dksX3_cut_4 4 rfl rfl)
theorem dX3_cut_96 : decode cX3_cut 96 = .ok (.aload_n 0, 1) := dk_42 (dk_at dksX3_cut_4 7 rfl rfl)
theorem dX3_cut_97 : decode cX3_cut 97 = .ok (.iload_n 1, 1) := dk_27 (dk_at dksX3_cut_4 8 rfl rfl)
theorem dX3_cut_98 : decode cX3_cut 98 = .ok (.iconst 0, 1) := dk_3 (dk_at dksX3_cut_4 9 rfl rfl)
theorem dX3_cut_99 : decode cX3_cut 99 = .ok (.invokevirtual 99, 3) := dk_182 0 99 (dk_at dksX3_cut_4 10 rfl rfl)
theorem dX3_cut_102 : decode cX3_cut 102 = .ok (.ireturn, 1) := dk_172 (dk_at dksX3_cut_4 13 rfl rfl)
theorem dX3_cut_103 : decode cX3_cut 103 = .ok (.aload_n 0, 1) := dk_42 (dk_at dksX3_cut_4 14 rfl rfl)
theorem dX3_cut_104 : decode cX3_cut 104 = .ok (.iload_n 1, 1) := dk_27 (dk_at dksX3_cut_4 15 rfl rfl)
theorem dX3_cut_105 : decode cX3_cut 105 = .ok (.iconst 0, 1) := dk_3 (dk_at dksX3_cut_4 16 rfl rfl)
theorem dX3_cut_106 : decode cX3_cut 106 = .ok (.invokevirtual 153, 3) := dk_182 0 153 (dk_at dksX3_cut_4 17 rfl rfl)
theorem dX3_cut_109 : decode cX3_cut 109 = .ok (.ireturn, 1) := dk_172 (dk_at dksX3_cut_4 20 rfl rfl)
theorem dX3_cut_110 : decode cX3_cut 110 = .ok (.aload_n 0, 1) := dk_42 (dk_at dksX3_cut_4 21 rfl rfl)
theorem dX3_cut_111 : decode cX3_cut 111 = .ok (.iload_n 1, 1) := dk_27 (dk_at dksX3_cut_4 22 rfl rfl)
theorem dX3_cut_112 : decode cX3_cut 112 = .ok (.iconst 1, 1) := dk_4 (dk_at dksX3_cut_4 23 rfl rfl)
theorem dX3_cut_113 : decode cX3_cut 113 = .ok (.invokevirtual 153, 3) := dk_182 0 153 (dk_at dksX3_cut_5 0 rfl rfl)
theorem dX3_cut_116 : decode cX3_cut 116 = .ok (.ireturn, 1) := dk_172 (dk_at dksX3_cut_5 3 rfl rfl)
theorem dX3_cut_117 : decode cX3_cut 117 = .ok (.bipush (-2), 2) := dk_16 254 (dk_at dksX3_cut_5 4 rfl rfl)
theorem dX3_cut_119 : decode cX3_cut 119 = .ok (.ireturn, 1) := dk_172 (dk_at dksX3_cut_5 6 rfl rfl)
abbrev cX3_plansBy : ByteArray := prog_18_method_56_code
def yX3_plansBy : MethodName := ⟨RX3, "plansBy", "(IZ)I"⟩
def dkwX3_plansBy_5 : List UInt8 := [54, 6, 29, 21, 6, 153, 0, 7, 4, 167, 0, 4, 3, 96, 62, 132, 4, 1, 167, 255, 125, 29, 172]
abbrev dktX3_plansBy_5 : List UInt8 := dkwX3_plansBy_5 ++ []
def dkwX3_plansBy_4 : List UInt8 := [21, 5, 154, 0, 7, 4, 167, 0, 17, 3, 167, 0, 13, 21, 5, 158, 0, 7, 4, 167, 0, 4, 3]
abbrev dktX3_plansBy_4 : List UInt8 := dkwX3_plansBy_4 ++ dktX3_plansBy_5
def dkwX3_plansBy_3 : List UInt8 := [28, 153, 0, 7, 4, 167, 0, 4, 3, 160, 0, 7, 4, 167, 0, 34, 3, 167, 0, 30, 28, 153, 0, 16]
abbrev dktX3_plansBy_3 : List UInt8 := dkwX3_plansBy_3 ++ dktX3_plansBy_4
def dkwX3_plansBy_2 : List UInt8 := [21, 4, 182, 0, 99, 42, 21, 4, 182, 0, 115, 100, 54, 5, 42, 27, 182, 0, 93, 153, 0, 25, 21, 5]
abbrev dktX3_plansBy_2 : List UInt8 := dkwX3_plansBy_2 ++ dktX3_plansBy_3
def dkwX3_plansBy_1 : List UInt8 := [153, 0, 109, 42, 27, 182, 0, 93, 153, 0, 13, 42, 27, 21, 4, 182, 0, 96, 167, 0, 17, 42, 27]
abbrev dktX3_plansBy_1 : List UInt8 := dkwX3_plansBy_1 ++ dktX3_plansBy_2
def dkwX3_plansBy_0 : List UInt8 := [3, 62, 3, 54, 4, 21, 4, 4, 42, 180, 0, 7, 3, 46, 120, 162, 0, 124, 42, 21, 4, 182, 0, 150]
abbrev dktX3_plansBy_0 : List UInt8 := dkwX3_plansBy_0 ++ dktX3_plansBy_1
theorem dksX3_plansBy_0 : cX3_plansBy.data.toList.drop 0 = dktX3_plansBy_0 := by decide +kernel
theorem dksX3_plansBy_1 : cX3_plansBy.data.toList.drop 24 = dktX3_plansBy_1 := dk_seg dksX3_plansBy_0 24 rfl rfl
theorem dksX3_plansBy_2 : cX3_plansBy.data.toList.drop 47 = dktX3_plansBy_2 := dk_seg dksX3_plansBy_1 23 rfl rfl
theorem dksX3_plansBy_3 : cX3_plansBy.data.toList.drop 71 = dktX3_plansBy_3 := dk_seg dksX3_plansBy_2 24 rfl rfl
theorem dksX3_plansBy_4 : cX3_plansBy.data.toList.drop 95 = dktX3_plansBy_4 := dk_seg dksX3_plansBy_3 24 rfl rfl
theorem dksX3_plansBy_5 : cX3_plansBy.data.toList.drop 118 = dktX3_plansBy_5 := dk_seg dksX3_plansBy_4 23 rfl rfl
theorem dX3_plansBy_0 : decode cX3_plansBy 0 = .ok (.iconst 0, 1) := dk_3 (dk_at dksX3_plansBy_0 0 rfl rfl)
theorem dX3_plansBy_1 : decode cX3_plansBy 1 = .ok (.istore_n 3, 1) := dk_62 (dk_at dksX3_plansBy_0 1 rfl rfl)
theorem dX3_plansBy_2 : decode cX3_plansBy 2 = .ok (.iconst 0, 1) := dk_3 (dk_at dksX3_plansBy_0 2 rfl rfl)
theorem dX3_plansBy_3 : decode cX3_plansBy 3 = .ok (.istore 4, 2) := dk_54 4 (dk_at dksX3_plansBy_0 3 rfl rfl)
theorem dX3_plansBy_5 : decode cX3_plansBy 5 = .ok (.iload 4, 2) := dk_21 4 (dk_at dksX3_plansBy_0 5 rfl rfl)
theorem dX3_plansBy_7 : decode cX3_plansBy 7 = .ok (.iconst 1, 1) := dk_4 (dk_at dksX3_plansBy_0 7 rfl rfl)
theorem dX3_plansBy_8 : decode cX3_plansBy 8 = .ok (.aload_n 0, 1) := dk_42 (dk_at dksX3_plansBy_0 8 rfl rfl)
theorem dX3_plansBy_9 : decode cX3_plansBy 9 = .ok (.getfield 7, 3) := dk_180 0 7 (dk_at dksX3_plansBy_0 9 rfl rfl)
theorem dX3_plansBy_12 : decode cX3_plansBy 12 = .ok (.iconst 0, 1) := dk_3 (dk_at dksX3_plansBy_0 12 rfl rfl)
theorem dX3_plansBy_13 : decode cX3_plansBy 13 = .ok (.iaload, 1) := dk_46 (dk_at dksX3_plansBy_0 13 rfl rfl)
theorem dX3_plansBy_14 : decode cX3_plansBy 14 = .ok (.ishl, 1) := dk_120 (dk_at dksX3_plansBy_0 14 rfl rfl)
theorem dX3_plansBy_15 : decode cX3_plansBy 15 = .ok (.if_icmp .ge 124, 3) := dk_162 0 124 (dk_at dksX3_plansBy_0 15 rfl rfl)
theorem dX3_plansBy_18 : decode cX3_plansBy 18 = .ok (.aload_n 0, 1) := dk_42 (dk_at dksX3_plansBy_0 18 rfl rfl)
theorem dX3_plansBy_19 : decode cX3_plansBy 19 = .ok (.iload 4, 2) := dk_21 4 (dk_at dksX3_plansBy_0 19 rfl rfl)
theorem dX3_plansBy_21 : decode cX3_plansBy 21 = .ok (.invokevirtual 150, 3) := dk_182 0 150 (dk_at dksX3_plansBy_0 21 rfl rfl)
theorem dX3_plansBy_24 : decode cX3_plansBy 24 = .ok (.ifCond .eq 109, 3) := dk_153 0 109 (dk_at dksX3_plansBy_1 0 rfl rfl)
theorem dX3_plansBy_27 : decode cX3_plansBy 27 = .ok (.aload_n 0, 1) := dk_42 (dk_at dksX3_plansBy_1 3 rfl rfl)
theorem dX3_plansBy_28 : decode cX3_plansBy 28 = .ok (.iload_n 1, 1) := dk_27 (dk_at dksX3_plansBy_1 4 rfl rfl)
theorem dX3_plansBy_29 : decode cX3_plansBy 29 = .ok (.invokevirtual 93, 3) := dk_182 0 93 (dk_at dksX3_plansBy_1 5 rfl rfl)
theorem dX3_plansBy_32 : decode cX3_plansBy 32 = .ok (.ifCond .eq 13, 3) := dk_153 0 13 (dk_at dksX3_plansBy_1 8 rfl rfl)
theorem dX3_plansBy_35 : decode cX3_plansBy 35 = .ok (.aload_n 0, 1) := dk_42 (dk_at dksX3_plansBy_1 11 rfl rfl)
theorem dX3_plansBy_36 : decode cX3_plansBy 36 = .ok (.iload_n 1, 1) := dk_27 (dk_at dksX3_plansBy_1 12 rfl rfl)
theorem dX3_plansBy_37 : decode cX3_plansBy 37 = .ok (.iload 4, 2) := dk_21 4 (dk_at dksX3_plansBy_1 13 rfl rfl)
theorem dX3_plansBy_39 : decode cX3_plansBy 39 = .ok (.invokevirtual 96, 3) := dk_182 0 96 (dk_at dksX3_plansBy_1 15 rfl rfl)
theorem dX3_plansBy_42 : decode cX3_plansBy 42 = .ok (.goto 17, 3) := dk_167 0 17 (dk_at dksX3_plansBy_1 18 rfl rfl)
theorem dX3_plansBy_45 : decode cX3_plansBy 45 = .ok (.aload_n 0, 1) := dk_42 (dk_at dksX3_plansBy_1 21 rfl rfl)
theorem dX3_plansBy_46 : decode cX3_plansBy 46 = .ok (.iload_n 1, 1) := dk_27 (dk_at dksX3_plansBy_1 22 rfl rfl)
theorem dX3_plansBy_47 : decode cX3_plansBy 47 = .ok (.iload 4, 2) := dk_21 4 (dk_at dksX3_plansBy_2 0 rfl rfl)
theorem dX3_plansBy_49 : decode cX3_plansBy 49 = .ok (.invokevirtual 99, 3) := dk_182 0 99 (dk_at dksX3_plansBy_2 2 rfl rfl)
theorem dX3_plansBy_52 : decode cX3_plansBy 52 = .ok (.aload_n 0, 1) := dk_42 (dk_at dksX3_plansBy_2 5 rfl rfl)
theorem dX3_plansBy_53 : decode cX3_plansBy 53 = .ok (.iload 4, 2) := dk_21 4 (dk_at dksX3_plansBy_2 6 rfl rfl)
theorem dX3_plansBy_55 : decode cX3_plansBy 55 = .ok (.invokevirtual 115, 3) := dk_182 0 115 (dk_at dksX3_plansBy_2 8 rfl rfl)
theorem dX3_plansBy_58 : decode cX3_plansBy 58 = .ok (.isub, 1) := dk_100 (dk_at dksX3_plansBy_2 11 rfl rfl)
theorem dX3_plansBy_59 : decode cX3_plansBy 59 = .ok (.istore 5, 2) := dk_54 5 (dk_at dksX3_plansBy_2 12 rfl rfl)
theorem dX3_plansBy_61 : decode cX3_plansBy 61 = .ok (.aload_n 0, 1) := dk_42 (dk_at dksX3_plansBy_2 14 rfl rfl)
theorem dX3_plansBy_62 : decode cX3_plansBy 62 = .ok (.iload_n 1, 1) := dk_27 (dk_at dksX3_plansBy_2 15 rfl rfl)
theorem dX3_plansBy_63 : decode cX3_plansBy 63 = .ok (.invokevirtual 93, 3) := dk_182 0 93 (dk_at dksX3_plansBy_2 16 rfl rfl)
theorem dX3_plansBy_66 : decode cX3_plansBy 66 = .ok (.ifCond .eq 25, 3) := dk_153 0 25 (dk_at dksX3_plansBy_2 19 rfl rfl)
theorem dX3_plansBy_69 : decode cX3_plansBy 69 = .ok (.iload 5, 2) := dk_21 5 (dk_at dksX3_plansBy_2 22 rfl rfl)
theorem dX3_plansBy_71 : decode cX3_plansBy 71 = .ok (.iload_n 2, 1) := dk_28 (dk_at dksX3_plansBy_3 0 rfl rfl)
theorem dX3_plansBy_72 : decode cX3_plansBy 72 = .ok (.ifCond .eq 7, 3) := dk_153 0 7 (dk_at dksX3_plansBy_3 1 rfl rfl)
theorem dX3_plansBy_75 : decode cX3_plansBy 75 = .ok (.iconst 1, 1) := dk_4 (dk_at dksX3_plansBy_3 4 rfl rfl)
theorem dX3_plansBy_76 : decode cX3_plansBy 76 = .ok (.goto 4, 3) := dk_167 0 4 (dk_at dksX3_plansBy_3 5 rfl rfl)
theorem dX3_plansBy_79 : decode cX3_plansBy 79 = .ok (.iconst 0, 1) := dk_3 (dk_at dksX3_plansBy_3 8 rfl rfl)
theorem dX3_plansBy_80 : decode cX3_plansBy 80 = .ok (.if_icmp .ne 7, 3) := dk_160 0 7 (dk_at dksX3_plansBy_3 9 rfl rfl)
theorem dX3_plansBy_83 : decode cX3_plansBy 83 = .ok (.iconst 1, 1) := dk_4 (dk_at dksX3_plansBy_3 12 rfl rfl)
theorem dX3_plansBy_84 : decode cX3_plansBy 84 = .ok (.goto 34, 3) := dk_167 0 34 (dk_at dksX3_plansBy_3 13 rfl rfl)
theorem dX3_plansBy_87 : decode cX3_plansBy 87 = .ok (.iconst 0, 1) := dk_3 (dk_at dksX3_plansBy_3 16 rfl rfl)
theorem dX3_plansBy_88 : decode cX3_plansBy 88 = .ok (.goto 30, 3) := dk_167 0 30 (dk_at dksX3_plansBy_3 17 rfl rfl)
theorem dX3_plansBy_91 : decode cX3_plansBy 91 = .ok (.iload_n 2, 1) := dk_28 (dk_at dksX3_plansBy_3 20 rfl rfl)
theorem dX3_plansBy_92 : decode cX3_plansBy 92 = .ok (.ifCond .eq 16, 3) := dk_153 0 16 (dk_at dksX3_plansBy_3 21 rfl rfl)
theorem dX3_plansBy_95 : decode cX3_plansBy 95 = .ok (.iload 5, 2) := dk_21 5 (dk_at dksX3_plansBy_4 0 rfl rfl)
theorem dX3_plansBy_97 : decode cX3_plansBy 97 = .ok (.ifCond .ne 7, 3) := dk_154 0 7 (dk_at dksX3_plansBy_4 2 rfl rfl)
theorem dX3_plansBy_100 : decode cX3_plansBy 100 = .ok (.iconst 1, 1) := dk_4 (dk_at dksX3_plansBy_4 5 rfl rfl)
theorem dX3_plansBy_101 : decode cX3_plansBy 101 = .ok (.goto 17, 3) := dk_167 0 17 (dk_at dksX3_plansBy_4 6 rfl rfl)
theorem dX3_plansBy_104 : decode cX3_plansBy 104 = .ok (.iconst 0, 1) := dk_3 (dk_at dksX3_plansBy_4 9 rfl rfl)
theorem dX3_plansBy_105 : decode cX3_plansBy 105 = .ok (.goto 13, 3) := dk_167 0 13 (dk_at dksX3_plansBy_4 10 rfl rfl)
theorem dX3_plansBy_108 : decode cX3_plansBy 108 = .ok (.iload 5, 2) := dk_21 5 (dk_at dksX3_plansBy_4 13 rfl rfl)
theorem dX3_plansBy_110 : decode cX3_plansBy 110 = .ok (.ifCond .le 7, 3) := dk_158 0 7 (dk_at dksX3_plansBy_4 15 rfl rfl)
theorem dX3_plansBy_113 : decode cX3_plansBy 113 = .ok (.iconst 1, 1) := dk_4 (dk_at dksX3_plansBy_4 18 rfl rfl)
theorem dX3_plansBy_114 : decode cX3_plansBy 114 = .ok (.goto 4, 3) := dk_167 0 4 (dk_at dksX3_plansBy_4 19 rfl rfl)
theorem dX3_plansBy_117 : decode cX3_plansBy 117 = .ok (.iconst 0, 1) := dk_3 (dk_at dksX3_plansBy_4 22 rfl rfl)
theorem dX3_plansBy_118 : decode cX3_plansBy 118 = .ok (.istore 6, 2) := dk_54 6 (dk_at dksX3_plansBy_5 0 rfl rfl)
theorem dX3_plansBy_120 : decode cX3_plansBy 120 = .ok (.iload_n 3, 1) := dk_29 (dk_at dksX3_plansBy_5 2 rfl rfl)
theorem dX3_plansBy_121 : decode cX3_plansBy 121 = .ok (.iload 6, 2) := dk_21 6 (dk_at dksX3_plansBy_5 3 rfl rfl)
theorem dX3_plansBy_123 : decode cX3_plansBy 123 = .ok (.ifCond .eq 7, 3) := dk_153 0 7 (dk_at dksX3_plansBy_5 5 rfl rfl)
theorem dX3_plansBy_126 : decode cX3_plansBy 126 = .ok (.iconst 1, 1) := dk_4 (dk_at dksX3_plansBy_5 8 rfl rfl)
theorem dX3_plansBy_127 : decode cX3_plansBy 127 = .ok (.goto 4, 3) := dk_167 0 4 (dk_at dksX3_plansBy_5 9 rfl rfl)
theorem dX3_plansBy_130 : decode cX3_plansBy 130 = .ok (.iconst 0, 1) := dk_3 (dk_at dksX3_plansBy_5 12 rfl rfl)
theorem dX3_plansBy_131 : decode cX3_plansBy 131 = .ok (.iadd, 1) := dk_96 (dk_at dksX3_plansBy_5 13 rfl rfl)
theorem dX3_plansBy_132 : decode cX3_plansBy 132 = .ok (.istore_n 3, 1) := dk_62 (dk_at dksX3_plansBy_5 14 rfl rfl)
theorem dX3_plansBy_133 : decode cX3_plansBy 133 = .ok (.iinc 4 1, 3) := dk_132 4 1 (dk_at dksX3_plansBy_5 15 rfl rfl)
theorem dX3_plansBy_136 : decode cX3_plansBy 136 = .ok (.goto (-131), 3) := dk_167 255 125 (dk_at dksX3_plansBy_5 18 rfl rfl)
theorem dX3_plansBy_139 : decode cX3_plansBy 139 = .ok (.iload_n 3, 1) := dk_29 (dk_at dksX3_plansBy_5 21 rfl rfl)
theorem dX3_plansBy_140 : decode cX3_plansBy 140 = .ok (.ireturn, 1) := dk_172 (dk_at dksX3_plansBy_5 22 rfl rfl)
abbrev cX3_isFeasible : ByteArray := prog_18_method_32_code
def yX3_isFeasible : MethodName := ⟨RX3, "isFeasible", "(I)Z"⟩
def dkwX3_isFeasible_0 : List UInt8 := [42, 27, 182, 0, 84, 153, 0, 15, 42, 27, 182, 0, 87, 156, 0, 7, 4, 167, 0, 4, 3, 172]
abbrev dktX3_isFeasible_0 : List UInt8 := dkwX3_isFeasible_0 ++ []
theorem dksX3_isFeasible_0 : cX3_isFeasible.data.toList.drop 0 = dktX3_isFeasible_0 := by decide +kernel
theorem dX3_isFeasible_0 : decode cX3_isFeasible 0 = .ok (.aload_n 0, 1) := dk_42 (dk_at dksX3_isFeasible_0 0 rfl rfl)
theorem dX3_isFeasible_1 : decode cX3_isFeasible 1 = .ok (.iload_n 1, 1) := dk_27 (dk_at dksX3_isFeasible_0 1 rfl rfl)
theorem dX3_isFeasible_2 : decode cX3_isFeasible 2 = .ok (.invokevirtual 84, 3) := dk_182 0 84 (dk_at dksX3_isFeasible_0 2 rfl rfl)
theorem dX3_isFeasible_5 : decode cX3_isFeasible 5 = .ok (.ifCond .eq 15, 3) := dk_153 0 15 (dk_at dksX3_isFeasible_0 5 rfl rfl)
theorem dX3_isFeasible_8 : decode cX3_isFeasible 8 = .ok (.aload_n 0, 1) := dk_42 (dk_at dksX3_isFeasible_0 8 rfl rfl)
theorem dX3_isFeasible_9 : decode cX3_isFeasible 9 = .ok (.iload_n 1, 1) := dk_27 (dk_at dksX3_isFeasible_0 9 rfl rfl)
theorem dX3_isFeasible_10 : decode cX3_isFeasible 10 = .ok (.invokevirtual 87, 3) := dk_182 0 87 (dk_at dksX3_isFeasible_0 10 rfl rfl)
theorem dX3_isFeasible_13 : decode cX3_isFeasible 13 = .ok (.ifCond .ge 7, 3) := dk_156 0 7 (dk_at dksX3_isFeasible_0 13 rfl rfl)
theorem dX3_isFeasible_16 : decode cX3_isFeasible 16 = .ok (.iconst 1, 1) := dk_4 (dk_at dksX3_isFeasible_0 16 rfl rfl)
theorem dX3_isFeasible_17 : decode cX3_isFeasible 17 = .ok (.goto 4, 3) := dk_167 0 4 (dk_at dksX3_isFeasible_0 17 rfl rfl)
theorem dX3_isFeasible_20 : decode cX3_isFeasible 20 = .ok (.iconst 0, 1) := dk_3 (dk_at dksX3_isFeasible_0 20 rfl rfl)
theorem dX3_isFeasible_21 : decode cX3_isFeasible 21 = .ok (.ireturn, 1) := dk_172 (dk_at dksX3_isFeasible_0 21 rfl rfl)
abbrev cX3_weight : ByteArray := prog_18_method_58_code
def yX3_weight : MethodName := ⟨RX3, "weight", "(II)I"⟩
def dkwX3_weight_1 : List UInt8 := [153, 0, 14, 42, 27, 4, 28, 120, 182, 0, 96, 167, 0, 9, 42, 27, 28, 182, 0, 90, 172]
abbrev dktX3_weight_1 : List UInt8 := dkwX3_weight_1 ++ []
def dkwX3_weight_0 : List UInt8 := [42, 27, 182, 0, 124, 154, 0, 11, 42, 28, 182, 0, 53, 153, 0, 5, 2, 172, 42, 27, 182, 0, 93]
abbrev dktX3_weight_0 : List UInt8 := dkwX3_weight_0 ++ dktX3_weight_1
theorem dksX3_weight_0 : cX3_weight.data.toList.drop 0 = dktX3_weight_0 := by decide +kernel
theorem dksX3_weight_1 : cX3_weight.data.toList.drop 23 = dktX3_weight_1 := dk_seg dksX3_weight_0 23 rfl rfl
theorem dX3_weight_0 : decode cX3_weight 0 = .ok (.aload_n 0, 1) := dk_42 (dk_at dksX3_weight_0 0 rfl rfl)
theorem dX3_weight_1 : decode cX3_weight 1 = .ok (.iload_n 1, 1) := dk_27 (dk_at dksX3_weight_0 1 rfl rfl)
theorem dX3_weight_2 : decode cX3_weight 2 = .ok (.invokevirtual 124, 3) := dk_182 0 124 (dk_at dksX3_weight_0 2 rfl rfl)
theorem dX3_weight_5 : decode cX3_weight 5 = .ok (.ifCond .ne 11, 3) := dk_154 0 11 (dk_at dksX3_weight_0 5 rfl rfl)
theorem dX3_weight_8 : decode cX3_weight 8 = .ok (.aload_n 0, 1) := dk_42 (dk_at dksX3_weight_0 8 rfl rfl)
theorem dX3_weight_9 : decode cX3_weight 9 = .ok (.iload_n 2, 1) := dk_28 (dk_at dksX3_weight_0 9 rfl rfl)
theorem dX3_weight_10 : decode cX3_weight 10 = .ok (.invokevirtual 53, 3) := dk_182 0 53 (dk_at dksX3_weight_0 10 rfl rfl)
theorem dX3_weight_13 : decode cX3_weight 13 = .ok (.ifCond .eq 5, 3) := dk_153 0 5 (dk_at dksX3_weight_0 13 rfl rfl)
theorem dX3_weight_16 : decode cX3_weight 16 = .ok (.iconst (-1), 1) := dk_2 (dk_at dksX3_weight_0 16 rfl rfl)
theorem dX3_weight_17 : decode cX3_weight 17 = .ok (.ireturn, 1) := dk_172 (dk_at dksX3_weight_0 17 rfl rfl)
theorem dX3_weight_18 : decode cX3_weight 18 = .ok (.aload_n 0, 1) := dk_42 (dk_at dksX3_weight_0 18 rfl rfl)
theorem dX3_weight_19 : decode cX3_weight 19 = .ok (.iload_n 1, 1) := dk_27 (dk_at dksX3_weight_0 19 rfl rfl)
theorem dX3_weight_20 : decode cX3_weight 20 = .ok (.invokevirtual 93, 3) := dk_182 0 93 (dk_at dksX3_weight_0 20 rfl rfl)
theorem dX3_weight_23 : decode cX3_weight 23 = .ok (.ifCond .eq 14, 3) := dk_153 0 14 (dk_at dksX3_weight_1 0 rfl rfl)
theorem dX3_weight_26 : decode cX3_weight 26 = .ok (.aload_n 0, 1) := dk_42 (dk_at dksX3_weight_1 3 rfl rfl)
theorem dX3_weight_27 : decode cX3_weight 27 = .ok (.iload_n 1, 1) := dk_27 (dk_at dksX3_weight_1 4 rfl rfl)
theorem dX3_weight_28 : decode cX3_weight 28 = .ok (.iconst 1, 1) := dk_4 (dk_at dksX3_weight_1 5 rfl rfl)
theorem dX3_weight_29 : decode cX3_weight 29 = .ok (.iload_n 2, 1) := dk_28 (dk_at dksX3_weight_1 6 rfl rfl)
theorem dX3_weight_30 : decode cX3_weight 30 = .ok (.ishl, 1) := dk_120 (dk_at dksX3_weight_1 7 rfl rfl)
theorem dX3_weight_31 : decode cX3_weight 31 = .ok (.invokevirtual 96, 3) := dk_182 0 96 (dk_at dksX3_weight_1 8 rfl rfl)
theorem dX3_weight_34 : decode cX3_weight 34 = .ok (.goto 9, 3) := dk_167 0 9 (dk_at dksX3_weight_1 11 rfl rfl)
theorem dX3_weight_37 : decode cX3_weight 37 = .ok (.aload_n 0, 1) := dk_42 (dk_at dksX3_weight_1 14 rfl rfl)
theorem dX3_weight_38 : decode cX3_weight 38 = .ok (.iload_n 1, 1) := dk_27 (dk_at dksX3_weight_1 15 rfl rfl)
theorem dX3_weight_39 : decode cX3_weight 39 = .ok (.iload_n 2, 1) := dk_28 (dk_at dksX3_weight_1 16 rfl rfl)
theorem dX3_weight_40 : decode cX3_weight 40 = .ok (.invokevirtual 90, 3) := dk_182 0 90 (dk_at dksX3_weight_1 17 rfl rfl)
theorem dX3_weight_43 : decode cX3_weight 43 = .ok (.ireturn, 1) := dk_172 (dk_at dksX3_weight_1 20 rfl rfl)
abbrev cX3_value : ByteArray := prog_18_method_59_code
def yX3_value : MethodName := ⟨RX3, "value", "(II)I"⟩
def dkwX3_value_2 : List UInt8 := [172]
abbrev dktX3_value_2 : List UInt8 := dkwX3_value_2 ++ []
def dkwX3_value_1 : List UInt8 := [182, 0, 93, 153, 0, 12, 42, 27, 28, 182, 0, 96, 167, 0, 12, 18, 157, 42, 27, 28, 182, 0, 99, 96]
abbrev dktX3_value_1 : List UInt8 := dkwX3_value_1 ++ dktX3_value_2
def dkwX3_value_0 : List UInt8 := [42, 27, 182, 0, 124, 153, 0, 5, 2, 172, 42, 28, 182, 0, 147, 153, 0, 6, 16, 254, 172, 42, 27]
abbrev dktX3_value_0 : List UInt8 := dkwX3_value_0 ++ dktX3_value_1
theorem dksX3_value_0 : cX3_value.data.toList.drop 0 = dktX3_value_0 := by decide +kernel
theorem dksX3_value_1 : cX3_value.data.toList.drop 23 = dktX3_value_1 := dk_seg dksX3_value_0 23 rfl rfl
theorem dksX3_value_2 : cX3_value.data.toList.drop 47 = dktX3_value_2 := dk_seg dksX3_value_1 24 rfl rfl
theorem dX3_value_0 : decode cX3_value 0 = .ok (.aload_n 0, 1) := dk_42 (dk_at dksX3_value_0 0 rfl rfl)
theorem dX3_value_1 : decode cX3_value 1 = .ok (.iload_n 1, 1) := dk_27 (dk_at dksX3_value_0 1 rfl rfl)
theorem dX3_value_2 : decode cX3_value 2 = .ok (.invokevirtual 124, 3) := dk_182 0 124 (dk_at dksX3_value_0 2 rfl rfl)
theorem dX3_value_5 : decode cX3_value 5 = .ok (.ifCond .eq 5, 3) := dk_153 0 5 (dk_at dksX3_value_0 5 rfl rfl)
theorem dX3_value_8 : decode cX3_value 8 = .ok (.iconst (-1), 1) := dk_2 (dk_at dksX3_value_0 8 rfl rfl)
theorem dX3_value_9 : decode cX3_value 9 = .ok (.ireturn, 1) := dk_172 (dk_at dksX3_value_0 9 rfl rfl)
theorem dX3_value_10 : decode cX3_value 10 = .ok (.aload_n 0, 1) := dk_42 (dk_at dksX3_value_0 10 rfl rfl)
theorem dX3_value_11 : decode cX3_value 11 = .ok (.iload_n 2, 1) := dk_28 (dk_at dksX3_value_0 11 rfl rfl)
theorem dX3_value_12 : decode cX3_value 12 = .ok (.invokevirtual 147, 3) := dk_182 0 147 (dk_at dksX3_value_0 12 rfl rfl)
theorem dX3_value_15 : decode cX3_value 15 = .ok (.ifCond .eq 6, 3) := dk_153 0 6 (dk_at dksX3_value_0 15 rfl rfl)
theorem dX3_value_18 : decode cX3_value 18 = .ok (.bipush (-2), 2) := dk_16 254 (dk_at dksX3_value_0 18 rfl rfl)
theorem dX3_value_20 : decode cX3_value 20 = .ok (.ireturn, 1) := dk_172 (dk_at dksX3_value_0 20 rfl rfl)
theorem dX3_value_21 : decode cX3_value 21 = .ok (.aload_n 0, 1) := dk_42 (dk_at dksX3_value_0 21 rfl rfl)
theorem dX3_value_22 : decode cX3_value 22 = .ok (.iload_n 1, 1) := dk_27 (dk_at dksX3_value_0 22 rfl rfl)
theorem dX3_value_23 : decode cX3_value 23 = .ok (.invokevirtual 93, 3) := dk_182 0 93 (dk_at dksX3_value_1 0 rfl rfl)
theorem dX3_value_26 : decode cX3_value 26 = .ok (.ifCond .eq 12, 3) := dk_153 0 12 (dk_at dksX3_value_1 3 rfl rfl)
theorem dX3_value_29 : decode cX3_value 29 = .ok (.aload_n 0, 1) := dk_42 (dk_at dksX3_value_1 6 rfl rfl)
theorem dX3_value_30 : decode cX3_value 30 = .ok (.iload_n 1, 1) := dk_27 (dk_at dksX3_value_1 7 rfl rfl)
theorem dX3_value_31 : decode cX3_value 31 = .ok (.iload_n 2, 1) := dk_28 (dk_at dksX3_value_1 8 rfl rfl)
theorem dX3_value_32 : decode cX3_value 32 = .ok (.invokevirtual 96, 3) := dk_182 0 96 (dk_at dksX3_value_1 9 rfl rfl)
theorem dX3_value_35 : decode cX3_value 35 = .ok (.goto 12, 3) := dk_167 0 12 (dk_at dksX3_value_1 12 rfl rfl)
theorem dX3_value_38 : decode cX3_value 38 = .ok (.ldc 157, 2) := dk_18 157 (dk_at dksX3_value_1 15 rfl rfl)
theorem dX3_value_40 : decode cX3_value 40 = .ok (.aload_n 0, 1) := dk_42 (dk_at dksX3_value_1 17 rfl rfl)
theorem dX3_value_41 : decode cX3_value 41 = .ok (.iload_n 1, 1) := dk_27 (dk_at dksX3_value_1 18 rfl rfl)
theorem dX3_value_42 : decode cX3_value 42 = .ok (.iload_n 2, 1) := dk_28 (dk_at dksX3_value_1 19 rfl rfl)
theorem dX3_value_43 : decode cX3_value 43 = .ok (.invokevirtual 99, 3) := dk_182 0 99 (dk_at dksX3_value_1 20 rfl rfl)
theorem dX3_value_46 : decode cX3_value 46 = .ok (.iadd, 1) := dk_96 (dk_at dksX3_value_1 23 rfl rfl)
theorem dX3_value_47 : decode cX3_value 47 = .ok (.ireturn, 1) := dk_172 (dk_at dksX3_value_2 0 rfl rfl)
abbrev cX3_master : ByteArray := prog_18_method_60_code
def yX3_master : MethodName := ⟨RX3, "master", "(I)I"⟩
def dkwX3_master_5 : List UInt8 := [167, 0, 8, 21, 5, 21, 4, 100, 172]
abbrev dktX3_master_5 : List UInt8 := dkwX3_master_5 ++ []
def dkwX3_master_4 : List UInt8 := [160, 0, 8, 21, 4, 167, 0, 27, 27, 5, 160, 0, 7, 29, 167, 0, 18, 27, 6, 160, 0, 8, 21, 5]
abbrev dktX3_master_4 : List UInt8 := dkwX3_master_4 ++ dktX3_master_5
def dkwX3_master_3 : List UInt8 := [42, 29, 182, 0, 115, 96, 167, 0, 4, 3, 54, 5, 27, 154, 0, 7, 28, 167, 0, 37, 27, 4]
abbrev dktX3_master_3 : List UInt8 := dkwX3_master_3 ++ dktX3_master_4
def dkwX3_master_2 : List UInt8 := [29, 156, 0, 6, 16, 251, 172, 42, 28, 182, 0, 108, 54, 4, 27, 4, 164, 0, 17, 42, 29, 182, 0, 102]
abbrev dktX3_master_2 : List UInt8 := dkwX3_master_2 ++ dktX3_master_3
def dkwX3_master_1 : List UInt8 := [167, 0, 7, 42, 182, 0, 111, 61, 42, 180, 0, 7, 7, 46, 62, 28, 155, 0, 12, 27, 4, 164, 0, 10]
abbrev dktX3_master_1 : List UInt8 := dkwX3_master_1 ++ dktX3_master_2
def dkwX3_master_0 : List UInt8 := [27, 3, 7, 184, 0, 46, 154, 0, 6, 16, 254, 172, 27, 5, 159, 0, 8, 27, 6, 160, 0, 7, 3]
abbrev dktX3_master_0 : List UInt8 := dkwX3_master_0 ++ dktX3_master_1
theorem dksX3_master_0 : cX3_master.data.toList.drop 0 = dktX3_master_0 := by decide +kernel
theorem dksX3_master_1 : cX3_master.data.toList.drop 23 = dktX3_master_1 := dk_seg dksX3_master_0 23 rfl rfl
theorem dksX3_master_2 : cX3_master.data.toList.drop 47 = dktX3_master_2 := dk_seg dksX3_master_1 24 rfl rfl
theorem dksX3_master_3 : cX3_master.data.toList.drop 71 = dktX3_master_3 := dk_seg dksX3_master_2 24 rfl rfl
theorem dksX3_master_4 : cX3_master.data.toList.drop 93 = dktX3_master_4 := dk_seg dksX3_master_3 22 rfl rfl
theorem dksX3_master_5 : cX3_master.data.toList.drop 117 = dktX3_master_5 := dk_seg dksX3_master_4 24 rfl rfl
theorem dX3_master_0 : decode cX3_master 0 = .ok (.iload_n 1, 1) := dk_27 (dk_at dksX3_master_0 0 rfl rfl)
theorem dX3_master_1 : decode cX3_master 1 = .ok (.iconst 0, 1) := dk_3 (dk_at dksX3_master_0 1 rfl rfl)
theorem dX3_master_2 : decode cX3_master 2 = .ok (.iconst 4, 1) := dk_7 (dk_at dksX3_master_0 2 rfl rfl)
theorem dX3_master_3 : decode cX3_master 3 = .ok (.invokestatic 46, 3) := dk_184 0 46 (dk_at dksX3_master_0 3 rfl rfl)
theorem dX3_master_6 : decode cX3_master 6 = .ok (.ifCond .ne 6, 3) := dk_154 0 6 (dk_at dksX3_master_0 6 rfl rfl)
theorem dX3_master_9 : decode cX3_master 9 = .ok (.bipush (-2), 2) := dk_16 254 (dk_at dksX3_master_0 9 rfl rfl)
theorem dX3_master_11 : decode cX3_master 11 = .ok (.ireturn, 1) := dk_172 (dk_at dksX3_master_0 11 rfl rfl)
theorem dX3_master_12 : decode cX3_master 12 = .ok (.iload_n 1, 1) := dk_27 (dk_at dksX3_master_0 12 rfl rfl)
theorem dX3_master_13 : decode cX3_master 13 = .ok (.iconst 2, 1) := dk_5 (dk_at dksX3_master_0 13 rfl rfl)
theorem dX3_master_14 : decode cX3_master 14 = .ok (.if_icmp .eq 8, 3) := dk_159 0 8 (dk_at dksX3_master_0 14 rfl rfl)
theorem dX3_master_17 : decode cX3_master 17 = .ok (.iload_n 1, 1) := dk_27 (dk_at dksX3_master_0 17 rfl rfl)
theorem dX3_master_18 : decode cX3_master 18 = .ok (.iconst 3, 1) := dk_6 (dk_at dksX3_master_0 18 rfl rfl)
theorem dX3_master_19 : decode cX3_master 19 = .ok (.if_icmp .ne 7, 3) := dk_160 0 7 (dk_at dksX3_master_0 19 rfl rfl)
theorem dX3_master_22 : decode cX3_master 22 = .ok (.iconst 0, 1) := dk_3 (dk_at dksX3_master_0 22 rfl rfl)
theorem dX3_master_23 : decode cX3_master 23 = .ok (.goto 7, 3) := dk_167 0 7 (dk_at dksX3_master_1 0 rfl rfl)
theorem dX3_master_26 : decode cX3_master 26 = .ok (.aload_n 0, 1) := dk_42 (dk_at dksX3_master_1 3 rfl rfl)
theorem dX3_master_27 : decode cX3_master 27 = .ok (.invokevirtual 111, 3) := dk_182 0 111 (dk_at dksX3_master_1 4 rfl rfl)
theorem dX3_master_30 : decode cX3_master 30 = .ok (.istore_n 2, 1) := dk_61 (dk_at dksX3_master_1 7 rfl rfl)
theorem dX3_master_31 : decode cX3_master 31 = .ok (.aload_n 0, 1) := dk_42 (dk_at dksX3_master_1 8 rfl rfl)
theorem dX3_master_32 : decode cX3_master 32 = .ok (.getfield 7, 3) := dk_180 0 7 (dk_at dksX3_master_1 9 rfl rfl)
theorem dX3_master_35 : decode cX3_master 35 = .ok (.iconst 4, 1) := dk_7 (dk_at dksX3_master_1 12 rfl rfl)
theorem dX3_master_36 : decode cX3_master 36 = .ok (.iaload, 1) := dk_46 (dk_at dksX3_master_1 13 rfl rfl)
theorem dX3_master_37 : decode cX3_master 37 = .ok (.istore_n 3, 1) := dk_62 (dk_at dksX3_master_1 14 rfl rfl)
theorem dX3_master_38 : decode cX3_master 38 = .ok (.iload_n 2, 1) := dk_28 (dk_at dksX3_master_1 15 rfl rfl)
theorem dX3_master_39 : decode cX3_master 39 = .ok (.ifCond .lt 12, 3) := dk_155 0 12 (dk_at dksX3_master_1 16 rfl rfl)
theorem dX3_master_42 : decode cX3_master 42 = .ok (.iload_n 1, 1) := dk_27 (dk_at dksX3_master_1 19 rfl rfl)
theorem dX3_master_43 : decode cX3_master 43 = .ok (.iconst 1, 1) := dk_4 (dk_at dksX3_master_1 20 rfl rfl)
theorem dX3_master_44 : decode cX3_master 44 = .ok (.if_icmp .le 10, 3) := dk_164 0 10 (dk_at dksX3_master_1 21 rfl rfl)
theorem dX3_master_47 : decode cX3_master 47 = .ok (.iload_n 3, 1) := dk_29 (dk_at dksX3_master_2 0 rfl rfl)
theorem dX3_master_48 : decode cX3_master 48 = .ok (.ifCond .ge 6, 3) := dk_156 0 6 (dk_at dksX3_master_2 1 rfl rfl)
theorem dX3_master_51 : decode cX3_master 51 = .ok (.bipush (-5), 2) := dk_16 251 (dk_at dksX3_master_2 4 rfl rfl)
theorem dX3_master_53 : decode cX3_master 53 = .ok (.ireturn, 1) := dk_172 (dk_at dksX3_master_2 6 rfl rfl)
theorem dX3_master_54 : decode cX3_master 54 = .ok (.aload_n 0, 1) := dk_42 (dk_at dksX3_master_2 7 rfl rfl)
theorem dX3_master_55 : decode cX3_master 55 = .ok (.iload_n 2, 1) := dk_28 (dk_at dksX3_master_2 8 rfl rfl)
theorem dX3_master_56 : decode cX3_master 56 = .ok (.invokevirtual 108, 3) := dk_182 0 108 (dk_at dksX3_master_2 9 rfl rfl)
theorem dX3_master_59 : decode cX3_master 59 = .ok (.istore 4, 2) := dk_54 4 (dk_at dksX3_master_2 12 rfl rfl)
theorem dX3_master_61 : decode cX3_master 61 = .ok (.iload_n 1, 1) := dk_27 (dk_at dksX3_master_2 14 rfl rfl)
theorem dX3_master_62 : decode cX3_master 62 = .ok (.iconst 1, 1) := dk_4 (dk_at dksX3_master_2 15 rfl rfl)
theorem dX3_master_63 : decode cX3_master 63 = .ok (.if_icmp .le 17, 3) := dk_164 0 17 (dk_at dksX3_master_2 16 rfl rfl)
theorem dX3_master_66 : decode cX3_master 66 = .ok (.aload_n 0, 1) := dk_42 (dk_at dksX3_master_2 19 rfl rfl)
theorem dX3_master_67 : decode cX3_master 67 = .ok (.iload_n 3, 1) := dk_29 (dk_at dksX3_master_2 20 rfl rfl)
theorem dX3_master_68 : decode cX3_master 68 = .ok (.invokevirtual 102, 3) := dk_182 0 102 (dk_at dksX3_master_2 21 rfl rfl)
theorem dX3_master_71 : decode cX3_master 71 = .ok (.aload_n 0, 1) := dk_42 (dk_at dksX3_master_3 0 rfl rfl)
theorem dX3_master_72 : decode cX3_master 72 = .ok (.iload_n 3, 1) := dk_29 (dk_at dksX3_master_3 1 rfl rfl)
theorem dX3_master_73 : decode cX3_master 73 = .ok (.invokevirtual 115, 3) := dk_182 0 115 (dk_at dksX3_master_3 2 rfl rfl)
theorem dX3_master_76 : decode cX3_master 76 = .ok (.iadd, 1) := dk_96 (dk_at dksX3_master_3 5 rfl rfl)
theorem dX3_master_77 : decode cX3_master 77 = .ok (.goto 4, 3) := dk_167 0 4 (dk_at dksX3_master_3 6 rfl rfl)
theorem dX3_master_80 : decode cX3_master 80 = .ok (.iconst 0, 1) := dk_3 (dk_at dksX3_master_3 9 rfl rfl)
theorem dX3_master_81 : decode cX3_master 81 = .ok (.istore 5, 2) := dk_54 5 (dk_at dksX3_master_3 10 rfl rfl)
theorem dX3_master_83 : decode cX3_master 83 = .ok (.iload_n 1, 1) := dk_27 (dk_at dksX3_master_3 12 rfl rfl)
theorem dX3_master_84 : decode cX3_master 84 = .ok (.ifCond .ne 7, 3) := dk_154 0 7 (dk_at dksX3_master_3 13 rfl rfl)
theorem dX3_master_87 : decode cX3_master 87 = .ok (.iload_n 2, 1) := dk_28 (dk_at dksX3_master_3 16 rfl rfl)
theorem dX3_master_88 : decode cX3_master 88 = .ok (.goto 37, 3) := dk_167 0 37 (dk_at dksX3_master_3 17 rfl rfl)
theorem dX3_master_91 : decode cX3_master 91 = .ok (.iload_n 1, 1) := dk_27 (dk_at dksX3_master_3 20 rfl rfl)
theorem dX3_master_92 : decode cX3_master 92 = .ok (.iconst 1, 1) := dk_4 (dk_at dksX3_master_3 21 rfl rfl)
theorem dX3_master_93 : decode cX3_master 93 = .ok (.if_icmp .ne 8, 3) := dk_160 0 8 (dk_at dksX3_master_4 0 rfl rfl)
theorem dX3_master_96 : decode cX3_master 96 = .ok (.iload 4, 2) := dk_21 4 (dk_at dksX3_master_4 3 rfl rfl)
theorem dX3_master_98 : decode cX3_master 98 = .ok (.goto 27, 3) := dk_167 0 27 (dk_at dksX3_master_4 5 rfl rfl)
theorem dX3_master_101 : decode cX3_master 101 = .ok (.iload_n 1, 1) := dk_27 (dk_at dksX3_master_4 8 rfl rfl)
theorem dX3_master_102 : decode cX3_master 102 = .ok (.iconst 2, 1) := dk_5 (dk_at dksX3_master_4 9 rfl rfl)
theorem dX3_master_103 : decode cX3_master 103 = .ok (.if_icmp .ne 7, 3) := dk_160 0 7 (dk_at dksX3_master_4 10 rfl rfl)
theorem dX3_master_106 : decode cX3_master 106 = .ok (.iload_n 3, 1) := dk_29 (dk_at dksX3_master_4 13 rfl rfl)
theorem dX3_master_107 : decode cX3_master 107 = .ok (.goto 18, 3) := dk_167 0 18 (dk_at dksX3_master_4 14 rfl rfl)
theorem dX3_master_110 : decode cX3_master 110 = .ok (.iload_n 1, 1) := dk_27 (dk_at dksX3_master_4 17 rfl rfl)
theorem dX3_master_111 : decode cX3_master 111 = .ok (.iconst 3, 1) := dk_6 (dk_at dksX3_master_4 18 rfl rfl)
theorem dX3_master_112 : decode cX3_master 112 = .ok (.if_icmp .ne 8, 3) := dk_160 0 8 (dk_at dksX3_master_4 19 rfl rfl)
theorem dX3_master_115 : decode cX3_master 115 = .ok (.iload 5, 2) := dk_21 5 (dk_at dksX3_master_4 22 rfl rfl)
theorem dX3_master_117 : decode cX3_master 117 = .ok (.goto 8, 3) := dk_167 0 8 (dk_at dksX3_master_5 0 rfl rfl)
theorem dX3_master_120 : decode cX3_master 120 = .ok (.iload 5, 2) := dk_21 5 (dk_at dksX3_master_5 3 rfl rfl)
theorem dX3_master_122 : decode cX3_master 122 = .ok (.iload 4, 2) := dk_21 4 (dk_at dksX3_master_5 5 rfl rfl)
theorem dX3_master_124 : decode cX3_master 124 = .ok (.isub, 1) := dk_100 (dk_at dksX3_master_5 7 rfl rfl)
theorem dX3_master_125 : decode cX3_master 125 = .ok (.ireturn, 1) := dk_172 (dk_at dksX3_master_5 8 rfl rfl)
abbrev cX3_byAll : ByteArray := prog_18_method_61_code
def yX3_byAll : MethodName := ⟨RX3, "byAll", "(I)I"⟩
def dkwX3_byAll_4 : List UInt8 := [167, 0, 21, 28, 156, 0, 8, 16, 251, 167, 0, 12, 27, 154, 0, 7, 28, 167, 0, 4, 29, 172]
abbrev dktX3_byAll_4 : List UInt8 := dkwX3_byAll_4 ++ []
def dkwX3_byAll_3 : List UInt8 := [21, 5, 61, 21, 6, 62, 132, 4, 1, 132, 5, 1, 167, 255, 197, 27, 5, 160, 0, 8, 21, 4]
abbrev dktX3_byAll_3 : List UInt8 := dkwX3_byAll_3 ++ dktX3_byAll_4
def dkwX3_byAll_2 : List UInt8 := [21, 5, 182, 0, 102, 42, 21, 5, 182, 0, 115, 96, 54, 6, 28, 155, 0, 9, 21, 6, 29, 162, 0, 9]
abbrev dktX3_byAll_2 : List UInt8 := dkwX3_byAll_2 ++ dktX3_byAll_3
def dkwX3_byAll_1 : List UInt8 := [21, 5, 4, 42, 180, 0, 7, 3, 46, 120, 162, 0, 52, 42, 21, 5, 182, 0, 150, 153, 0, 37, 42]
abbrev dktX3_byAll_1 : List UInt8 := dkwX3_byAll_1 ++ dktX3_byAll_2
def dkwX3_byAll_0 : List UInt8 := [27, 3, 5, 184, 0, 46, 154, 0, 6, 16, 254, 172, 16, 251, 61, 3, 62, 3, 54, 4, 3, 54, 5]
abbrev dktX3_byAll_0 : List UInt8 := dkwX3_byAll_0 ++ dktX3_byAll_1
theorem dksX3_byAll_0 : cX3_byAll.data.toList.drop 0 = dktX3_byAll_0 := by decide +kernel
theorem dksX3_byAll_1 : cX3_byAll.data.toList.drop 23 = dktX3_byAll_1 := dk_seg dksX3_byAll_0 23 rfl rfl
theorem dksX3_byAll_2 : cX3_byAll.data.toList.drop 46 = dktX3_byAll_2 := dk_seg dksX3_byAll_1 23 rfl rfl
theorem dksX3_byAll_3 : cX3_byAll.data.toList.drop 70 = dktX3_byAll_3 := dk_seg dksX3_byAll_2 24 rfl rfl
theorem dksX3_byAll_4 : cX3_byAll.data.toList.drop 92 = dktX3_byAll_4 := dk_seg dksX3_byAll_3 22 rfl rfl
theorem dX3_byAll_0 : decode cX3_byAll 0 = .ok (.iload_n 1, 1) := dk_27 (dk_at dksX3_byAll_0 0 rfl rfl)
theorem dX3_byAll_1 : decode cX3_byAll 1 = .ok (.iconst 0, 1) := dk_3 (dk_at dksX3_byAll_0 1 rfl rfl)
theorem dX3_byAll_2 : decode cX3_byAll 2 = .ok (.iconst 2, 1) := dk_5 (dk_at dksX3_byAll_0 2 rfl rfl)
theorem dX3_byAll_3 : decode cX3_byAll 3 = .ok (.invokestatic 46, 3) := dk_184 0 46 (dk_at dksX3_byAll_0 3 rfl rfl)
theorem dX3_byAll_6 : decode cX3_byAll 6 = .ok (.ifCond .ne 6, 3) := dk_154 0 6 (dk_at dksX3_byAll_0 6 rfl rfl)
theorem dX3_byAll_9 : decode cX3_byAll 9 = .ok (.bipush (-2), 2) := dk_16 254 (dk_at dksX3_byAll_0 9 rfl rfl)
theorem dX3_byAll_11 : decode cX3_byAll 11 = .ok (.ireturn, 1) := dk_172 (dk_at dksX3_byAll_0 11 rfl rfl)
theorem dX3_byAll_12 : decode cX3_byAll 12 = .ok (.bipush (-5), 2) := dk_16 251 (dk_at dksX3_byAll_0 12 rfl rfl)
theorem dX3_byAll_14 : decode cX3_byAll 14 = .ok (.istore_n 2, 1) := dk_61 (dk_at dksX3_byAll_0 14 rfl rfl)
theorem dX3_byAll_15 : decode cX3_byAll 15 = .ok (.iconst 0, 1) := dk_3 (dk_at dksX3_byAll_0 15 rfl rfl)
theorem dX3_byAll_16 : decode cX3_byAll 16 = .ok (.istore_n 3, 1) := dk_62 (dk_at dksX3_byAll_0 16 rfl rfl)
theorem dX3_byAll_17 : decode cX3_byAll 17 = .ok (.iconst 0, 1) := dk_3 (dk_at dksX3_byAll_0 17 rfl rfl)
theorem dX3_byAll_18 : decode cX3_byAll 18 = .ok (.istore 4, 2) := dk_54 4 (dk_at dksX3_byAll_0 18 rfl rfl)
theorem dX3_byAll_20 : decode cX3_byAll 20 = .ok (.iconst 0, 1) := dk_3 (dk_at dksX3_byAll_0 20 rfl rfl)
theorem dX3_byAll_21 : decode cX3_byAll 21 = .ok (.istore 5, 2) := dk_54 5 (dk_at dksX3_byAll_0 21 rfl rfl)
theorem dX3_byAll_23 : decode cX3_byAll 23 = .ok (.iload 5, 2) := dk_21 5 (dk_at dksX3_byAll_1 0 rfl rfl)
theorem dX3_byAll_25 : decode cX3_byAll 25 = .ok (.iconst 1, 1) := dk_4 (dk_at dksX3_byAll_1 2 rfl rfl)
theorem dX3_byAll_26 : decode cX3_byAll 26 = .ok (.aload_n 0, 1) := dk_42 (dk_at dksX3_byAll_1 3 rfl rfl)
theorem dX3_byAll_27 : decode cX3_byAll 27 = .ok (.getfield 7, 3) := dk_180 0 7 (dk_at dksX3_byAll_1 4 rfl rfl)
theorem dX3_byAll_30 : decode cX3_byAll 30 = .ok (.iconst 0, 1) := dk_3 (dk_at dksX3_byAll_1 7 rfl rfl)
theorem dX3_byAll_31 : decode cX3_byAll 31 = .ok (.iaload, 1) := dk_46 (dk_at dksX3_byAll_1 8 rfl rfl)
theorem dX3_byAll_32 : decode cX3_byAll 32 = .ok (.ishl, 1) := dk_120 (dk_at dksX3_byAll_1 9 rfl rfl)
theorem dX3_byAll_33 : decode cX3_byAll 33 = .ok (.if_icmp .ge 52, 3) := dk_162 0 52 (dk_at dksX3_byAll_1 10 rfl rfl)
theorem dX3_byAll_36 : decode cX3_byAll 36 = .ok (.aload_n 0, 1) := dk_42 (dk_at dksX3_byAll_1 13 rfl rfl)
theorem dX3_byAll_37 : decode cX3_byAll 37 = .ok (.iload 5, 2) := dk_21 5 (dk_at dksX3_byAll_1 14 rfl rfl)
theorem dX3_byAll_39 : decode cX3_byAll 39 = .ok (.invokevirtual 150, 3) := dk_182 0 150 (dk_at dksX3_byAll_1 16 rfl rfl)
theorem dX3_byAll_42 : decode cX3_byAll 42 = .ok (.ifCond .eq 37, 3) := dk_153 0 37 (dk_at dksX3_byAll_1 19 rfl rfl)
theorem dX3_byAll_45 : decode cX3_byAll 45 = .ok (.aload_n 0, 1) := dk_42 (dk_at dksX3_byAll_1 22 rfl rfl)
theorem dX3_byAll_46 : decode cX3_byAll 46 = .ok (.iload 5, 2) := dk_21 5 (dk_at dksX3_byAll_2 0 rfl rfl)
theorem dX3_byAll_48 : decode cX3_byAll 48 = .ok (.invokevirtual 102, 3) := dk_182 0 102 (dk_at dksX3_byAll_2 2 rfl rfl)
theorem dX3_byAll_51 : decode cX3_byAll 51 = .ok (.aload_n 0, 1) := dk_42 (dk_at dksX3_byAll_2 5 rfl rfl)
theorem dX3_byAll_52 : decode cX3_byAll 52 = .ok (.iload 5, 2) := dk_21 5 (dk_at dksX3_byAll_2 6 rfl rfl)
theorem dX3_byAll_54 : decode cX3_byAll 54 = .ok (.invokevirtual 115, 3) := dk_182 0 115 (dk_at dksX3_byAll_2 8 rfl rfl)
theorem dX3_byAll_57 : decode cX3_byAll 57 = .ok (.iadd, 1) := dk_96 (dk_at dksX3_byAll_2 11 rfl rfl)
theorem dX3_byAll_58 : decode cX3_byAll 58 = .ok (.istore 6, 2) := dk_54 6 (dk_at dksX3_byAll_2 12 rfl rfl)
theorem dX3_byAll_60 : decode cX3_byAll 60 = .ok (.iload_n 2, 1) := dk_28 (dk_at dksX3_byAll_2 14 rfl rfl)
theorem dX3_byAll_61 : decode cX3_byAll 61 = .ok (.ifCond .lt 9, 3) := dk_155 0 9 (dk_at dksX3_byAll_2 15 rfl rfl)
theorem dX3_byAll_64 : decode cX3_byAll 64 = .ok (.iload 6, 2) := dk_21 6 (dk_at dksX3_byAll_2 18 rfl rfl)
theorem dX3_byAll_66 : decode cX3_byAll 66 = .ok (.iload_n 3, 1) := dk_29 (dk_at dksX3_byAll_2 20 rfl rfl)
theorem dX3_byAll_67 : decode cX3_byAll 67 = .ok (.if_icmp .ge 9, 3) := dk_162 0 9 (dk_at dksX3_byAll_2 21 rfl rfl)
theorem dX3_byAll_70 : decode cX3_byAll 70 = .ok (.iload 5, 2) := dk_21 5 (dk_at dksX3_byAll_3 0 rfl rfl)
theorem dX3_byAll_72 : decode cX3_byAll 72 = .ok (.istore_n 2, 1) := dk_61 (dk_at dksX3_byAll_3 2 rfl rfl)
theorem dX3_byAll_73 : decode cX3_byAll 73 = .ok (.iload 6, 2) := dk_21 6 (dk_at dksX3_byAll_3 3 rfl rfl)
theorem dX3_byAll_75 : decode cX3_byAll 75 = .ok (.istore_n 3, 1) := dk_62 (dk_at dksX3_byAll_3 5 rfl rfl)
theorem dX3_byAll_76 : decode cX3_byAll 76 = .ok (.iinc 4 1, 3) := dk_132 4 1 (dk_at dksX3_byAll_3 6 rfl rfl)
theorem dX3_byAll_79 : decode cX3_byAll 79 = .ok (.iinc 5 1, 3) := dk_132 5 1 (dk_at dksX3_byAll_3 9 rfl rfl)
theorem dX3_byAll_82 : decode cX3_byAll 82 = .ok (.goto (-59), 3) := dk_167 255 197 (dk_at dksX3_byAll_3 12 rfl rfl)
theorem dX3_byAll_85 : decode cX3_byAll 85 = .ok (.iload_n 1, 1) := dk_27 (dk_at dksX3_byAll_3 15 rfl rfl)
theorem dX3_byAll_86 : decode cX3_byAll 86 = .ok (.iconst 2, 1) := dk_5 (dk_at dksX3_byAll_3 16 rfl rfl)
theorem dX3_byAll_87 : decode cX3_byAll 87 = .ok (.if_icmp .ne 8, 3) := dk_160 0 8 (dk_at dksX3_byAll_3 17 rfl rfl)
theorem dX3_byAll_90 : decode cX3_byAll 90 = .ok (.iload 4, 2) := dk_21 4 (dk_at dksX3_byAll_3 20 rfl rfl)
theorem dX3_byAll_92 : decode cX3_byAll 92 = .ok (.goto 21, 3) := dk_167 0 21 (dk_at dksX3_byAll_4 0 rfl rfl)
theorem dX3_byAll_95 : decode cX3_byAll 95 = .ok (.iload_n 2, 1) := dk_28 (dk_at dksX3_byAll_4 3 rfl rfl)
theorem dX3_byAll_96 : decode cX3_byAll 96 = .ok (.ifCond .ge 8, 3) := dk_156 0 8 (dk_at dksX3_byAll_4 4 rfl rfl)
theorem dX3_byAll_99 : decode cX3_byAll 99 = .ok (.bipush (-5), 2) := dk_16 251 (dk_at dksX3_byAll_4 7 rfl rfl)
theorem dX3_byAll_101 : decode cX3_byAll 101 = .ok (.goto 12, 3) := dk_167 0 12 (dk_at dksX3_byAll_4 9 rfl rfl)
theorem dX3_byAll_104 : decode cX3_byAll 104 = .ok (.iload_n 1, 1) := dk_27 (dk_at dksX3_byAll_4 12 rfl rfl)
theorem dX3_byAll_105 : decode cX3_byAll 105 = .ok (.ifCond .ne 7, 3) := dk_154 0 7 (dk_at dksX3_byAll_4 13 rfl rfl)
theorem dX3_byAll_108 : decode cX3_byAll 108 = .ok (.iload_n 2, 1) := dk_28 (dk_at dksX3_byAll_4 16 rfl rfl)
theorem dX3_byAll_109 : decode cX3_byAll 109 = .ok (.goto 4, 3) := dk_167 0 4 (dk_at dksX3_byAll_4 17 rfl rfl)
theorem dX3_byAll_112 : decode cX3_byAll 112 = .ok (.iload_n 3, 1) := dk_29 (dk_at dksX3_byAll_4 20 rfl rfl)
theorem dX3_byAll_113 : decode cX3_byAll 113 = .ok (.ireturn, 1) := dk_172 (dk_at dksX3_byAll_4 21 rfl rfl)
abbrev cX3_count : ByteArray := prog_18_method_65_code
def yX3_count : MethodName := ⟨RX3, "count", "(I)I"⟩
def dkwX3_count_4 : List UInt8 := [46, 172, 42, 180, 0, 29, 172, 42, 180, 0, 134, 172, 16, 254, 172]
abbrev dktX3_count_4 : List UInt8 := dkwX3_count_4 ++ []
def dkwX3_count_3 : List UInt8 := [46, 172, 42, 182, 0, 161, 172, 42, 180, 0, 7, 6, 46, 172, 42, 182, 0, 164, 172, 42, 180, 0, 7, 8]
abbrev dktX3_count_3 : List UInt8 := dkwX3_count_3 ++ dktX3_count_4
def dkwX3_count_2 : List UInt8 := [42, 180, 0, 7, 3, 46, 172, 42, 180, 0, 7, 4, 46, 172, 42, 182, 0, 158, 172, 42, 180, 0, 7, 5]
abbrev dktX3_count_2 : List UInt8 := dkwX3_count_2 ++ dktX3_count_3
def dkwX3_count_1 : List UInt8 := [170, 0, 0, 0, 0, 0, 115, 0, 0, 0, 0, 0, 0, 0, 9, 0, 0, 0, 55, 0, 0, 0, 62, 0, 0, 0, 69, 0, 0, 0, 74, 0, 0, 0, 81, 0, 0, 0, 86, 0, 0, 0, 93, 0, 0, 0, 98, 0, 0, 0, 105, 0, 0, 0, 110]
abbrev dktX3_count_1 : List UInt8 := dkwX3_count_1 ++ dktX3_count_2
def dkwX3_count_0 : List UInt8 := [27]
abbrev dktX3_count_0 : List UInt8 := dkwX3_count_0 ++ dktX3_count_1
theorem dksX3_count_0 : cX3_count.data.toList.drop 0 = dktX3_count_0 := by decide +kernel
theorem dksX3_count_1 : cX3_count.data.toList.drop 1 = dktX3_count_1 := dk_seg dksX3_count_0 1 rfl rfl
theorem dksX3_count_2 : cX3_count.data.toList.drop 56 = dktX3_count_2 := dk_seg dksX3_count_1 55 rfl rfl
theorem dksX3_count_3 : cX3_count.data.toList.drop 80 = dktX3_count_3 := dk_seg dksX3_count_2 24 rfl rfl
theorem dksX3_count_4 : cX3_count.data.toList.drop 104 = dktX3_count_4 := dk_seg dksX3_count_3 24 rfl rfl
theorem dX3_count_0 : decode cX3_count 0 = .ok (.iload_n 1, 1) := dk_27 (dk_at dksX3_count_0 0 rfl rfl)
theorem dX3_count_1 : decode cX3_count 1 = .ok (.tableswitch 115 0 9 #[55, 62, 69, 74, 81, 86, 93, 98, 105, 110], 55) := by decide +kernel
theorem dX3_count_56 : decode cX3_count 56 = .ok (.aload_n 0, 1) := dk_42 (dk_at dksX3_count_2 0 rfl rfl)
theorem dX3_count_57 : decode cX3_count 57 = .ok (.getfield 7, 3) := dk_180 0 7 (dk_at dksX3_count_2 1 rfl rfl)
theorem dX3_count_60 : decode cX3_count 60 = .ok (.iconst 0, 1) := dk_3 (dk_at dksX3_count_2 4 rfl rfl)
theorem dX3_count_61 : decode cX3_count 61 = .ok (.iaload, 1) := dk_46 (dk_at dksX3_count_2 5 rfl rfl)
theorem dX3_count_62 : decode cX3_count 62 = .ok (.ireturn, 1) := dk_172 (dk_at dksX3_count_2 6 rfl rfl)
theorem dX3_count_63 : decode cX3_count 63 = .ok (.aload_n 0, 1) := dk_42 (dk_at dksX3_count_2 7 rfl rfl)
theorem dX3_count_64 : decode cX3_count 64 = .ok (.getfield 7, 3) := dk_180 0 7 (dk_at dksX3_count_2 8 rfl rfl)
theorem dX3_count_67 : decode cX3_count 67 = .ok (.iconst 1, 1) := dk_4 (dk_at dksX3_count_2 11 rfl rfl)
theorem dX3_count_68 : decode cX3_count 68 = .ok (.iaload, 1) := dk_46 (dk_at dksX3_count_2 12 rfl rfl)
theorem dX3_count_69 : decode cX3_count 69 = .ok (.ireturn, 1) := dk_172 (dk_at dksX3_count_2 13 rfl rfl)
theorem dX3_count_70 : decode cX3_count 70 = .ok (.aload_n 0, 1) := dk_42 (dk_at dksX3_count_2 14 rfl rfl)
theorem dX3_count_71 : decode cX3_count 71 = .ok (.invokevirtual 158, 3) := dk_182 0 158 (dk_at dksX3_count_2 15 rfl rfl)
theorem dX3_count_74 : decode cX3_count 74 = .ok (.ireturn, 1) := dk_172 (dk_at dksX3_count_2 18 rfl rfl)
theorem dX3_count_75 : decode cX3_count 75 = .ok (.aload_n 0, 1) := dk_42 (dk_at dksX3_count_2 19 rfl rfl)
theorem dX3_count_76 : decode cX3_count 76 = .ok (.getfield 7, 3) := dk_180 0 7 (dk_at dksX3_count_2 20 rfl rfl)
theorem dX3_count_79 : decode cX3_count 79 = .ok (.iconst 2, 1) := dk_5 (dk_at dksX3_count_2 23 rfl rfl)
theorem dX3_count_80 : decode cX3_count 80 = .ok (.iaload, 1) := dk_46 (dk_at dksX3_count_3 0 rfl rfl)
theorem dX3_count_81 : decode cX3_count 81 = .ok (.ireturn, 1) := dk_172 (dk_at dksX3_count_3 1 rfl rfl)
theorem dX3_count_82 : decode cX3_count 82 = .ok (.aload_n 0, 1) := dk_42 (dk_at dksX3_count_3 2 rfl rfl)
theorem dX3_count_83 : decode cX3_count 83 = .ok (.invokevirtual 161, 3) := dk_182 0 161 (dk_at dksX3_count_3 3 rfl rfl)
theorem dX3_count_86 : decode cX3_count 86 = .ok (.ireturn, 1) := dk_172 (dk_at dksX3_count_3 6 rfl rfl)
theorem dX3_count_87 : decode cX3_count 87 = .ok (.aload_n 0, 1) := dk_42 (dk_at dksX3_count_3 7 rfl rfl)
theorem dX3_count_88 : decode cX3_count 88 = .ok (.getfield 7, 3) := dk_180 0 7 (dk_at dksX3_count_3 8 rfl rfl)
theorem dX3_count_91 : decode cX3_count 91 = .ok (.iconst 3, 1) := dk_6 (dk_at dksX3_count_3 11 rfl rfl)
theorem dX3_count_92 : decode cX3_count 92 = .ok (.iaload, 1) := dk_46 (dk_at dksX3_count_3 12 rfl rfl)
theorem dX3_count_93 : decode cX3_count 93 = .ok (.ireturn, 1) := dk_172 (dk_at dksX3_count_3 13 rfl rfl)
theorem dX3_count_94 : decode cX3_count 94 = .ok (.aload_n 0, 1) := dk_42 (dk_at dksX3_count_3 14 rfl rfl)
theorem dX3_count_95 : decode cX3_count 95 = .ok (.invokevirtual 164, 3) := dk_182 0 164 (dk_at dksX3_count_3 15 rfl rfl)
theorem dX3_count_98 : decode cX3_count 98 = .ok (.ireturn, 1) := dk_172 (dk_at dksX3_count_3 18 rfl rfl)
theorem dX3_count_99 : decode cX3_count 99 = .ok (.aload_n 0, 1) := dk_42 (dk_at dksX3_count_3 19 rfl rfl)
theorem dX3_count_100 : decode cX3_count 100 = .ok (.getfield 7, 3) := dk_180 0 7 (dk_at dksX3_count_3 20 rfl rfl)
theorem dX3_count_103 : decode cX3_count 103 = .ok (.iconst 5, 1) := dk_8 (dk_at dksX3_count_3 23 rfl rfl)
theorem dX3_count_104 : decode cX3_count 104 = .ok (.iaload, 1) := dk_46 (dk_at dksX3_count_4 0 rfl rfl)
theorem dX3_count_105 : decode cX3_count 105 = .ok (.ireturn, 1) := dk_172 (dk_at dksX3_count_4 1 rfl rfl)
theorem dX3_count_106 : decode cX3_count 106 = .ok (.aload_n 0, 1) := dk_42 (dk_at dksX3_count_4 2 rfl rfl)
theorem dX3_count_107 : decode cX3_count 107 = .ok (.getfield 29, 3) := dk_180 0 29 (dk_at dksX3_count_4 3 rfl rfl)
theorem dX3_count_110 : decode cX3_count 110 = .ok (.ireturn, 1) := dk_172 (dk_at dksX3_count_4 6 rfl rfl)
theorem dX3_count_111 : decode cX3_count 111 = .ok (.aload_n 0, 1) := dk_42 (dk_at dksX3_count_4 7 rfl rfl)
theorem dX3_count_112 : decode cX3_count 112 = .ok (.getfield 134, 3) := dk_180 0 134 (dk_at dksX3_count_4 8 rfl rfl)
theorem dX3_count_115 : decode cX3_count 115 = .ok (.ireturn, 1) := dk_172 (dk_at dksX3_count_4 11 rfl rfl)
theorem dX3_count_116 : decode cX3_count 116 = .ok (.bipush (-2), 2) := dk_16 254 (dk_at dksX3_count_4 12 rfl rfl)
theorem dX3_count_118 : decode cX3_count 118 = .ok (.ireturn, 1) := dk_172 (dk_at dksX3_count_4 14 rfl rfl)
abbrev cX3_allRoutes : ByteArray := prog_18_method_64_code
def yX3_allRoutes : MethodName := ⟨RX3, "allRoutes", "()I"⟩
def dkwX3_allRoutes_1 : List UInt8 := [162, 0, 7, 4, 167, 0, 4, 3, 96, 60, 132, 2, 1, 167, 255, 225, 27, 172]
abbrev dktX3_allRoutes_1 : List UInt8 := dkwX3_allRoutes_1 ++ []
def dkwX3_allRoutes_0 : List UInt8 := [3, 60, 3, 61, 28, 16, 56, 162, 0, 31, 27, 42, 180, 0, 7, 16, 21, 28, 96, 46, 16, 100]
abbrev dktX3_allRoutes_0 : List UInt8 := dkwX3_allRoutes_0 ++ dktX3_allRoutes_1
theorem dksX3_allRoutes_0 : cX3_allRoutes.data.toList.drop 0 = dktX3_allRoutes_0 := by decide +kernel
theorem dksX3_allRoutes_1 : cX3_allRoutes.data.toList.drop 22 = dktX3_allRoutes_1 := dk_seg dksX3_allRoutes_0 22 rfl rfl
theorem dX3_allRoutes_0 : decode cX3_allRoutes 0 = .ok (.iconst 0, 1) := dk_3 (dk_at dksX3_allRoutes_0 0 rfl rfl)
theorem dX3_allRoutes_1 : decode cX3_allRoutes 1 = .ok (.istore_n 1, 1) := dk_60 (dk_at dksX3_allRoutes_0 1 rfl rfl)
theorem dX3_allRoutes_2 : decode cX3_allRoutes 2 = .ok (.iconst 0, 1) := dk_3 (dk_at dksX3_allRoutes_0 2 rfl rfl)
theorem dX3_allRoutes_3 : decode cX3_allRoutes 3 = .ok (.istore_n 2, 1) := dk_61 (dk_at dksX3_allRoutes_0 3 rfl rfl)
theorem dX3_allRoutes_4 : decode cX3_allRoutes 4 = .ok (.iload_n 2, 1) := dk_28 (dk_at dksX3_allRoutes_0 4 rfl rfl)
theorem dX3_allRoutes_5 : decode cX3_allRoutes 5 = .ok (.bipush 56, 2) := dk_16 56 (dk_at dksX3_allRoutes_0 5 rfl rfl)
theorem dX3_allRoutes_7 : decode cX3_allRoutes 7 = .ok (.if_icmp .ge 31, 3) := dk_162 0 31 (dk_at dksX3_allRoutes_0 7 rfl rfl)
theorem dX3_allRoutes_10 : decode cX3_allRoutes 10 = .ok (.iload_n 1, 1) := dk_27 (dk_at dksX3_allRoutes_0 10 rfl rfl)
theorem dX3_allRoutes_11 : decode cX3_allRoutes 11 = .ok (.aload_n 0, 1) := dk_42 (dk_at dksX3_allRoutes_0 11 rfl rfl)
theorem dX3_allRoutes_12 : decode cX3_allRoutes 12 = .ok (.getfield 7, 3) := dk_180 0 7 (dk_at dksX3_allRoutes_0 12 rfl rfl)
theorem dX3_allRoutes_15 : decode cX3_allRoutes 15 = .ok (.bipush 21, 2) := dk_16 21 (dk_at dksX3_allRoutes_0 15 rfl rfl)
theorem dX3_allRoutes_17 : decode cX3_allRoutes 17 = .ok (.iload_n 2, 1) := dk_28 (dk_at dksX3_allRoutes_0 17 rfl rfl)
theorem dX3_allRoutes_18 : decode cX3_allRoutes 18 = .ok (.iadd, 1) := dk_96 (dk_at dksX3_allRoutes_0 18 rfl rfl)
theorem dX3_allRoutes_19 : decode cX3_allRoutes 19 = .ok (.iaload, 1) := dk_46 (dk_at dksX3_allRoutes_0 19 rfl rfl)
theorem dX3_allRoutes_20 : decode cX3_allRoutes 20 = .ok (.bipush 100, 2) := dk_16 100 (dk_at dksX3_allRoutes_0 20 rfl rfl)
theorem dX3_allRoutes_22 : decode cX3_allRoutes 22 = .ok (.if_icmp .ge 7, 3) := dk_162 0 7 (dk_at dksX3_allRoutes_1 0 rfl rfl)
theorem dX3_allRoutes_25 : decode cX3_allRoutes 25 = .ok (.iconst 1, 1) := dk_4 (dk_at dksX3_allRoutes_1 3 rfl rfl)
theorem dX3_allRoutes_26 : decode cX3_allRoutes 26 = .ok (.goto 4, 3) := dk_167 0 4 (dk_at dksX3_allRoutes_1 4 rfl rfl)
theorem dX3_allRoutes_29 : decode cX3_allRoutes 29 = .ok (.iconst 0, 1) := dk_3 (dk_at dksX3_allRoutes_1 7 rfl rfl)
theorem dX3_allRoutes_30 : decode cX3_allRoutes 30 = .ok (.iadd, 1) := dk_96 (dk_at dksX3_allRoutes_1 8 rfl rfl)
theorem dX3_allRoutes_31 : decode cX3_allRoutes 31 = .ok (.istore_n 1, 1) := dk_60 (dk_at dksX3_allRoutes_1 9 rfl rfl)
theorem dX3_allRoutes_32 : decode cX3_allRoutes 32 = .ok (.iinc 2 1, 3) := dk_132 2 1 (dk_at dksX3_allRoutes_1 10 rfl rfl)
theorem dX3_allRoutes_35 : decode cX3_allRoutes 35 = .ok (.goto (-31), 3) := dk_167 255 225 (dk_at dksX3_allRoutes_1 13 rfl rfl)
theorem dX3_allRoutes_38 : decode cX3_allRoutes 38 = .ok (.iload_n 1, 1) := dk_27 (dk_at dksX3_allRoutes_1 16 rfl rfl)
theorem dX3_allRoutes_39 : decode cX3_allRoutes 39 = .ok (.ireturn, 1) := dk_172 (dk_at dksX3_allRoutes_1 17 rfl rfl)
abbrev cX3_pairs : ByteArray := prog_18_method_63_code
def yX3_pairs : MethodName := ⟨RX3, "pairs", "()I"⟩
def dkwX3_pairs_1 : List UInt8 := [184, 0, 71, 96, 60, 132, 2, 1, 167, 255, 228, 27, 5, 108, 172]
abbrev dktX3_pairs_1 : List UInt8 := dkwX3_pairs_1 ++ []
def dkwX3_pairs_0 : List UInt8 := [3, 60, 3, 61, 28, 42, 180, 0, 7, 3, 46, 162, 0, 24, 27, 42, 180, 0, 7, 16, 77, 28, 96, 46]
abbrev dktX3_pairs_0 : List UInt8 := dkwX3_pairs_0 ++ dktX3_pairs_1
theorem dksX3_pairs_0 : cX3_pairs.data.toList.drop 0 = dktX3_pairs_0 := by decide +kernel
theorem dksX3_pairs_1 : cX3_pairs.data.toList.drop 24 = dktX3_pairs_1 := dk_seg dksX3_pairs_0 24 rfl rfl
theorem dX3_pairs_0 : decode cX3_pairs 0 = .ok (.iconst 0, 1) := dk_3 (dk_at dksX3_pairs_0 0 rfl rfl)
theorem dX3_pairs_1 : decode cX3_pairs 1 = .ok (.istore_n 1, 1) := dk_60 (dk_at dksX3_pairs_0 1 rfl rfl)
theorem dX3_pairs_2 : decode cX3_pairs 2 = .ok (.iconst 0, 1) := dk_3 (dk_at dksX3_pairs_0 2 rfl rfl)
theorem dX3_pairs_3 : decode cX3_pairs 3 = .ok (.istore_n 2, 1) := dk_61 (dk_at dksX3_pairs_0 3 rfl rfl)
theorem dX3_pairs_4 : decode cX3_pairs 4 = .ok (.iload_n 2, 1) := dk_28 (dk_at dksX3_pairs_0 4 rfl rfl)
theorem dX3_pairs_5 : decode cX3_pairs 5 = .ok (.aload_n 0, 1) := dk_42 (dk_at dksX3_pairs_0 5 rfl rfl)
theorem dX3_pairs_6 : decode cX3_pairs 6 = .ok (.getfield 7, 3) := dk_180 0 7 (dk_at dksX3_pairs_0 6 rfl rfl)
theorem dX3_pairs_9 : decode cX3_pairs 9 = .ok (.iconst 0, 1) := dk_3 (dk_at dksX3_pairs_0 9 rfl rfl)
theorem dX3_pairs_10 : decode cX3_pairs 10 = .ok (.iaload, 1) := dk_46 (dk_at dksX3_pairs_0 10 rfl rfl)
theorem dX3_pairs_11 : decode cX3_pairs 11 = .ok (.if_icmp .ge 24, 3) := dk_162 0 24 (dk_at dksX3_pairs_0 11 rfl rfl)
theorem dX3_pairs_14 : decode cX3_pairs 14 = .ok (.iload_n 1, 1) := dk_27 (dk_at dksX3_pairs_0 14 rfl rfl)
theorem dX3_pairs_15 : decode cX3_pairs 15 = .ok (.aload_n 0, 1) := dk_42 (dk_at dksX3_pairs_0 15 rfl rfl)
theorem dX3_pairs_16 : decode cX3_pairs 16 = .ok (.getfield 7, 3) := dk_180 0 7 (dk_at dksX3_pairs_0 16 rfl rfl)
theorem dX3_pairs_19 : decode cX3_pairs 19 = .ok (.bipush 77, 2) := dk_16 77 (dk_at dksX3_pairs_0 19 rfl rfl)
theorem dX3_pairs_21 : decode cX3_pairs 21 = .ok (.iload_n 2, 1) := dk_28 (dk_at dksX3_pairs_0 21 rfl rfl)
theorem dX3_pairs_22 : decode cX3_pairs 22 = .ok (.iadd, 1) := dk_96 (dk_at dksX3_pairs_0 22 rfl rfl)
theorem dX3_pairs_23 : decode cX3_pairs 23 = .ok (.iaload, 1) := dk_46 (dk_at dksX3_pairs_0 23 rfl rfl)
theorem dX3_pairs_24 : decode cX3_pairs 24 = .ok (.invokestatic 71, 3) := dk_184 0 71 (dk_at dksX3_pairs_1 0 rfl rfl)
theorem dX3_pairs_27 : decode cX3_pairs 27 = .ok (.iadd, 1) := dk_96 (dk_at dksX3_pairs_1 3 rfl rfl)
theorem dX3_pairs_28 : decode cX3_pairs 28 = .ok (.istore_n 1, 1) := dk_60 (dk_at dksX3_pairs_1 4 rfl rfl)
theorem dX3_pairs_29 : decode cX3_pairs 29 = .ok (.iinc 2 1, 3) := dk_132 2 1 (dk_at dksX3_pairs_1 5 rfl rfl)
theorem dX3_pairs_32 : decode cX3_pairs 32 = .ok (.goto (-28), 3) := dk_167 255 228 (dk_at dksX3_pairs_1 8 rfl rfl)
theorem dX3_pairs_35 : decode cX3_pairs 35 = .ok (.iload_n 1, 1) := dk_27 (dk_at dksX3_pairs_1 11 rfl rfl)
theorem dX3_pairs_36 : decode cX3_pairs 36 = .ok (.iconst 2, 1) := dk_5 (dk_at dksX3_pairs_1 12 rfl rfl)
theorem dX3_pairs_37 : decode cX3_pairs 37 = .ok (.idiv, 1) := dk_108 (dk_at dksX3_pairs_1 13 rfl rfl)
theorem dX3_pairs_38 : decode cX3_pairs 38 = .ok (.ireturn, 1) := dk_172 (dk_at dksX3_pairs_1 14 rfl rfl)
abbrev cX3_rays : ByteArray := prog_18_method_62_code
def yX3_rays : MethodName := ⟨RX3, "rays", "()I"⟩
def dkwX3_rays_1 : List UInt8 := [167, 0, 4, 3, 96, 60, 132, 2, 1, 167, 255, 227, 27, 172]
abbrev dktX3_rays_1 : List UInt8 := dkwX3_rays_1 ++ []
def dkwX3_rays_0 : List UInt8 := [3, 60, 3, 61, 28, 42, 180, 0, 7, 6, 46, 162, 0, 25, 27, 42, 28, 182, 0, 93, 153, 0, 7, 4]
abbrev dktX3_rays_0 : List UInt8 := dkwX3_rays_0 ++ dktX3_rays_1
theorem dksX3_rays_0 : cX3_rays.data.toList.drop 0 = dktX3_rays_0 := by decide +kernel
theorem dksX3_rays_1 : cX3_rays.data.toList.drop 24 = dktX3_rays_1 := dk_seg dksX3_rays_0 24 rfl rfl
theorem dX3_rays_0 : decode cX3_rays 0 = .ok (.iconst 0, 1) := dk_3 (dk_at dksX3_rays_0 0 rfl rfl)
theorem dX3_rays_1 : decode cX3_rays 1 = .ok (.istore_n 1, 1) := dk_60 (dk_at dksX3_rays_0 1 rfl rfl)
theorem dX3_rays_2 : decode cX3_rays 2 = .ok (.iconst 0, 1) := dk_3 (dk_at dksX3_rays_0 2 rfl rfl)
theorem dX3_rays_3 : decode cX3_rays 3 = .ok (.istore_n 2, 1) := dk_61 (dk_at dksX3_rays_0 3 rfl rfl)
theorem dX3_rays_4 : decode cX3_rays 4 = .ok (.iload_n 2, 1) := dk_28 (dk_at dksX3_rays_0 4 rfl rfl)
theorem dX3_rays_5 : decode cX3_rays 5 = .ok (.aload_n 0, 1) := dk_42 (dk_at dksX3_rays_0 5 rfl rfl)
theorem dX3_rays_6 : decode cX3_rays 6 = .ok (.getfield 7, 3) := dk_180 0 7 (dk_at dksX3_rays_0 6 rfl rfl)
theorem dX3_rays_9 : decode cX3_rays 9 = .ok (.iconst 3, 1) := dk_6 (dk_at dksX3_rays_0 9 rfl rfl)
theorem dX3_rays_10 : decode cX3_rays 10 = .ok (.iaload, 1) := dk_46 (dk_at dksX3_rays_0 10 rfl rfl)
theorem dX3_rays_11 : decode cX3_rays 11 = .ok (.if_icmp .ge 25, 3) := dk_162 0 25 (dk_at dksX3_rays_0 11 rfl rfl)
theorem dX3_rays_14 : decode cX3_rays 14 = .ok (.iload_n 1, 1) := dk_27 (dk_at dksX3_rays_0 14 rfl rfl)
theorem dX3_rays_15 : decode cX3_rays 15 = .ok (.aload_n 0, 1) := dk_42 (dk_at dksX3_rays_0 15 rfl rfl)
theorem dX3_rays_16 : decode cX3_rays 16 = .ok (.iload_n 2, 1) := dk_28 (dk_at dksX3_rays_0 16 rfl rfl)
theorem dX3_rays_17 : decode cX3_rays 17 = .ok (.invokevirtual 93, 3) := dk_182 0 93 (dk_at dksX3_rays_0 17 rfl rfl)
theorem dX3_rays_20 : decode cX3_rays 20 = .ok (.ifCond .eq 7, 3) := dk_153 0 7 (dk_at dksX3_rays_0 20 rfl rfl)
theorem dX3_rays_23 : decode cX3_rays 23 = .ok (.iconst 1, 1) := dk_4 (dk_at dksX3_rays_0 23 rfl rfl)
theorem dX3_rays_24 : decode cX3_rays 24 = .ok (.goto 4, 3) := dk_167 0 4 (dk_at dksX3_rays_1 0 rfl rfl)
theorem dX3_rays_27 : decode cX3_rays 27 = .ok (.iconst 0, 1) := dk_3 (dk_at dksX3_rays_1 3 rfl rfl)
theorem dX3_rays_28 : decode cX3_rays 28 = .ok (.iadd, 1) := dk_96 (dk_at dksX3_rays_1 4 rfl rfl)
theorem dX3_rays_29 : decode cX3_rays 29 = .ok (.istore_n 1, 1) := dk_60 (dk_at dksX3_rays_1 5 rfl rfl)
theorem dX3_rays_30 : decode cX3_rays 30 = .ok (.iinc 2 1, 3) := dk_132 2 1 (dk_at dksX3_rays_1 6 rfl rfl)
theorem dX3_rays_33 : decode cX3_rays 33 = .ok (.goto (-29), 3) := dk_167 255 227 (dk_at dksX3_rays_1 9 rfl rfl)
theorem dX3_rays_36 : decode cX3_rays 36 = .ok (.iload_n 1, 1) := dk_27 (dk_at dksX3_rays_1 12 rfl rfl)
theorem dX3_rays_37 : decode cX3_rays 37 = .ok (.ireturn, 1) := dk_172 (dk_at dksX3_rays_1 13 rfl rfl)
theorem q69 : (Jvm.Cond.initialized "SiteCutsModel") ∈ lw_all := lw_g (lw_at lw_m1 11 rfl) rfl
theorem q299 : (Jvm.Cond.selects "SiteCutsModel" ({ cls := "java/lang/Object", name := "getClass", desc := "()Ljava/lang/Class;" } : Jvm.MethodName) ({ cls := "java/lang/Object", name := "getClass", desc := "()Ljava/lang/Class;" } : Jvm.MethodName)) ∈ lw_all := lw_g (lw_at lw_m2 1 rfl) rfl
theorem q1070 : (Jvm.Cond.instantiable "SiteCutsModel" (10 : Nat)) ∈ lw_all := lw_g (lw_at lw_m5 52 rfl) rfl
theorem q1072 : (Jvm.Cond.instanceMethod ({ cls := "SiteCutsModel", name := "<init>", desc := "()V" } : Jvm.MethodName)) ∈ lw_all := lw_g (lw_at lw_m5 54 rfl) rfl
theorem q1073 : (Jvm.Cond.code ({ cls := "SiteCutsModel", name := "<init>", desc := "()V" } : Jvm.MethodName) prog_18_method_1_code (2 : Nat) (Option.none : Option Jvm.ClassFile.FieldType)) ∈ lw_all := lw_g (lw_at lw_m5 55 rfl) rfl
theorem q1074 : (Jvm.Cond.methodLink "SiteCutsModel" (1 : Nat) ({ cls := "java/lang/Object", name := "<init>", desc := "()V" } : Jvm.MethodName)) ∈ lw_all := lw_g (lw_at lw_m5 56 rfl) rfl
theorem q1075 : (Jvm.Cond.fieldLink "SiteCutsModel" (7 : Nat) "SiteCutsModel" "row" "[I") ∈ lw_all := lw_g (lw_at lw_m5 57 rfl) rfl
theorem q1076 : (Jvm.Cond.fieldLink "SiteCutsModel" (13 : Nat) "SiteCutsModel" "past" "[I") ∈ lw_all := lw_g (lw_at lw_m5 58 rfl) rfl
theorem q1077 : (Jvm.Cond.fieldLink "SiteCutsModel" (16 : Nat) "SiteCutsModel" "aside" "[I") ∈ lw_all := lw_g (lw_at lw_m5 59 rfl) rfl
theorem q1078 : (Jvm.Cond.fieldLink "SiteCutsModel" (19 : Nat) "SiteCutsModel" "before" "[I") ∈ lw_all := lw_g (lw_at lw_m5 60 rfl) rfl
theorem q1079 : (Jvm.Cond.fieldLink "SiteCutsModel" (29 : Nat) "SiteCutsModel" "states" "I") ∈ lw_all := lw_g (lw_at lw_m5 61 rfl) rfl
theorem q1080 : (Jvm.Cond.fieldLink "SiteCutsModel" (39 : Nat) "SiteCutsModel" "isAside" "Z") ∈ lw_all := lw_g (lw_at lw_m5 62 rfl) rfl
theorem q1081 : (Jvm.Cond.fieldLink "SiteCutsModel" (22 : Nat) "SiteCutsModel" "text" "[C") ∈ lw_all := lw_g (lw_at lw_m5 63 rfl) rfl
theorem q1082 : (Jvm.Cond.fieldLink "SiteCutsModel" (134 : Nat) "SiteCutsModel" "length" "I") ∈ lw_all := lw_g (lw_at lw_m5 64 rfl) rfl
theorem q1083 : (Jvm.Cond.fieldLink "SiteCutsModel" (137 : Nat) "SiteCutsModel" "at" "I") ∈ lw_all := lw_g (lw_at lw_m5 65 rfl) rfl
theorem q1084 : (Jvm.Cond.fieldLink "SiteCutsModel" (26 : Nat) "SiteCutsModel" "read" "[I") ∈ lw_all := lw_g (lw_at lw_m5 66 rfl) rfl
theorem q1085 : (Jvm.Cond.laysFinal "SiteCutsModel" "SiteCutsModel" "row" "[I") ∈ lw_all := lw_g (lw_at lw_m5 67 rfl) rfl
theorem q1086 : (Jvm.Cond.soleField "SiteCutsModel" "row") ∈ lw_all := lw_g (lw_at lw_m5 68 rfl) rfl
theorem q1087 : (Jvm.Cond.laysFinal "SiteCutsModel" "SiteCutsModel" "past" "[I") ∈ lw_all := lw_g (lw_at lw_m5 69 rfl) rfl
theorem q1088 : (Jvm.Cond.soleField "SiteCutsModel" "past") ∈ lw_all := lw_g (lw_at lw_m5 70 rfl) rfl
theorem q1089 : (Jvm.Cond.laysFinal "SiteCutsModel" "SiteCutsModel" "aside" "[I") ∈ lw_all := lw_g (lw_at lw_m5 71 rfl) rfl
theorem q1090 : (Jvm.Cond.soleField "SiteCutsModel" "aside") ∈ lw_all := lw_g (lw_at lw_m5 72 rfl) rfl
theorem q1091 : (Jvm.Cond.laysFinal "SiteCutsModel" "SiteCutsModel" "before" "[I") ∈ lw_all := lw_g (lw_at lw_m5 73 rfl) rfl
theorem q1092 : (Jvm.Cond.soleField "SiteCutsModel" "before") ∈ lw_all := lw_g (lw_at lw_m5 74 rfl) rfl
theorem q1093 : (Jvm.Cond.lays "SiteCutsModel" "SiteCutsModel" "states" "I") ∈ lw_all := lw_g (lw_at lw_m5 75 rfl) rfl
theorem q1094 : (Jvm.Cond.soleField "SiteCutsModel" "states") ∈ lw_all := lw_g (lw_at lw_m5 76 rfl) rfl
theorem q1095 : (Jvm.Cond.lays "SiteCutsModel" "SiteCutsModel" "isAside" "Z") ∈ lw_all := lw_g (lw_at lw_m5 77 rfl) rfl
theorem q1096 : (Jvm.Cond.soleField "SiteCutsModel" "isAside") ∈ lw_all := lw_g (lw_at lw_m5 78 rfl) rfl
theorem q1097 : (Jvm.Cond.laysFinal "SiteCutsModel" "SiteCutsModel" "text" "[C") ∈ lw_all := lw_g (lw_at lw_m5 79 rfl) rfl
theorem q1098 : (Jvm.Cond.soleField "SiteCutsModel" "text") ∈ lw_all := lw_g (lw_at lw_m5 80 rfl) rfl
theorem q1099 : (Jvm.Cond.lays "SiteCutsModel" "SiteCutsModel" "length" "I") ∈ lw_all := lw_g (lw_at lw_m5 81 rfl) rfl
theorem q1100 : (Jvm.Cond.soleField "SiteCutsModel" "length") ∈ lw_all := lw_g (lw_at lw_m5 82 rfl) rfl
theorem q1101 : (Jvm.Cond.lays "SiteCutsModel" "SiteCutsModel" "at" "I") ∈ lw_all := lw_g (lw_at lw_m5 83 rfl) rfl
theorem q1102 : (Jvm.Cond.soleField "SiteCutsModel" "at") ∈ lw_all := lw_g (lw_at lw_m5 84 rfl) rfl
theorem q1103 : (Jvm.Cond.laysFinal "SiteCutsModel" "SiteCutsModel" "read" "[I") ∈ lw_all := lw_g (lw_at lw_m5 85 rfl) rfl
theorem q1104 : (Jvm.Cond.soleField "SiteCutsModel" "read") ∈ lw_all := lw_g (lw_at lw_m5 86 rfl) rfl
theorem q1105 : (Jvm.Cond.superclass "SiteCutsModel" "java/lang/Object") ∈ lw_all := lw_g (lw_at lw_m5 87 rfl) rfl
theorem q1108 : (Jvm.Cond.instanceMethod ({ cls := "SiteCutsModel", name := "undo", desc := "()I" } : Jvm.MethodName)) ∈ lw_all := lw_g (lw_at lw_m5 90 rfl) rfl
theorem q1109 : (Jvm.Cond.selects "SiteCutsModel" ({ cls := "SiteCutsModel", name := "undo", desc := "()I" } : Jvm.MethodName) ({ cls := "SiteCutsModel", name := "undo", desc := "()I" } : Jvm.MethodName)) ∈ lw_all := lw_g (lw_at lw_m5 91 rfl) rfl
theorem q1110 : (Jvm.Cond.code ({ cls := "SiteCutsModel", name := "undo", desc := "()I" } : Jvm.MethodName) prog_18_method_9_code (2 : Nat) (Option.some Jvm.ClassFile.FieldType.int)) ∈ lw_all := lw_g (lw_at lw_m5 92 rfl) rfl
theorem q1112 : (Jvm.Cond.instanceMethod ({ cls := "SiteCutsModel", name := "keep", desc := "()I" } : Jvm.MethodName)) ∈ lw_all := lw_g (lw_at lw_m5 94 rfl) rfl
theorem q1113 : (Jvm.Cond.selects "SiteCutsModel" ({ cls := "SiteCutsModel", name := "keep", desc := "()I" } : Jvm.MethodName) ({ cls := "SiteCutsModel", name := "keep", desc := "()I" } : Jvm.MethodName)) ∈ lw_all := lw_g (lw_at lw_m5 95 rfl) rfl
theorem q1114 : (Jvm.Cond.code ({ cls := "SiteCutsModel", name := "keep", desc := "()I" } : Jvm.MethodName) prog_18_method_10_code (2 : Nat) (Option.some Jvm.ClassFile.FieldType.int)) ∈ lw_all := lw_g (lw_at lw_m5 96 rfl) rfl
theorem q1116 : (Jvm.Cond.instanceMethod ({ cls := "SiteCutsModel", name := "restore", desc := "()I" } : Jvm.MethodName)) ∈ lw_all := lw_g (lw_at lw_m5 98 rfl) rfl
theorem q1117 : (Jvm.Cond.selects "SiteCutsModel" ({ cls := "SiteCutsModel", name := "restore", desc := "()I" } : Jvm.MethodName) ({ cls := "SiteCutsModel", name := "restore", desc := "()I" } : Jvm.MethodName)) ∈ lw_all := lw_g (lw_at lw_m5 99 rfl) rfl
theorem q1118 : (Jvm.Cond.code ({ cls := "SiteCutsModel", name := "restore", desc := "()I" } : Jvm.MethodName) prog_18_method_11_code (2 : Nat) (Option.some Jvm.ClassFile.FieldType.int)) ∈ lw_all := lw_g (lw_at lw_m5 100 rfl) rfl
theorem q1119 : (Jvm.Cond.methodLink "SiteCutsModel" (43 : Nat) ({ cls := "SiteCutsModel", name := "begin", desc := "()V" } : Jvm.MethodName)) ∈ lw_all := lw_g (lw_at lw_m5 101 rfl) rfl
theorem q1120 : (Jvm.Cond.privateMethod ({ cls := "SiteCutsModel", name := "begin", desc := "()V" } : Jvm.MethodName)) ∈ lw_tbl := lw_at lw_m5 102 rfl
theorem q1121 : (Jvm.Cond.instanceMethod ({ cls := "SiteCutsModel", name := "begin", desc := "()V" } : Jvm.MethodName)) ∈ lw_all := lw_g (lw_at lw_m5 103 rfl) rfl
theorem q1122 : (Jvm.Cond.code ({ cls := "SiteCutsModel", name := "begin", desc := "()V" } : Jvm.MethodName) prog_18_method_8_code (1 : Nat) (Option.none : Option Jvm.ClassFile.FieldType)) ∈ lw_all := lw_g (lw_at lw_m5 104 rfl) rfl
theorem q1123 : (Jvm.Cond.methodLink "SiteCutsModel" (33 : Nat) ({ cls := "SiteCutsModel", name := "remember", desc := "()V" } : Jvm.MethodName)) ∈ lw_all := lw_g (lw_at lw_m5 105 rfl) rfl
theorem q1124 : (Jvm.Cond.privateMethod ({ cls := "SiteCutsModel", name := "remember", desc := "()V" } : Jvm.MethodName)) ∈ lw_tbl := lw_at lw_m5 106 rfl
theorem q1125 : (Jvm.Cond.instanceMethod ({ cls := "SiteCutsModel", name := "remember", desc := "()V" } : Jvm.MethodName)) ∈ lw_all := lw_g (lw_at lw_m5 107 rfl) rfl
theorem q1126 : (Jvm.Cond.code ({ cls := "SiteCutsModel", name := "remember", desc := "()V" } : Jvm.MethodName) prog_18_method_5_code (2 : Nat) (Option.none : Option Jvm.ClassFile.FieldType)) ∈ lw_all := lw_g (lw_at lw_m5 108 rfl) rfl
theorem q1127 : (Jvm.Cond.methodLink "SiteCutsModel" (36 : Nat) ({ cls := "SiteCutsModel", name := "record", desc := "()V" } : Jvm.MethodName)) ∈ lw_all := lw_g (lw_at lw_m5 109 rfl) rfl
theorem q1128 : (Jvm.Cond.privateMethod ({ cls := "SiteCutsModel", name := "record", desc := "()V" } : Jvm.MethodName)) ∈ lw_tbl := lw_at lw_m5 110 rfl
theorem q1129 : (Jvm.Cond.instanceMethod ({ cls := "SiteCutsModel", name := "record", desc := "()V" } : Jvm.MethodName)) ∈ lw_all := lw_g (lw_at lw_m5 111 rfl) rfl
theorem q1130 : (Jvm.Cond.code ({ cls := "SiteCutsModel", name := "record", desc := "()V" } : Jvm.MethodName) prog_18_method_7_code (2 : Nat) (Option.none : Option Jvm.ClassFile.FieldType)) ∈ lw_all := lw_g (lw_at lw_m5 112 rfl) rfl
theorem q1132 : (Jvm.Cond.instanceMethod ({ cls := "SiteCutsModel", name := "addSite", desc := "(I)I" } : Jvm.MethodName)) ∈ lw_all := lw_g (lw_at lw_m5 114 rfl) rfl
theorem q1133 : (Jvm.Cond.selects "SiteCutsModel" ({ cls := "SiteCutsModel", name := "addSite", desc := "(I)I" } : Jvm.MethodName) ({ cls := "SiteCutsModel", name := "addSite", desc := "(I)I" } : Jvm.MethodName)) ∈ lw_all := lw_g (lw_at lw_m5 115 rfl) rfl
theorem q1134 : (Jvm.Cond.code ({ cls := "SiteCutsModel", name := "addSite", desc := "(I)I" } : Jvm.MethodName) prog_18_method_16_code (3 : Nat) (Option.some Jvm.ClassFile.FieldType.int)) ∈ lw_all := lw_g (lw_at lw_m5 116 rfl) rfl
theorem q1135 : (Jvm.Cond.methodLink "SiteCutsModel" (46 : Nat) ({ cls := "SiteCutsModel", name := "in", desc := "(III)Z" } : Jvm.MethodName)) ∈ lw_all := lw_g (lw_at lw_m5 117 rfl) rfl
theorem q1136 : (Jvm.Cond.static ({ cls := "SiteCutsModel", name := "in", desc := "(III)Z" } : Jvm.MethodName)) ∈ lw_all := lw_g (lw_at lw_m5 118 rfl) rfl
theorem q1137 : (Jvm.Cond.code ({ cls := "SiteCutsModel", name := "in", desc := "(III)Z" } : Jvm.MethodName) prog_18_method_2_code (3 : Nat) (Option.some Jvm.ClassFile.FieldType.boolean)) ∈ lw_all := lw_g (lw_at lw_m5 119 rfl) rfl
theorem q1138 : (Jvm.Cond.methodLink "SiteCutsModel" (50 : Nat) ({ cls := "SiteCutsModel", name := "dropAll", desc := "()V" } : Jvm.MethodName)) ∈ lw_all := lw_g (lw_at lw_m5 120 rfl) rfl
theorem q1139 : (Jvm.Cond.privateMethod ({ cls := "SiteCutsModel", name := "dropAll", desc := "()V" } : Jvm.MethodName)) ∈ lw_tbl := lw_at lw_m5 121 rfl
theorem q1140 : (Jvm.Cond.instanceMethod ({ cls := "SiteCutsModel", name := "dropAll", desc := "()V" } : Jvm.MethodName)) ∈ lw_all := lw_g (lw_at lw_m5 122 rfl) rfl
theorem q1141 : (Jvm.Cond.code ({ cls := "SiteCutsModel", name := "dropAll", desc := "()V" } : Jvm.MethodName) prog_18_method_15_code (2 : Nat) (Option.none : Option Jvm.ClassFile.FieldType)) ∈ lw_all := lw_g (lw_at lw_m5 123 rfl) rfl
theorem q1143 : (Jvm.Cond.instanceMethod ({ cls := "SiteCutsModel", name := "addCustomer", desc := "(I)I" } : Jvm.MethodName)) ∈ lw_all := lw_g (lw_at lw_m5 125 rfl) rfl
theorem q1144 : (Jvm.Cond.selects "SiteCutsModel" ({ cls := "SiteCutsModel", name := "addCustomer", desc := "(I)I" } : Jvm.MethodName) ({ cls := "SiteCutsModel", name := "addCustomer", desc := "(I)I" } : Jvm.MethodName)) ∈ lw_all := lw_g (lw_at lw_m5 126 rfl) rfl
theorem q1145 : (Jvm.Cond.code ({ cls := "SiteCutsModel", name := "addCustomer", desc := "(I)I" } : Jvm.MethodName) prog_18_method_17_code (3 : Nat) (Option.some Jvm.ClassFile.FieldType.int)) ∈ lw_all := lw_g (lw_at lw_m5 127 rfl) rfl
theorem q1147 : (Jvm.Cond.instanceMethod ({ cls := "SiteCutsModel", name := "setPrice", desc := "(II)I" } : Jvm.MethodName)) ∈ lw_all := lw_g (lw_at lw_m5 129 rfl) rfl
theorem q1148 : (Jvm.Cond.selects "SiteCutsModel" ({ cls := "SiteCutsModel", name := "setPrice", desc := "(II)I" } : Jvm.MethodName) ({ cls := "SiteCutsModel", name := "setPrice", desc := "(II)I" } : Jvm.MethodName)) ∈ lw_all := lw_g (lw_at lw_m5 130 rfl) rfl
theorem q1149 : (Jvm.Cond.code ({ cls := "SiteCutsModel", name := "setPrice", desc := "(II)I" } : Jvm.MethodName) prog_18_method_19_code (3 : Nat) (Option.some Jvm.ClassFile.FieldType.int)) ∈ lw_all := lw_g (lw_at lw_m5 131 rfl) rfl
theorem q1150 : (Jvm.Cond.methodLink "SiteCutsModel" (53 : Nat) ({ cls := "SiteCutsModel", name := "noSite", desc := "(I)Z" } : Jvm.MethodName)) ∈ lw_all := lw_g (lw_at lw_m5 132 rfl) rfl
theorem q1151 : (Jvm.Cond.privateMethod ({ cls := "SiteCutsModel", name := "noSite", desc := "(I)Z" } : Jvm.MethodName)) ∈ lw_tbl := lw_at lw_m5 133 rfl
theorem q1152 : (Jvm.Cond.instanceMethod ({ cls := "SiteCutsModel", name := "noSite", desc := "(I)Z" } : Jvm.MethodName)) ∈ lw_all := lw_g (lw_at lw_m5 134 rfl) rfl
theorem q1153 : (Jvm.Cond.code ({ cls := "SiteCutsModel", name := "noSite", desc := "(I)Z" } : Jvm.MethodName) prog_18_method_12_code (2 : Nat) (Option.some Jvm.ClassFile.FieldType.boolean)) ∈ lw_all := lw_g (lw_at lw_m5 135 rfl) rfl
theorem q1154 : (Jvm.Cond.methodLink "SiteCutsModel" (57 : Nat) ({ cls := "SiteCutsModel", name := "change", desc := "(II)I" } : Jvm.MethodName)) ∈ lw_all := lw_g (lw_at lw_m5 136 rfl) rfl
theorem q1155 : (Jvm.Cond.privateMethod ({ cls := "SiteCutsModel", name := "change", desc := "(II)I" } : Jvm.MethodName)) ∈ lw_tbl := lw_at lw_m5 137 rfl
theorem q1156 : (Jvm.Cond.instanceMethod ({ cls := "SiteCutsModel", name := "change", desc := "(II)I" } : Jvm.MethodName)) ∈ lw_all := lw_g (lw_at lw_m5 138 rfl) rfl
theorem q1157 : (Jvm.Cond.code ({ cls := "SiteCutsModel", name := "change", desc := "(II)I" } : Jvm.MethodName) prog_18_method_18_code (4 : Nat) (Option.some Jvm.ClassFile.FieldType.int)) ∈ lw_all := lw_g (lw_at lw_m5 139 rfl) rfl
theorem q1159 : (Jvm.Cond.instanceMethod ({ cls := "SiteCutsModel", name := "setDemand", desc := "(II)I" } : Jvm.MethodName)) ∈ lw_all := lw_g (lw_at lw_m5 141 rfl) rfl
theorem q1160 : (Jvm.Cond.selects "SiteCutsModel" ({ cls := "SiteCutsModel", name := "setDemand", desc := "(II)I" } : Jvm.MethodName) ({ cls := "SiteCutsModel", name := "setDemand", desc := "(II)I" } : Jvm.MethodName)) ∈ lw_all := lw_g (lw_at lw_m5 142 rfl) rfl
theorem q1161 : (Jvm.Cond.code ({ cls := "SiteCutsModel", name := "setDemand", desc := "(II)I" } : Jvm.MethodName) prog_18_method_20_code (3 : Nat) (Option.some Jvm.ClassFile.FieldType.int)) ∈ lw_all := lw_g (lw_at lw_m5 143 rfl) rfl
theorem q1162 : (Jvm.Cond.methodLink "SiteCutsModel" (61 : Nat) ({ cls := "SiteCutsModel", name := "noCustomer", desc := "(I)Z" } : Jvm.MethodName)) ∈ lw_all := lw_g (lw_at lw_m5 144 rfl) rfl
theorem q1163 : (Jvm.Cond.privateMethod ({ cls := "SiteCutsModel", name := "noCustomer", desc := "(I)Z" } : Jvm.MethodName)) ∈ lw_tbl := lw_at lw_m5 145 rfl
theorem q1164 : (Jvm.Cond.instanceMethod ({ cls := "SiteCutsModel", name := "noCustomer", desc := "(I)Z" } : Jvm.MethodName)) ∈ lw_all := lw_g (lw_at lw_m5 146 rfl) rfl
theorem q1165 : (Jvm.Cond.code ({ cls := "SiteCutsModel", name := "noCustomer", desc := "(I)Z" } : Jvm.MethodName) prog_18_method_13_code (2 : Nat) (Option.some Jvm.ClassFile.FieldType.boolean)) ∈ lw_all := lw_g (lw_at lw_m5 147 rfl) rfl
theorem q1167 : (Jvm.Cond.instanceMethod ({ cls := "SiteCutsModel", name := "setRoute", desc := "(III)I" } : Jvm.MethodName)) ∈ lw_all := lw_g (lw_at lw_m5 149 rfl) rfl
theorem q1168 : (Jvm.Cond.selects "SiteCutsModel" ({ cls := "SiteCutsModel", name := "setRoute", desc := "(III)I" } : Jvm.MethodName) ({ cls := "SiteCutsModel", name := "setRoute", desc := "(III)I" } : Jvm.MethodName)) ∈ lw_all := lw_g (lw_at lw_m5 150 rfl) rfl
theorem q1169 : (Jvm.Cond.code ({ cls := "SiteCutsModel", name := "setRoute", desc := "(III)I" } : Jvm.MethodName) prog_18_method_21_code (4 : Nat) (Option.some Jvm.ClassFile.FieldType.int)) ∈ lw_all := lw_g (lw_at lw_m5 151 rfl) rfl
theorem q1170 : (Jvm.Cond.methodLink "SiteCutsModel" (64 : Nat) ({ cls := "SiteCutsModel", name := "route", desc := "(II)I" } : Jvm.MethodName)) ∈ lw_all := lw_g (lw_at lw_m5 152 rfl) rfl
theorem q1171 : (Jvm.Cond.static ({ cls := "SiteCutsModel", name := "route", desc := "(II)I" } : Jvm.MethodName)) ∈ lw_all := lw_g (lw_at lw_m5 153 rfl) rfl
theorem q1172 : (Jvm.Cond.code ({ cls := "SiteCutsModel", name := "route", desc := "(II)I" } : Jvm.MethodName) prog_18_method_14_code (2 : Nat) (Option.some Jvm.ClassFile.FieldType.int)) ∈ lw_all := lw_g (lw_at lw_m5 154 rfl) rfl
theorem q1174 : (Jvm.Cond.instanceMethod ({ cls := "SiteCutsModel", name := "setMost", desc := "(I)I" } : Jvm.MethodName)) ∈ lw_all := lw_g (lw_at lw_m5 156 rfl) rfl
theorem q1175 : (Jvm.Cond.selects "SiteCutsModel" ({ cls := "SiteCutsModel", name := "setMost", desc := "(I)I" } : Jvm.MethodName) ({ cls := "SiteCutsModel", name := "setMost", desc := "(I)I" } : Jvm.MethodName)) ∈ lw_all := lw_g (lw_at lw_m5 157 rfl) rfl
theorem q1176 : (Jvm.Cond.code ({ cls := "SiteCutsModel", name := "setMost", desc := "(I)I" } : Jvm.MethodName) prog_18_method_22_code (3 : Nat) (Option.some Jvm.ClassFile.FieldType.int)) ∈ lw_all := lw_g (lw_at lw_m5 158 rfl) rfl
theorem q1178 : (Jvm.Cond.instanceMethod ({ cls := "SiteCutsModel", name := "exclude", desc := "(IIZ)I" } : Jvm.MethodName)) ∈ lw_all := lw_g (lw_at lw_m5 160 rfl) rfl
theorem q1179 : (Jvm.Cond.selects "SiteCutsModel" ({ cls := "SiteCutsModel", name := "exclude", desc := "(IIZ)I" } : Jvm.MethodName) ({ cls := "SiteCutsModel", name := "exclude", desc := "(IIZ)I" } : Jvm.MethodName)) ∈ lw_all := lw_g (lw_at lw_m5 161 rfl) rfl
theorem q1180 : (Jvm.Cond.code ({ cls := "SiteCutsModel", name := "exclude", desc := "(IIZ)I" } : Jvm.MethodName) prog_18_method_23_code (4 : Nat) (Option.some Jvm.ClassFile.FieldType.int)) ∈ lw_all := lw_g (lw_at lw_m5 162 rfl) rfl
theorem q1181 : (Jvm.Cond.methodLink "SiteCutsModel" (67 : Nat) ({ cls := "SiteCutsModel", name := "isIn", desc := "(II)Z" } : Jvm.MethodName)) ∈ lw_all := lw_g (lw_at lw_m5 163 rfl) rfl
theorem q1182 : (Jvm.Cond.static ({ cls := "SiteCutsModel", name := "isIn", desc := "(II)Z" } : Jvm.MethodName)) ∈ lw_all := lw_g (lw_at lw_m5 164 rfl) rfl
theorem q1183 : (Jvm.Cond.code ({ cls := "SiteCutsModel", name := "isIn", desc := "(II)Z" } : Jvm.MethodName) prog_18_method_3_code (2 : Nat) (Option.some Jvm.ClassFile.FieldType.boolean)) ∈ lw_all := lw_g (lw_at lw_m5 165 rfl) rfl
theorem q1184 : (Jvm.Cond.methodLink "SiteCutsModel" (71 : Nat) ({ cls := "SiteCutsModel", name := "many", desc := "(I)I" } : Jvm.MethodName)) ∈ lw_all := lw_g (lw_at lw_m5 166 rfl) rfl
theorem q1185 : (Jvm.Cond.static ({ cls := "SiteCutsModel", name := "many", desc := "(I)I" } : Jvm.MethodName)) ∈ lw_all := lw_g (lw_at lw_m5 167 rfl) rfl
theorem q1186 : (Jvm.Cond.code ({ cls := "SiteCutsModel", name := "many", desc := "(I)I" } : Jvm.MethodName) prog_18_method_4_code (3 : Nat) (Option.some Jvm.ClassFile.FieldType.int)) ∈ lw_all := lw_g (lw_at lw_m5 168 rfl) rfl
theorem q1188 : (Jvm.Cond.instanceMethod ({ cls := "SiteCutsModel", name := "step", desc := "()I" } : Jvm.MethodName)) ∈ lw_all := lw_g (lw_at lw_m5 170 rfl) rfl
theorem q1189 : (Jvm.Cond.selects "SiteCutsModel" ({ cls := "SiteCutsModel", name := "step", desc := "()I" } : Jvm.MethodName) ({ cls := "SiteCutsModel", name := "step", desc := "()I" } : Jvm.MethodName)) ∈ lw_all := lw_g (lw_at lw_m5 171 rfl) rfl
theorem q1190 : (Jvm.Cond.code ({ cls := "SiteCutsModel", name := "step", desc := "()I" } : Jvm.MethodName) prog_18_method_42_code (2 : Nat) (Option.some Jvm.ClassFile.FieldType.int)) ∈ lw_all := lw_g (lw_at lw_m5 172 rfl) rfl
theorem q1191 : (Jvm.Cond.methodLink "SiteCutsModel" (118 : Nat) ({ cls := "SiteCutsModel", name := "makeStep", desc := "()I" } : Jvm.MethodName)) ∈ lw_all := lw_g (lw_at lw_m5 173 rfl) rfl
theorem q1192 : (Jvm.Cond.privateMethod ({ cls := "SiteCutsModel", name := "makeStep", desc := "()I" } : Jvm.MethodName)) ∈ lw_tbl := lw_at lw_m5 174 rfl
theorem q1193 : (Jvm.Cond.instanceMethod ({ cls := "SiteCutsModel", name := "makeStep", desc := "()I" } : Jvm.MethodName)) ∈ lw_all := lw_g (lw_at lw_m5 175 rfl) rfl
theorem q1194 : (Jvm.Cond.code ({ cls := "SiteCutsModel", name := "makeStep", desc := "()I" } : Jvm.MethodName) prog_18_method_41_code (7 : Nat) (Option.some Jvm.ClassFile.FieldType.int)) ∈ lw_all := lw_g (lw_at lw_m5 176 rfl) rfl
theorem q1195 : (Jvm.Cond.methodLink "SiteCutsModel" (111 : Nat) ({ cls := "SiteCutsModel", name := "masterPlan", desc := "()I" } : Jvm.MethodName)) ∈ lw_all := lw_g (lw_at lw_m5 177 rfl) rfl
theorem q1196 : (Jvm.Cond.privateMethod ({ cls := "SiteCutsModel", name := "masterPlan", desc := "()I" } : Jvm.MethodName)) ∈ lw_tbl := lw_at lw_m5 178 rfl
theorem q1197 : (Jvm.Cond.instanceMethod ({ cls := "SiteCutsModel", name := "masterPlan", desc := "()I" } : Jvm.MethodName)) ∈ lw_all := lw_g (lw_at lw_m5 179 rfl) rfl
theorem q1198 : (Jvm.Cond.code ({ cls := "SiteCutsModel", name := "masterPlan", desc := "()I" } : Jvm.MethodName) prog_18_method_40_code (5 : Nat) (Option.some Jvm.ClassFile.FieldType.int)) ∈ lw_all := lw_g (lw_at lw_m5 180 rfl) rfl
theorem q1199 : (Jvm.Cond.methodLink "SiteCutsModel" (84 : Nat) ({ cls := "SiteCutsModel", name := "isAllowed", desc := "(I)Z" } : Jvm.MethodName)) ∈ lw_all := lw_g (lw_at lw_m5 181 rfl) rfl
theorem q1200 : (Jvm.Cond.privateMethod ({ cls := "SiteCutsModel", name := "isAllowed", desc := "(I)Z" } : Jvm.MethodName)) ∈ lw_tbl := lw_at lw_m5 182 rfl
theorem q1201 : (Jvm.Cond.instanceMethod ({ cls := "SiteCutsModel", name := "isAllowed", desc := "(I)Z" } : Jvm.MethodName)) ∈ lw_all := lw_g (lw_at lw_m5 183 rfl) rfl
theorem q1202 : (Jvm.Cond.code ({ cls := "SiteCutsModel", name := "isAllowed", desc := "(I)Z" } : Jvm.MethodName) prog_18_method_26_code (2 : Nat) (Option.some Jvm.ClassFile.FieldType.boolean)) ∈ lw_all := lw_g (lw_at lw_m5 184 rfl) rfl
theorem q1203 : (Jvm.Cond.methodLink "SiteCutsModel" (75 : Nat) ({ cls := "SiteCutsModel", name := "excludes", desc := "(I)Z" } : Jvm.MethodName)) ∈ lw_all := lw_g (lw_at lw_m5 185 rfl) rfl
theorem q1204 : (Jvm.Cond.privateMethod ({ cls := "SiteCutsModel", name := "excludes", desc := "(I)Z" } : Jvm.MethodName)) ∈ lw_tbl := lw_at lw_m5 186 rfl
theorem q1205 : (Jvm.Cond.instanceMethod ({ cls := "SiteCutsModel", name := "excludes", desc := "(I)Z" } : Jvm.MethodName)) ∈ lw_all := lw_g (lw_at lw_m5 187 rfl) rfl
theorem q1206 : (Jvm.Cond.code ({ cls := "SiteCutsModel", name := "excludes", desc := "(I)Z" } : Jvm.MethodName) prog_18_method_25_code (4 : Nat) (Option.some Jvm.ClassFile.FieldType.boolean)) ∈ lw_all := lw_g (lw_at lw_m5 188 rfl) rfl
theorem q1207 : (Jvm.Cond.methodLink "SiteCutsModel" (105 : Nat) ({ cls := "SiteCutsModel", name := "raysMissed", desc := "(I)I" } : Jvm.MethodName)) ∈ lw_all := lw_g (lw_at lw_m5 189 rfl) rfl
theorem q1208 : (Jvm.Cond.privateMethod ({ cls := "SiteCutsModel", name := "raysMissed", desc := "(I)I" } : Jvm.MethodName)) ∈ lw_tbl := lw_at lw_m5 190 rfl
theorem q1209 : (Jvm.Cond.instanceMethod ({ cls := "SiteCutsModel", name := "raysMissed", desc := "(I)I" } : Jvm.MethodName)) ∈ lw_all := lw_g (lw_at lw_m5 191 rfl) rfl
theorem q1210 : (Jvm.Cond.code ({ cls := "SiteCutsModel", name := "raysMissed", desc := "(I)I" } : Jvm.MethodName) prog_18_method_38_code (4 : Nat) (Option.some Jvm.ClassFile.FieldType.int)) ∈ lw_all := lw_g (lw_at lw_m5 192 rfl) rfl
theorem q1211 : (Jvm.Cond.methodLink "SiteCutsModel" (93 : Nat) ({ cls := "SiteCutsModel", name := "isRay", desc := "(I)Z" } : Jvm.MethodName)) ∈ lw_all := lw_g (lw_at lw_m5 193 rfl) rfl
theorem q1212 : (Jvm.Cond.privateMethod ({ cls := "SiteCutsModel", name := "isRay", desc := "(I)Z" } : Jvm.MethodName)) ∈ lw_tbl := lw_at lw_m5 194 rfl
theorem q1213 : (Jvm.Cond.instanceMethod ({ cls := "SiteCutsModel", name := "isRay", desc := "(I)Z" } : Jvm.MethodName)) ∈ lw_all := lw_g (lw_at lw_m5 195 rfl) rfl
theorem q1214 : (Jvm.Cond.code ({ cls := "SiteCutsModel", name := "isRay", desc := "(I)Z" } : Jvm.MethodName) prog_18_method_34_code (2 : Nat) (Option.some Jvm.ClassFile.FieldType.boolean)) ∈ lw_all := lw_g (lw_at lw_m5 196 rfl) rfl
theorem q1215 : (Jvm.Cond.methodLink "SiteCutsModel" (96 : Nat) ({ cls := "SiteCutsModel", name := "asked", desc := "(II)I" } : Jvm.MethodName)) ∈ lw_all := lw_g (lw_at lw_m5 197 rfl) rfl
theorem q1216 : (Jvm.Cond.privateMethod ({ cls := "SiteCutsModel", name := "asked", desc := "(II)I" } : Jvm.MethodName)) ∈ lw_tbl := lw_at lw_m5 198 rfl
theorem q1217 : (Jvm.Cond.instanceMethod ({ cls := "SiteCutsModel", name := "asked", desc := "(II)I" } : Jvm.MethodName)) ∈ lw_all := lw_g (lw_at lw_m5 199 rfl) rfl
theorem q1218 : (Jvm.Cond.code ({ cls := "SiteCutsModel", name := "asked", desc := "(II)I" } : Jvm.MethodName) prog_18_method_37_code (3 : Nat) (Option.some Jvm.ClassFile.FieldType.int)) ∈ lw_all := lw_g (lw_at lw_m5 200 rfl) rfl
theorem q1219 : (Jvm.Cond.methodLink "SiteCutsModel" (78 : Nat) ({ cls := "SiteCutsModel", name := "reachedFrom", desc := "(I)I" } : Jvm.MethodName)) ∈ lw_all := lw_g (lw_at lw_m5 201 rfl) rfl
theorem q1220 : (Jvm.Cond.privateMethod ({ cls := "SiteCutsModel", name := "reachedFrom", desc := "(I)I" } : Jvm.MethodName)) ∈ lw_tbl := lw_at lw_m5 202 rfl
theorem q1221 : (Jvm.Cond.instanceMethod ({ cls := "SiteCutsModel", name := "reachedFrom", desc := "(I)I" } : Jvm.MethodName)) ∈ lw_all := lw_g (lw_at lw_m5 203 rfl) rfl
theorem q1222 : (Jvm.Cond.code ({ cls := "SiteCutsModel", name := "reachedFrom", desc := "(I)I" } : Jvm.MethodName) prog_18_method_27_code (4 : Nat) (Option.some Jvm.ClassFile.FieldType.int)) ∈ lw_all := lw_g (lw_at lw_m5 204 rfl) rfl
theorem q1223 : (Jvm.Cond.methodLink "SiteCutsModel" (108 : Nat) ({ cls := "SiteCutsModel", name := "guess", desc := "(I)I" } : Jvm.MethodName)) ∈ lw_all := lw_g (lw_at lw_m5 205 rfl) rfl
theorem q1224 : (Jvm.Cond.privateMethod ({ cls := "SiteCutsModel", name := "guess", desc := "(I)I" } : Jvm.MethodName)) ∈ lw_tbl := lw_at lw_m5 206 rfl
theorem q1225 : (Jvm.Cond.instanceMethod ({ cls := "SiteCutsModel", name := "guess", desc := "(I)I" } : Jvm.MethodName)) ∈ lw_all := lw_g (lw_at lw_m5 207 rfl) rfl
theorem q1226 : (Jvm.Cond.code ({ cls := "SiteCutsModel", name := "guess", desc := "(I)I" } : Jvm.MethodName) prog_18_method_39_code (5 : Nat) (Option.some Jvm.ClassFile.FieldType.int)) ∈ lw_all := lw_g (lw_at lw_m5 208 rfl) rfl
theorem q1227 : (Jvm.Cond.methodLink "SiteCutsModel" (99 : Nat) ({ cls := "SiteCutsModel", name := "valueOf", desc := "(II)I" } : Jvm.MethodName)) ∈ lw_all := lw_g (lw_at lw_m5 209 rfl) rfl
theorem q1228 : (Jvm.Cond.privateMethod ({ cls := "SiteCutsModel", name := "valueOf", desc := "(II)I" } : Jvm.MethodName)) ∈ lw_tbl := lw_at lw_m5 210 rfl
theorem q1229 : (Jvm.Cond.instanceMethod ({ cls := "SiteCutsModel", name := "valueOf", desc := "(II)I" } : Jvm.MethodName)) ∈ lw_all := lw_g (lw_at lw_m5 211 rfl) rfl
theorem q1230 : (Jvm.Cond.code ({ cls := "SiteCutsModel", name := "valueOf", desc := "(II)I" } : Jvm.MethodName) prog_18_method_36_code (5 : Nat) (Option.some Jvm.ClassFile.FieldType.int)) ∈ lw_all := lw_g (lw_at lw_m5 212 rfl) rfl
theorem q1231 : (Jvm.Cond.methodLink "SiteCutsModel" (90 : Nat) ({ cls := "SiteCutsModel", name := "weightOf", desc := "(II)I" } : Jvm.MethodName)) ∈ lw_all := lw_g (lw_at lw_m5 213 rfl) rfl
theorem q1232 : (Jvm.Cond.privateMethod ({ cls := "SiteCutsModel", name := "weightOf", desc := "(II)I" } : Jvm.MethodName)) ∈ lw_tbl := lw_at lw_m5 214 rfl
theorem q1233 : (Jvm.Cond.instanceMethod ({ cls := "SiteCutsModel", name := "weightOf", desc := "(II)I" } : Jvm.MethodName)) ∈ lw_all := lw_g (lw_at lw_m5 215 rfl) rfl
theorem q1234 : (Jvm.Cond.code ({ cls := "SiteCutsModel", name := "weightOf", desc := "(II)I" } : Jvm.MethodName) prog_18_method_35_code (6 : Nat) (Option.some Jvm.ClassFile.FieldType.int)) ∈ lw_all := lw_g (lw_at lw_m5 216 rfl) rfl
theorem q1235 : (Jvm.Cond.methodLink "SiteCutsModel" (102 : Nat) ({ cls := "SiteCutsModel", name := "prices", desc := "(I)I" } : Jvm.MethodName)) ∈ lw_all := lw_g (lw_at lw_m5 217 rfl) rfl
theorem q1236 : (Jvm.Cond.privateMethod ({ cls := "SiteCutsModel", name := "prices", desc := "(I)I" } : Jvm.MethodName)) ∈ lw_tbl := lw_at lw_m5 218 rfl
theorem q1237 : (Jvm.Cond.instanceMethod ({ cls := "SiteCutsModel", name := "prices", desc := "(I)I" } : Jvm.MethodName)) ∈ lw_all := lw_g (lw_at lw_m5 219 rfl) rfl
theorem q1238 : (Jvm.Cond.code ({ cls := "SiteCutsModel", name := "prices", desc := "(I)I" } : Jvm.MethodName) prog_18_method_30_code (4 : Nat) (Option.some Jvm.ClassFile.FieldType.int)) ∈ lw_all := lw_g (lw_at lw_m5 220 rfl) rfl
theorem q1239 : (Jvm.Cond.methodLink "SiteCutsModel" (87 : Nat) ({ cls := "SiteCutsModel", name := "missed", desc := "(I)I" } : Jvm.MethodName)) ∈ lw_all := lw_g (lw_at lw_m5 221 rfl) rfl
theorem q1240 : (Jvm.Cond.privateMethod ({ cls := "SiteCutsModel", name := "missed", desc := "(I)I" } : Jvm.MethodName)) ∈ lw_tbl := lw_at lw_m5 222 rfl
theorem q1241 : (Jvm.Cond.instanceMethod ({ cls := "SiteCutsModel", name := "missed", desc := "(I)I" } : Jvm.MethodName)) ∈ lw_all := lw_g (lw_at lw_m5 223 rfl) rfl
theorem q1242 : (Jvm.Cond.code ({ cls := "SiteCutsModel", name := "missed", desc := "(I)I" } : Jvm.MethodName) prog_18_method_28_code (3 : Nat) (Option.some Jvm.ClassFile.FieldType.int)) ∈ lw_all := lw_g (lw_at lw_m5 224 rfl) rfl
theorem q1243 : (Jvm.Cond.methodLink "SiteCutsModel" (115 : Nat) ({ cls := "SiteCutsModel", name := "routes", desc := "(I)I" } : Jvm.MethodName)) ∈ lw_all := lw_g (lw_at lw_m5 225 rfl) rfl
theorem q1244 : (Jvm.Cond.privateMethod ({ cls := "SiteCutsModel", name := "routes", desc := "(I)I" } : Jvm.MethodName)) ∈ lw_tbl := lw_at lw_m5 226 rfl
theorem q1245 : (Jvm.Cond.instanceMethod ({ cls := "SiteCutsModel", name := "routes", desc := "(I)I" } : Jvm.MethodName)) ∈ lw_all := lw_g (lw_at lw_m5 227 rfl) rfl
theorem q1246 : (Jvm.Cond.code ({ cls := "SiteCutsModel", name := "routes", desc := "(I)I" } : Jvm.MethodName) prog_18_method_31_code (4 : Nat) (Option.some Jvm.ClassFile.FieldType.int)) ∈ lw_all := lw_g (lw_at lw_m5 228 rfl) rfl
theorem q1247 : (Jvm.Cond.methodLink "SiteCutsModel" (81 : Nat) ({ cls := "SiteCutsModel", name := "server", desc := "(II)I" } : Jvm.MethodName)) ∈ lw_all := lw_g (lw_at lw_m5 229 rfl) rfl
theorem q1248 : (Jvm.Cond.privateMethod ({ cls := "SiteCutsModel", name := "server", desc := "(II)I" } : Jvm.MethodName)) ∈ lw_tbl := lw_at lw_m5 230 rfl
theorem q1249 : (Jvm.Cond.instanceMethod ({ cls := "SiteCutsModel", name := "server", desc := "(II)I" } : Jvm.MethodName)) ∈ lw_all := lw_g (lw_at lw_m5 231 rfl) rfl
theorem q1250 : (Jvm.Cond.code ({ cls := "SiteCutsModel", name := "server", desc := "(II)I" } : Jvm.MethodName) prog_18_method_29_code (6 : Nat) (Option.some Jvm.ClassFile.FieldType.int)) ∈ lw_all := lw_g (lw_at lw_m5 232 rfl) rfl
theorem q1252 : (Jvm.Cond.instanceMethod ({ cls := "SiteCutsModel", name := "solve", desc := "()I" } : Jvm.MethodName)) ∈ lw_all := lw_g (lw_at lw_m5 234 rfl) rfl
theorem q1253 : (Jvm.Cond.selects "SiteCutsModel" ({ cls := "SiteCutsModel", name := "solve", desc := "()I" } : Jvm.MethodName) ({ cls := "SiteCutsModel", name := "solve", desc := "()I" } : Jvm.MethodName)) ∈ lw_all := lw_g (lw_at lw_m5 235 rfl) rfl
theorem q1254 : (Jvm.Cond.code ({ cls := "SiteCutsModel", name := "solve", desc := "()I" } : Jvm.MethodName) prog_18_method_43_code (4 : Nat) (Option.some Jvm.ClassFile.FieldType.int)) ∈ lw_all := lw_g (lw_at lw_m5 236 rfl) rfl
theorem q1255 : (Jvm.Cond.methodLink "SiteCutsModel" (121 : Nat) ({ cls := "SiteCutsModel", name := "goBack", desc := "()V" } : Jvm.MethodName)) ∈ lw_all := lw_g (lw_at lw_m5 237 rfl) rfl
theorem q1256 : (Jvm.Cond.privateMethod ({ cls := "SiteCutsModel", name := "goBack", desc := "()V" } : Jvm.MethodName)) ∈ lw_tbl := lw_at lw_m5 238 rfl
theorem q1257 : (Jvm.Cond.instanceMethod ({ cls := "SiteCutsModel", name := "goBack", desc := "()V" } : Jvm.MethodName)) ∈ lw_all := lw_g (lw_at lw_m5 239 rfl) rfl
theorem q1258 : (Jvm.Cond.code ({ cls := "SiteCutsModel", name := "goBack", desc := "()V" } : Jvm.MethodName) prog_18_method_6_code (2 : Nat) (Option.none : Option Jvm.ClassFile.FieldType)) ∈ lw_all := lw_g (lw_at lw_m6 0 rfl) rfl
theorem q1260 : (Jvm.Cond.instanceMethod ({ cls := "SiteCutsModel", name := "drop", desc := "(I)I" } : Jvm.MethodName)) ∈ lw_all := lw_g (lw_at lw_m6 2 rfl) rfl
theorem q1261 : (Jvm.Cond.selects "SiteCutsModel" ({ cls := "SiteCutsModel", name := "drop", desc := "(I)I" } : Jvm.MethodName) ({ cls := "SiteCutsModel", name := "drop", desc := "(I)I" } : Jvm.MethodName)) ∈ lw_all := lw_g (lw_at lw_m6 3 rfl) rfl
theorem q1262 : (Jvm.Cond.code ({ cls := "SiteCutsModel", name := "drop", desc := "(I)I" } : Jvm.MethodName) prog_18_method_45_code (2 : Nat) (Option.some Jvm.ClassFile.FieldType.int)) ∈ lw_all := lw_g (lw_at lw_m6 4 rfl) rfl
theorem q1263 : (Jvm.Cond.methodLink "SiteCutsModel" (124 : Nat) ({ cls := "SiteCutsModel", name := "noCut", desc := "(I)Z" } : Jvm.MethodName)) ∈ lw_all := lw_g (lw_at lw_m6 5 rfl) rfl
theorem q1264 : (Jvm.Cond.privateMethod ({ cls := "SiteCutsModel", name := "noCut", desc := "(I)Z" } : Jvm.MethodName)) ∈ lw_tbl := lw_at lw_m6 6 rfl
theorem q1265 : (Jvm.Cond.instanceMethod ({ cls := "SiteCutsModel", name := "noCut", desc := "(I)Z" } : Jvm.MethodName)) ∈ lw_all := lw_g (lw_at lw_m6 7 rfl) rfl
theorem q1266 : (Jvm.Cond.code ({ cls := "SiteCutsModel", name := "noCut", desc := "(I)Z" } : Jvm.MethodName) prog_18_method_33_code (2 : Nat) (Option.some Jvm.ClassFile.FieldType.boolean)) ∈ lw_all := lw_g (lw_at lw_m6 8 rfl) rfl
theorem q1267 : (Jvm.Cond.methodLink "SiteCutsModel" (127 : Nat) ({ cls := "SiteCutsModel", name := "dropOne", desc := "(I)V" } : Jvm.MethodName)) ∈ lw_all := lw_g (lw_at lw_m6 9 rfl) rfl
theorem q1268 : (Jvm.Cond.privateMethod ({ cls := "SiteCutsModel", name := "dropOne", desc := "(I)V" } : Jvm.MethodName)) ∈ lw_tbl := lw_at lw_m6 10 rfl
theorem q1269 : (Jvm.Cond.instanceMethod ({ cls := "SiteCutsModel", name := "dropOne", desc := "(I)V" } : Jvm.MethodName)) ∈ lw_all := lw_g (lw_at lw_m6 11 rfl) rfl
theorem q1270 : (Jvm.Cond.code ({ cls := "SiteCutsModel", name := "dropOne", desc := "(I)V" } : Jvm.MethodName) prog_18_method_44_code (3 : Nat) (Option.none : Option Jvm.ClassFile.FieldType)) ∈ lw_all := lw_g (lw_at lw_m6 12 rfl) rfl
theorem q1272 : (Jvm.Cond.instanceMethod ({ cls := "SiteCutsModel", name := "dropLoose", desc := "()I" } : Jvm.MethodName)) ∈ lw_all := lw_g (lw_at lw_m6 14 rfl) rfl
theorem q1273 : (Jvm.Cond.selects "SiteCutsModel" ({ cls := "SiteCutsModel", name := "dropLoose", desc := "()I" } : Jvm.MethodName) ({ cls := "SiteCutsModel", name := "dropLoose", desc := "()I" } : Jvm.MethodName)) ∈ lw_all := lw_g (lw_at lw_m6 15 rfl) rfl
theorem q1274 : (Jvm.Cond.code ({ cls := "SiteCutsModel", name := "dropLoose", desc := "()I" } : Jvm.MethodName) prog_18_method_47_code (5 : Nat) (Option.some Jvm.ClassFile.FieldType.int)) ∈ lw_all := lw_g (lw_at lw_m6 16 rfl) rfl
theorem q1275 : (Jvm.Cond.methodLink "SiteCutsModel" (131 : Nat) ({ cls := "SiteCutsModel", name := "isLoose", desc := "(III)Z" } : Jvm.MethodName)) ∈ lw_all := lw_g (lw_at lw_m6 17 rfl) rfl
theorem q1276 : (Jvm.Cond.privateMethod ({ cls := "SiteCutsModel", name := "isLoose", desc := "(III)Z" } : Jvm.MethodName)) ∈ lw_tbl := lw_at lw_m6 18 rfl
theorem q1277 : (Jvm.Cond.instanceMethod ({ cls := "SiteCutsModel", name := "isLoose", desc := "(III)Z" } : Jvm.MethodName)) ∈ lw_all := lw_g (lw_at lw_m6 19 rfl) rfl
theorem q1278 : (Jvm.Cond.code ({ cls := "SiteCutsModel", name := "isLoose", desc := "(III)Z" } : Jvm.MethodName) prog_18_method_46_code (4 : Nat) (Option.some Jvm.ClassFile.FieldType.boolean)) ∈ lw_all := lw_g (lw_at lw_m6 20 rfl) rfl
theorem q1280 : (Jvm.Cond.instanceMethod ({ cls := "SiteCutsModel", name := "type", desc := "(C)I" } : Jvm.MethodName)) ∈ lw_all := lw_g (lw_at lw_m6 22 rfl) rfl
theorem q1281 : (Jvm.Cond.selects "SiteCutsModel" ({ cls := "SiteCutsModel", name := "type", desc := "(C)I" } : Jvm.MethodName) ({ cls := "SiteCutsModel", name := "type", desc := "(C)I" } : Jvm.MethodName)) ∈ lw_all := lw_g (lw_at lw_m6 23 rfl) rfl
theorem q1282 : (Jvm.Cond.code ({ cls := "SiteCutsModel", name := "type", desc := "(C)I" } : Jvm.MethodName) prog_18_method_48_code (2 : Nat) (Option.some Jvm.ClassFile.FieldType.int)) ∈ lw_all := lw_g (lw_at lw_m6 24 rfl) rfl
theorem q1284 : (Jvm.Cond.instanceMethod ({ cls := "SiteCutsModel", name := "clearText", desc := "()I" } : Jvm.MethodName)) ∈ lw_all := lw_g (lw_at lw_m6 26 rfl) rfl
theorem q1285 : (Jvm.Cond.selects "SiteCutsModel" ({ cls := "SiteCutsModel", name := "clearText", desc := "()I" } : Jvm.MethodName) ({ cls := "SiteCutsModel", name := "clearText", desc := "()I" } : Jvm.MethodName)) ∈ lw_all := lw_g (lw_at lw_m6 27 rfl) rfl
theorem q1286 : (Jvm.Cond.code ({ cls := "SiteCutsModel", name := "clearText", desc := "()I" } : Jvm.MethodName) prog_18_method_49_code (2 : Nat) (Option.some Jvm.ClassFile.FieldType.int)) ∈ lw_all := lw_g (lw_at lw_m6 28 rfl) rfl
theorem q1288 : (Jvm.Cond.instanceMethod ({ cls := "SiteCutsModel", name := "readCut", desc := "()I" } : Jvm.MethodName)) ∈ lw_all := lw_g (lw_at lw_m6 30 rfl) rfl
theorem q1289 : (Jvm.Cond.selects "SiteCutsModel" ({ cls := "SiteCutsModel", name := "readCut", desc := "()I" } : Jvm.MethodName) ({ cls := "SiteCutsModel", name := "readCut", desc := "()I" } : Jvm.MethodName)) ∈ lw_all := lw_g (lw_at lw_m6 31 rfl) rfl
theorem q1290 : (Jvm.Cond.code ({ cls := "SiteCutsModel", name := "readCut", desc := "()I" } : Jvm.MethodName) prog_18_method_52_code (3 : Nat) (Option.some Jvm.ClassFile.FieldType.int)) ∈ lw_all := lw_g (lw_at lw_m6 32 rfl) rfl
theorem q1291 : (Jvm.Cond.methodLink "SiteCutsModel" (143 : Nat) ({ cls := "SiteCutsModel", name := "readNumbers", desc := "()Z" } : Jvm.MethodName)) ∈ lw_all := lw_g (lw_at lw_m6 33 rfl) rfl
theorem q1292 : (Jvm.Cond.privateMethod ({ cls := "SiteCutsModel", name := "readNumbers", desc := "()Z" } : Jvm.MethodName)) ∈ lw_tbl := lw_at lw_m6 34 rfl
theorem q1293 : (Jvm.Cond.instanceMethod ({ cls := "SiteCutsModel", name := "readNumbers", desc := "()Z" } : Jvm.MethodName)) ∈ lw_all := lw_g (lw_at lw_m6 35 rfl) rfl
theorem q1294 : (Jvm.Cond.code ({ cls := "SiteCutsModel", name := "readNumbers", desc := "()Z" } : Jvm.MethodName) prog_18_method_51_code (3 : Nat) (Option.some Jvm.ClassFile.FieldType.boolean)) ∈ lw_all := lw_g (lw_at lw_m6 36 rfl) rfl
theorem q1295 : (Jvm.Cond.methodLink "SiteCutsModel" (140 : Nat) ({ cls := "SiteCutsModel", name := "sees", desc := "(II)Z" } : Jvm.MethodName)) ∈ lw_all := lw_g (lw_at lw_m6 37 rfl) rfl
theorem q1296 : (Jvm.Cond.privateMethod ({ cls := "SiteCutsModel", name := "sees", desc := "(II)Z" } : Jvm.MethodName)) ∈ lw_tbl := lw_at lw_m6 38 rfl
theorem q1297 : (Jvm.Cond.instanceMethod ({ cls := "SiteCutsModel", name := "sees", desc := "(II)Z" } : Jvm.MethodName)) ∈ lw_all := lw_g (lw_at lw_m6 39 rfl) rfl
theorem q1298 : (Jvm.Cond.code ({ cls := "SiteCutsModel", name := "sees", desc := "(II)Z" } : Jvm.MethodName) prog_18_method_50_code (3 : Nat) (Option.some Jvm.ClassFile.FieldType.boolean)) ∈ lw_all := lw_g (lw_at lw_m6 40 rfl) rfl
theorem q1300 : (Jvm.Cond.instanceMethod ({ cls := "SiteCutsModel", name := "judge", desc := "(I)I" } : Jvm.MethodName)) ∈ lw_all := lw_g (lw_at lw_m6 42 rfl) rfl
theorem q1301 : (Jvm.Cond.selects "SiteCutsModel" ({ cls := "SiteCutsModel", name := "judge", desc := "(I)I" } : Jvm.MethodName) ({ cls := "SiteCutsModel", name := "judge", desc := "(I)I" } : Jvm.MethodName)) ∈ lw_all := lw_g (lw_at lw_m6 43 rfl) rfl
theorem q1302 : (Jvm.Cond.code ({ cls := "SiteCutsModel", name := "judge", desc := "(I)I" } : Jvm.MethodName) prog_18_method_53_code (2 : Nat) (Option.some Jvm.ClassFile.FieldType.int)) ∈ lw_all := lw_g (lw_at lw_m6 44 rfl) rfl
theorem q1303 : (Jvm.Cond.methodLink "SiteCutsModel" (147 : Nat) ({ cls := "SiteCutsModel", name := "noPlan", desc := "(I)Z" } : Jvm.MethodName)) ∈ lw_all := lw_g (lw_at lw_m6 45 rfl) rfl
theorem q1304 : (Jvm.Cond.privateMethod ({ cls := "SiteCutsModel", name := "noPlan", desc := "(I)Z" } : Jvm.MethodName)) ∈ lw_tbl := lw_at lw_m6 46 rfl
theorem q1305 : (Jvm.Cond.instanceMethod ({ cls := "SiteCutsModel", name := "noPlan", desc := "(I)Z" } : Jvm.MethodName)) ∈ lw_all := lw_g (lw_at lw_m6 47 rfl) rfl
theorem q1306 : (Jvm.Cond.code ({ cls := "SiteCutsModel", name := "noPlan", desc := "(I)Z" } : Jvm.MethodName) prog_18_method_24_code (2 : Nat) (Option.some Jvm.ClassFile.FieldType.boolean)) ∈ lw_all := lw_g (lw_at lw_m6 48 rfl) rfl
theorem q1308 : (Jvm.Cond.instanceMethod ({ cls := "SiteCutsModel", name := "plan", desc := "(II)I" } : Jvm.MethodName)) ∈ lw_all := lw_g (lw_at lw_m6 50 rfl) rfl
theorem q1309 : (Jvm.Cond.selects "SiteCutsModel" ({ cls := "SiteCutsModel", name := "plan", desc := "(II)I" } : Jvm.MethodName) ({ cls := "SiteCutsModel", name := "plan", desc := "(II)I" } : Jvm.MethodName)) ∈ lw_all := lw_g (lw_at lw_m6 51 rfl) rfl
theorem q1310 : (Jvm.Cond.code ({ cls := "SiteCutsModel", name := "plan", desc := "(II)I" } : Jvm.MethodName) prog_18_method_54_code (3 : Nat) (Option.some Jvm.ClassFile.FieldType.int)) ∈ lw_all := lw_g (lw_at lw_m6 52 rfl) rfl
theorem q1312 : (Jvm.Cond.instanceMethod ({ cls := "SiteCutsModel", name := "serves", desc := "(II)I" } : Jvm.MethodName)) ∈ lw_all := lw_g (lw_at lw_m6 54 rfl) rfl
theorem q1313 : (Jvm.Cond.selects "SiteCutsModel" ({ cls := "SiteCutsModel", name := "serves", desc := "(II)I" } : Jvm.MethodName) ({ cls := "SiteCutsModel", name := "serves", desc := "(II)I" } : Jvm.MethodName)) ∈ lw_all := lw_g (lw_at lw_m6 55 rfl) rfl
theorem q1314 : (Jvm.Cond.code ({ cls := "SiteCutsModel", name := "serves", desc := "(II)I" } : Jvm.MethodName) prog_18_method_55_code (3 : Nat) (Option.some Jvm.ClassFile.FieldType.int)) ∈ lw_all := lw_g (lw_at lw_m6 56 rfl) rfl
theorem q1316 : (Jvm.Cond.instanceMethod ({ cls := "SiteCutsModel", name := "cut", desc := "(II)I" } : Jvm.MethodName)) ∈ lw_all := lw_g (lw_at lw_m6 58 rfl) rfl
theorem q1317 : (Jvm.Cond.selects "SiteCutsModel" ({ cls := "SiteCutsModel", name := "cut", desc := "(II)I" } : Jvm.MethodName) ({ cls := "SiteCutsModel", name := "cut", desc := "(II)I" } : Jvm.MethodName)) ∈ lw_all := lw_g (lw_at lw_m6 59 rfl) rfl
theorem q1318 : (Jvm.Cond.code ({ cls := "SiteCutsModel", name := "cut", desc := "(II)I" } : Jvm.MethodName) prog_18_method_57_code (3 : Nat) (Option.some Jvm.ClassFile.FieldType.int)) ∈ lw_all := lw_g (lw_at lw_m6 60 rfl) rfl
theorem q1319 : (Jvm.Cond.methodLink "SiteCutsModel" (153 : Nat) ({ cls := "SiteCutsModel", name := "plansBy", desc := "(IZ)I" } : Jvm.MethodName)) ∈ lw_all := lw_g (lw_at lw_m6 61 rfl) rfl
theorem q1320 : (Jvm.Cond.privateMethod ({ cls := "SiteCutsModel", name := "plansBy", desc := "(IZ)I" } : Jvm.MethodName)) ∈ lw_tbl := lw_at lw_m6 62 rfl
theorem q1321 : (Jvm.Cond.instanceMethod ({ cls := "SiteCutsModel", name := "plansBy", desc := "(IZ)I" } : Jvm.MethodName)) ∈ lw_all := lw_g (lw_at lw_m6 63 rfl) rfl
theorem q1322 : (Jvm.Cond.code ({ cls := "SiteCutsModel", name := "plansBy", desc := "(IZ)I" } : Jvm.MethodName) prog_18_method_56_code (7 : Nat) (Option.some Jvm.ClassFile.FieldType.int)) ∈ lw_all := lw_g (lw_at lw_m6 64 rfl) rfl
theorem q1323 : (Jvm.Cond.methodLink "SiteCutsModel" (150 : Nat) ({ cls := "SiteCutsModel", name := "isFeasible", desc := "(I)Z" } : Jvm.MethodName)) ∈ lw_all := lw_g (lw_at lw_m6 65 rfl) rfl
theorem q1324 : (Jvm.Cond.privateMethod ({ cls := "SiteCutsModel", name := "isFeasible", desc := "(I)Z" } : Jvm.MethodName)) ∈ lw_tbl := lw_at lw_m6 66 rfl
theorem q1325 : (Jvm.Cond.instanceMethod ({ cls := "SiteCutsModel", name := "isFeasible", desc := "(I)Z" } : Jvm.MethodName)) ∈ lw_all := lw_g (lw_at lw_m6 67 rfl) rfl
theorem q1326 : (Jvm.Cond.code ({ cls := "SiteCutsModel", name := "isFeasible", desc := "(I)Z" } : Jvm.MethodName) prog_18_method_32_code (2 : Nat) (Option.some Jvm.ClassFile.FieldType.boolean)) ∈ lw_all := lw_g (lw_at lw_m6 68 rfl) rfl
theorem q1328 : (Jvm.Cond.instanceMethod ({ cls := "SiteCutsModel", name := "weight", desc := "(II)I" } : Jvm.MethodName)) ∈ lw_all := lw_g (lw_at lw_m6 70 rfl) rfl
theorem q1329 : (Jvm.Cond.selects "SiteCutsModel" ({ cls := "SiteCutsModel", name := "weight", desc := "(II)I" } : Jvm.MethodName) ({ cls := "SiteCutsModel", name := "weight", desc := "(II)I" } : Jvm.MethodName)) ∈ lw_all := lw_g (lw_at lw_m6 71 rfl) rfl
theorem q1330 : (Jvm.Cond.code ({ cls := "SiteCutsModel", name := "weight", desc := "(II)I" } : Jvm.MethodName) prog_18_method_58_code (3 : Nat) (Option.some Jvm.ClassFile.FieldType.int)) ∈ lw_all := lw_g (lw_at lw_m6 72 rfl) rfl
theorem q1332 : (Jvm.Cond.instanceMethod ({ cls := "SiteCutsModel", name := "value", desc := "(II)I" } : Jvm.MethodName)) ∈ lw_all := lw_g (lw_at lw_m6 74 rfl) rfl
theorem q1333 : (Jvm.Cond.selects "SiteCutsModel" ({ cls := "SiteCutsModel", name := "value", desc := "(II)I" } : Jvm.MethodName) ({ cls := "SiteCutsModel", name := "value", desc := "(II)I" } : Jvm.MethodName)) ∈ lw_all := lw_g (lw_at lw_m6 75 rfl) rfl
theorem q1334 : (Jvm.Cond.code ({ cls := "SiteCutsModel", name := "value", desc := "(II)I" } : Jvm.MethodName) prog_18_method_59_code (3 : Nat) (Option.some Jvm.ClassFile.FieldType.int)) ∈ lw_all := lw_g (lw_at lw_m6 76 rfl) rfl
theorem q1335 : (Jvm.Cond.constant "SiteCutsModel" (157 : Nat) (1000000 : Int32)) ∈ lw_all := lw_g (lw_at lw_m6 77 rfl) rfl
theorem q1337 : (Jvm.Cond.instanceMethod ({ cls := "SiteCutsModel", name := "master", desc := "(I)I" } : Jvm.MethodName)) ∈ lw_all := lw_g (lw_at lw_m6 79 rfl) rfl
theorem q1338 : (Jvm.Cond.selects "SiteCutsModel" ({ cls := "SiteCutsModel", name := "master", desc := "(I)I" } : Jvm.MethodName) ({ cls := "SiteCutsModel", name := "master", desc := "(I)I" } : Jvm.MethodName)) ∈ lw_all := lw_g (lw_at lw_m6 80 rfl) rfl
theorem q1339 : (Jvm.Cond.code ({ cls := "SiteCutsModel", name := "master", desc := "(I)I" } : Jvm.MethodName) prog_18_method_60_code (6 : Nat) (Option.some Jvm.ClassFile.FieldType.int)) ∈ lw_all := lw_g (lw_at lw_m6 81 rfl) rfl
theorem q1341 : (Jvm.Cond.instanceMethod ({ cls := "SiteCutsModel", name := "byAll", desc := "(I)I" } : Jvm.MethodName)) ∈ lw_all := lw_g (lw_at lw_m6 83 rfl) rfl
theorem q1342 : (Jvm.Cond.selects "SiteCutsModel" ({ cls := "SiteCutsModel", name := "byAll", desc := "(I)I" } : Jvm.MethodName) ({ cls := "SiteCutsModel", name := "byAll", desc := "(I)I" } : Jvm.MethodName)) ∈ lw_all := lw_g (lw_at lw_m6 84 rfl) rfl
theorem q1343 : (Jvm.Cond.code ({ cls := "SiteCutsModel", name := "byAll", desc := "(I)I" } : Jvm.MethodName) prog_18_method_61_code (7 : Nat) (Option.some Jvm.ClassFile.FieldType.int)) ∈ lw_all := lw_g (lw_at lw_m6 85 rfl) rfl
theorem q1345 : (Jvm.Cond.instanceMethod ({ cls := "SiteCutsModel", name := "count", desc := "(I)I" } : Jvm.MethodName)) ∈ lw_all := lw_g (lw_at lw_m6 87 rfl) rfl
theorem q1346 : (Jvm.Cond.selects "SiteCutsModel" ({ cls := "SiteCutsModel", name := "count", desc := "(I)I" } : Jvm.MethodName) ({ cls := "SiteCutsModel", name := "count", desc := "(I)I" } : Jvm.MethodName)) ∈ lw_all := lw_g (lw_at lw_m6 88 rfl) rfl
theorem q1347 : (Jvm.Cond.code ({ cls := "SiteCutsModel", name := "count", desc := "(I)I" } : Jvm.MethodName) prog_18_method_65_code (2 : Nat) (Option.some Jvm.ClassFile.FieldType.int)) ∈ lw_all := lw_g (lw_at lw_m6 89 rfl) rfl
theorem q1348 : (Jvm.Cond.methodLink "SiteCutsModel" (158 : Nat) ({ cls := "SiteCutsModel", name := "allRoutes", desc := "()I" } : Jvm.MethodName)) ∈ lw_all := lw_g (lw_at lw_m6 90 rfl) rfl
theorem q1349 : (Jvm.Cond.privateMethod ({ cls := "SiteCutsModel", name := "allRoutes", desc := "()I" } : Jvm.MethodName)) ∈ lw_tbl := lw_at lw_m6 91 rfl
theorem q1350 : (Jvm.Cond.instanceMethod ({ cls := "SiteCutsModel", name := "allRoutes", desc := "()I" } : Jvm.MethodName)) ∈ lw_all := lw_g (lw_at lw_m6 92 rfl) rfl
theorem q1351 : (Jvm.Cond.code ({ cls := "SiteCutsModel", name := "allRoutes", desc := "()I" } : Jvm.MethodName) prog_18_method_64_code (3 : Nat) (Option.some Jvm.ClassFile.FieldType.int)) ∈ lw_all := lw_g (lw_at lw_m6 93 rfl) rfl
theorem q1352 : (Jvm.Cond.methodLink "SiteCutsModel" (161 : Nat) ({ cls := "SiteCutsModel", name := "pairs", desc := "()I" } : Jvm.MethodName)) ∈ lw_all := lw_g (lw_at lw_m6 94 rfl) rfl
theorem q1353 : (Jvm.Cond.privateMethod ({ cls := "SiteCutsModel", name := "pairs", desc := "()I" } : Jvm.MethodName)) ∈ lw_tbl := lw_at lw_m6 95 rfl
theorem q1354 : (Jvm.Cond.instanceMethod ({ cls := "SiteCutsModel", name := "pairs", desc := "()I" } : Jvm.MethodName)) ∈ lw_all := lw_g (lw_at lw_m6 96 rfl) rfl
theorem q1355 : (Jvm.Cond.code ({ cls := "SiteCutsModel", name := "pairs", desc := "()I" } : Jvm.MethodName) prog_18_method_63_code (3 : Nat) (Option.some Jvm.ClassFile.FieldType.int)) ∈ lw_all := lw_g (lw_at lw_m6 97 rfl) rfl
theorem q1356 : (Jvm.Cond.methodLink "SiteCutsModel" (164 : Nat) ({ cls := "SiteCutsModel", name := "rays", desc := "()I" } : Jvm.MethodName)) ∈ lw_all := lw_g (lw_at lw_m6 98 rfl) rfl
theorem q1357 : (Jvm.Cond.privateMethod ({ cls := "SiteCutsModel", name := "rays", desc := "()I" } : Jvm.MethodName)) ∈ lw_tbl := lw_at lw_m6 99 rfl
theorem q1358 : (Jvm.Cond.instanceMethod ({ cls := "SiteCutsModel", name := "rays", desc := "()I" } : Jvm.MethodName)) ∈ lw_all := lw_g (lw_at lw_m6 100 rfl) rfl
theorem q1359 : (Jvm.Cond.code ({ cls := "SiteCutsModel", name := "rays", desc := "()I" } : Jvm.MethodName) prog_18_method_62_code (3 : Nat) (Option.some Jvm.ClassFile.FieldType.int)) ∈ lw_all := lw_g (lw_at lw_m6 101 rfl) rfl
theorem q1389 : (Jvm.Cond.castable "SiteCutsModel" "java/lang/Object") ∈ lw_tbl := lw_at lw_m6 131 rfl
theorem in_X3 : ∀ w ∈ wsX30, w ∈ lw_all := lw_in wsX30 [1085, 1087, 1089, 1091, 1093, 1095, 1097, 1099, 1101, 1103] (by decide +kernel) (by decide +kernel)
