section
/-! MorrisTablesModel -/
set_option maxRecDepth 100000
def RX3 : String := "MorrisTablesModel"
def TX3 : u_T := fun k => match k with
  | 0 => ("MorrisTablesModel", "row", "[I", true)
  | 1 => ("MorrisTablesModel", "past", "[I", true)
  | 2 => ("MorrisTablesModel", "before", "[I", true)
  | 3 => ("MorrisTablesModel", "slots", "[I", true)
  | 4 => ("MorrisTablesModel", "isSaved", "[Z", true)
  | 5 => ("MorrisTablesModel", "states", "I", false)
  | 6 => ("MorrisTablesModel", "pad", "[I", true)
  | 7 => ("MorrisTablesModel", "length", "I", false)
  | 8 => ("MorrisTablesModel", "at", "I", false)
  | 9 => ("MorrisTablesModel", "codes", "[I", true)
  | 10 => ("MorrisTablesModel", "cells", "[I", true)
  | 11 => ("MorrisTablesModel", "mover", "I", false)
  | 12 => ("MorrisTablesModel", "list", "[I", true)
  | 13 => ("MorrisTablesModel", "many", "I", false)
  | 14 => ("MorrisTablesModel", "worths", "[I", true)
  | _ => ("MorrisTablesModel", "isMade", "[Z", true)
def tyX3 : Nat → FieldType := fun k => match k with
  | 0 => .array .int
  | 1 => .array .int
  | 2 => .array .int
  | 3 => .array .int
  | 4 => .array .boolean
  | 5 => .int
  | 6 => .array .int
  | 7 => .int
  | 8 => .int
  | 9 => .array .int
  | 10 => .array .int
  | 11 => .int
  | 12 => .array .int
  | 13 => .int
  | 14 => .array .int
  | _ => .array .boolean
abbrev wsX30 : List Cond := u_ws RX3 TX3 16
set_option maxRecDepth 100000 in
theorem nmX3 : ∀ a, a < 16 → ∀ b, b < 16 → a ≠ b → (TX3 a).2.1 ≠ (TX3 b).2.1 := by decide +kernel
set_option maxRecDepth 100000 in
theorem tyX3_ok : ∀ k, k < 16 → parseFieldDescriptor (TX3 k).2.2.1 = some (tyX3 k) := by decide +kernel
abbrev cX3_init : ByteArray := prog_8_method_1_code
def yX3_init : MethodName := ⟨RX3, "<init>", "()V"⟩
def dkwX3_init_4 : List UInt8 := [180, 0, 7, 3, 4, 79, 177]
abbrev dktX3_init_4 : List UInt8 := dkwX3_init_4 ++ []
def dkwX3_init_3 : List UInt8 := [42, 16, 40, 188, 10, 181, 0, 36, 42, 18, 39, 188, 10, 181, 0, 40, 42, 7, 188, 4, 181, 0, 43, 42]
abbrev dktX3_init_3 : List UInt8 := dkwX3_init_3 ++ dktX3_init_4
def dkwX3_init_2 : List UInt8 := [42, 16, 80, 188, 10, 181, 0, 27, 42, 16, 8, 188, 10, 181, 0, 30, 42, 16, 9, 188, 10, 181, 0, 33]
abbrev dktX3_init_2 : List UInt8 := dkwX3_init_2 ++ dktX3_init_3
def dkwX3_init_1 : List UInt8 := [17, 27, 91, 188, 10, 181, 0, 17, 42, 17, 54, 182, 188, 10, 181, 0, 20, 42, 5, 188, 4, 181, 0, 23]
abbrev dktX3_init_1 : List UInt8 := dkwX3_init_1 ++ dktX3_init_2
def dkwX3_init_0 : List UInt8 := [42, 183, 0, 1, 42, 17, 27, 91, 188, 10, 181, 0, 7, 42, 18, 13, 188, 10, 181, 0, 14, 42]
abbrev dktX3_init_0 : List UInt8 := dkwX3_init_0 ++ dktX3_init_1
theorem dksX3_init_0 : cX3_init.data.toList.drop 0 = dktX3_init_0 := by decide +kernel
theorem dksX3_init_1 : cX3_init.data.toList.drop 22 = dktX3_init_1 := dk_seg dksX3_init_0 22 rfl rfl
theorem dksX3_init_2 : cX3_init.data.toList.drop 46 = dktX3_init_2 := dk_seg dksX3_init_1 24 rfl rfl
theorem dksX3_init_3 : cX3_init.data.toList.drop 70 = dktX3_init_3 := dk_seg dksX3_init_2 24 rfl rfl
theorem dksX3_init_4 : cX3_init.data.toList.drop 94 = dktX3_init_4 := dk_seg dksX3_init_3 24 rfl rfl
theorem dX3_init_0 : decode cX3_init 0 = .ok (.aload_n 0, 1) := dk_42 (dk_at dksX3_init_0 0 rfl rfl)
theorem dX3_init_1 : decode cX3_init 1 = .ok (.invokespecial 1, 3) := dk_183 0 1 (dk_at dksX3_init_0 1 rfl rfl)
theorem dX3_init_4 : decode cX3_init 4 = .ok (.aload_n 0, 1) := dk_42 (dk_at dksX3_init_0 4 rfl rfl)
theorem dX3_init_5 : decode cX3_init 5 = .ok (.sipush 7003, 3) := dk_17 27 91 (dk_at dksX3_init_0 5 rfl rfl)
theorem dX3_init_8 : decode cX3_init 8 = .ok (.newarray .int, 2) := dk_188_10 (dk_at dksX3_init_0 8 rfl rfl)
theorem dX3_init_10 : decode cX3_init 10 = .ok (.putfield 7, 3) := dk_181 0 7 (dk_at dksX3_init_0 10 rfl rfl)
theorem dX3_init_13 : decode cX3_init 13 = .ok (.aload_n 0, 1) := dk_42 (dk_at dksX3_init_0 13 rfl rfl)
theorem dX3_init_14 : decode cX3_init 14 = .ok (.ldc 13, 2) := dk_18 13 (dk_at dksX3_init_0 14 rfl rfl)
theorem dX3_init_16 : decode cX3_init 16 = .ok (.newarray .int, 2) := dk_188_10 (dk_at dksX3_init_0 16 rfl rfl)
theorem dX3_init_18 : decode cX3_init 18 = .ok (.putfield 14, 3) := dk_181 0 14 (dk_at dksX3_init_0 18 rfl rfl)
theorem dX3_init_21 : decode cX3_init 21 = .ok (.aload_n 0, 1) := dk_42 (dk_at dksX3_init_0 21 rfl rfl)
theorem dX3_init_22 : decode cX3_init 22 = .ok (.sipush 7003, 3) := dk_17 27 91 (dk_at dksX3_init_1 0 rfl rfl)
theorem dX3_init_25 : decode cX3_init 25 = .ok (.newarray .int, 2) := dk_188_10 (dk_at dksX3_init_1 3 rfl rfl)
theorem dX3_init_27 : decode cX3_init 27 = .ok (.putfield 17, 3) := dk_181 0 17 (dk_at dksX3_init_1 5 rfl rfl)
theorem dX3_init_30 : decode cX3_init 30 = .ok (.aload_n 0, 1) := dk_42 (dk_at dksX3_init_1 8 rfl rfl)
theorem dX3_init_31 : decode cX3_init 31 = .ok (.sipush 14006, 3) := dk_17 54 182 (dk_at dksX3_init_1 9 rfl rfl)
theorem dX3_init_34 : decode cX3_init 34 = .ok (.newarray .int, 2) := dk_188_10 (dk_at dksX3_init_1 12 rfl rfl)
theorem dX3_init_36 : decode cX3_init 36 = .ok (.putfield 20, 3) := dk_181 0 20 (dk_at dksX3_init_1 14 rfl rfl)
theorem dX3_init_39 : decode cX3_init 39 = .ok (.aload_n 0, 1) := dk_42 (dk_at dksX3_init_1 17 rfl rfl)
theorem dX3_init_40 : decode cX3_init 40 = .ok (.iconst 2, 1) := dk_5 (dk_at dksX3_init_1 18 rfl rfl)
theorem dX3_init_41 : decode cX3_init 41 = .ok (.newarray .boolean, 2) := dk_188_4 (dk_at dksX3_init_1 19 rfl rfl)
theorem dX3_init_43 : decode cX3_init 43 = .ok (.putfield 23, 3) := dk_181 0 23 (dk_at dksX3_init_1 21 rfl rfl)
theorem dX3_init_46 : decode cX3_init 46 = .ok (.aload_n 0, 1) := dk_42 (dk_at dksX3_init_2 0 rfl rfl)
theorem dX3_init_47 : decode cX3_init 47 = .ok (.bipush 80, 2) := dk_16 80 (dk_at dksX3_init_2 1 rfl rfl)
theorem dX3_init_49 : decode cX3_init 49 = .ok (.newarray .int, 2) := dk_188_10 (dk_at dksX3_init_2 3 rfl rfl)
theorem dX3_init_51 : decode cX3_init 51 = .ok (.putfield 27, 3) := dk_181 0 27 (dk_at dksX3_init_2 5 rfl rfl)
theorem dX3_init_54 : decode cX3_init 54 = .ok (.aload_n 0, 1) := dk_42 (dk_at dksX3_init_2 8 rfl rfl)
theorem dX3_init_55 : decode cX3_init 55 = .ok (.bipush 8, 2) := dk_16 8 (dk_at dksX3_init_2 9 rfl rfl)
theorem dX3_init_57 : decode cX3_init 57 = .ok (.newarray .int, 2) := dk_188_10 (dk_at dksX3_init_2 11 rfl rfl)
theorem dX3_init_59 : decode cX3_init 59 = .ok (.putfield 30, 3) := dk_181 0 30 (dk_at dksX3_init_2 13 rfl rfl)
theorem dX3_init_62 : decode cX3_init 62 = .ok (.aload_n 0, 1) := dk_42 (dk_at dksX3_init_2 16 rfl rfl)
theorem dX3_init_63 : decode cX3_init 63 = .ok (.bipush 9, 2) := dk_16 9 (dk_at dksX3_init_2 17 rfl rfl)
theorem dX3_init_65 : decode cX3_init 65 = .ok (.newarray .int, 2) := dk_188_10 (dk_at dksX3_init_2 19 rfl rfl)
theorem dX3_init_67 : decode cX3_init 67 = .ok (.putfield 33, 3) := dk_181 0 33 (dk_at dksX3_init_2 21 rfl rfl)
theorem dX3_init_70 : decode cX3_init 70 = .ok (.aload_n 0, 1) := dk_42 (dk_at dksX3_init_3 0 rfl rfl)
theorem dX3_init_71 : decode cX3_init 71 = .ok (.bipush 40, 2) := dk_16 40 (dk_at dksX3_init_3 1 rfl rfl)
theorem dX3_init_73 : decode cX3_init 73 = .ok (.newarray .int, 2) := dk_188_10 (dk_at dksX3_init_3 3 rfl rfl)
theorem dX3_init_75 : decode cX3_init 75 = .ok (.putfield 36, 3) := dk_181 0 36 (dk_at dksX3_init_3 5 rfl rfl)
theorem dX3_init_78 : decode cX3_init 78 = .ok (.aload_n 0, 1) := dk_42 (dk_at dksX3_init_3 8 rfl rfl)
theorem dX3_init_79 : decode cX3_init 79 = .ok (.ldc 39, 2) := dk_18 39 (dk_at dksX3_init_3 9 rfl rfl)
theorem dX3_init_81 : decode cX3_init 81 = .ok (.newarray .int, 2) := dk_188_10 (dk_at dksX3_init_3 11 rfl rfl)
theorem dX3_init_83 : decode cX3_init 83 = .ok (.putfield 40, 3) := dk_181 0 40 (dk_at dksX3_init_3 13 rfl rfl)
theorem dX3_init_86 : decode cX3_init 86 = .ok (.aload_n 0, 1) := dk_42 (dk_at dksX3_init_3 16 rfl rfl)
theorem dX3_init_87 : decode cX3_init 87 = .ok (.iconst 4, 1) := dk_7 (dk_at dksX3_init_3 17 rfl rfl)
theorem dX3_init_88 : decode cX3_init 88 = .ok (.newarray .boolean, 2) := dk_188_4 (dk_at dksX3_init_3 18 rfl rfl)
theorem dX3_init_90 : decode cX3_init 90 = .ok (.putfield 43, 3) := dk_181 0 43 (dk_at dksX3_init_3 20 rfl rfl)
theorem dX3_init_93 : decode cX3_init 93 = .ok (.aload_n 0, 1) := dk_42 (dk_at dksX3_init_3 23 rfl rfl)
theorem dX3_init_94 : decode cX3_init 94 = .ok (.getfield 7, 3) := dk_180 0 7 (dk_at dksX3_init_4 0 rfl rfl)
theorem dX3_init_97 : decode cX3_init 97 = .ok (.iconst 0, 1) := dk_3 (dk_at dksX3_init_4 3 rfl rfl)
theorem dX3_init_98 : decode cX3_init 98 = .ok (.iconst 1, 1) := dk_4 (dk_at dksX3_init_4 4 rfl rfl)
theorem dX3_init_99 : decode cX3_init 99 = .ok (.iastore, 1) := dk_79 (dk_at dksX3_init_4 5 rfl rfl)
theorem dX3_init_100 : decode cX3_init 100 = .ok (.return_, 1) := dk_177 (dk_at dksX3_init_4 6 rfl rfl)
abbrev cX3_undo : ByteArray := prog_8_method_5_code
def yX3_undo : MethodName := ⟨RX3, "undo", "()I"⟩
def dkwX3_undo_2 : List UInt8 := [96, 46, 79, 132, 1, 1, 167, 255, 225, 42, 180, 0, 46, 172]
abbrev dktX3_undo_2 : List UInt8 := dkwX3_undo_2 ++ []
def dkwX3_undo_1 : List UInt8 := [17, 27, 91, 162, 0, 30, 42, 180, 0, 7, 27, 42, 180, 0, 14, 17, 27, 91, 42, 180, 0, 46, 104, 27]
abbrev dktX3_undo_1 : List UInt8 := dkwX3_undo_1 ++ dktX3_undo_2
def dkwX3_undo_0 : List UInt8 := [42, 180, 0, 46, 154, 0, 6, 16, 251, 172, 42, 89, 180, 0, 46, 4, 100, 181, 0, 46, 3, 60, 27]
abbrev dktX3_undo_0 : List UInt8 := dkwX3_undo_0 ++ dktX3_undo_1
theorem dksX3_undo_0 : cX3_undo.data.toList.drop 0 = dktX3_undo_0 := by decide +kernel
theorem dksX3_undo_1 : cX3_undo.data.toList.drop 23 = dktX3_undo_1 := dk_seg dksX3_undo_0 23 rfl rfl
theorem dksX3_undo_2 : cX3_undo.data.toList.drop 47 = dktX3_undo_2 := dk_seg dksX3_undo_1 24 rfl rfl
theorem dX3_undo_0 : decode cX3_undo 0 = .ok (.aload_n 0, 1) := dk_42 (dk_at dksX3_undo_0 0 rfl rfl)
theorem dX3_undo_1 : decode cX3_undo 1 = .ok (.getfield 46, 3) := dk_180 0 46 (dk_at dksX3_undo_0 1 rfl rfl)
theorem dX3_undo_4 : decode cX3_undo 4 = .ok (.ifCond .ne 6, 3) := dk_154 0 6 (dk_at dksX3_undo_0 4 rfl rfl)
theorem dX3_undo_7 : decode cX3_undo 7 = .ok (.bipush (-5), 2) := dk_16 251 (dk_at dksX3_undo_0 7 rfl rfl)
theorem dX3_undo_9 : decode cX3_undo 9 = .ok (.ireturn, 1) := dk_172 (dk_at dksX3_undo_0 9 rfl rfl)
theorem dX3_undo_10 : decode cX3_undo 10 = .ok (.aload_n 0, 1) := dk_42 (dk_at dksX3_undo_0 10 rfl rfl)
theorem dX3_undo_11 : decode cX3_undo 11 = .ok (.dup, 1) := dk_89 (dk_at dksX3_undo_0 11 rfl rfl)
theorem dX3_undo_12 : decode cX3_undo 12 = .ok (.getfield 46, 3) := dk_180 0 46 (dk_at dksX3_undo_0 12 rfl rfl)
theorem dX3_undo_15 : decode cX3_undo 15 = .ok (.iconst 1, 1) := dk_4 (dk_at dksX3_undo_0 15 rfl rfl)
theorem dX3_undo_16 : decode cX3_undo 16 = .ok (.isub, 1) := dk_100 (dk_at dksX3_undo_0 16 rfl rfl)
theorem dX3_undo_17 : decode cX3_undo 17 = .ok (.putfield 46, 3) := dk_181 0 46 (dk_at dksX3_undo_0 17 rfl rfl)
theorem dX3_undo_20 : decode cX3_undo 20 = .ok (.iconst 0, 1) := dk_3 (dk_at dksX3_undo_0 20 rfl rfl)
theorem dX3_undo_21 : decode cX3_undo 21 = .ok (.istore_n 1, 1) := dk_60 (dk_at dksX3_undo_0 21 rfl rfl)
theorem dX3_undo_22 : decode cX3_undo 22 = .ok (.iload_n 1, 1) := dk_27 (dk_at dksX3_undo_0 22 rfl rfl)
theorem dX3_undo_23 : decode cX3_undo 23 = .ok (.sipush 7003, 3) := dk_17 27 91 (dk_at dksX3_undo_1 0 rfl rfl)
theorem dX3_undo_26 : decode cX3_undo 26 = .ok (.if_icmp .ge 30, 3) := dk_162 0 30 (dk_at dksX3_undo_1 3 rfl rfl)
theorem dX3_undo_29 : decode cX3_undo 29 = .ok (.aload_n 0, 1) := dk_42 (dk_at dksX3_undo_1 6 rfl rfl)
theorem dX3_undo_30 : decode cX3_undo 30 = .ok (.getfield 7, 3) := dk_180 0 7 (dk_at dksX3_undo_1 7 rfl rfl)
theorem dX3_undo_33 : decode cX3_undo 33 = .ok (.iload_n 1, 1) := dk_27 (dk_at dksX3_undo_1 10 rfl rfl)
theorem dX3_undo_34 : decode cX3_undo 34 = .ok (.aload_n 0, 1) := dk_42 (dk_at dksX3_undo_1 11 rfl rfl)
theorem dX3_undo_35 : decode cX3_undo 35 = .ok (.getfield 14, 3) := dk_180 0 14 (dk_at dksX3_undo_1 12 rfl rfl)
theorem dX3_undo_38 : decode cX3_undo 38 = .ok (.sipush 7003, 3) := dk_17 27 91 (dk_at dksX3_undo_1 15 rfl rfl)
theorem dX3_undo_41 : decode cX3_undo 41 = .ok (.aload_n 0, 1) := dk_42 (dk_at dksX3_undo_1 18 rfl rfl)
theorem dX3_undo_42 : decode cX3_undo 42 = .ok (.getfield 46, 3) := dk_180 0 46 (dk_at dksX3_undo_1 19 rfl rfl)
theorem dX3_undo_45 : decode cX3_undo 45 = .ok (.imul, 1) := dk_104 (dk_at dksX3_undo_1 22 rfl rfl)
theorem dX3_undo_46 : decode cX3_undo 46 = .ok (.iload_n 1, 1) := dk_27 (dk_at dksX3_undo_1 23 rfl rfl)
theorem dX3_undo_47 : decode cX3_undo 47 = .ok (.iadd, 1) := dk_96 (dk_at dksX3_undo_2 0 rfl rfl)
theorem dX3_undo_48 : decode cX3_undo 48 = .ok (.iaload, 1) := dk_46 (dk_at dksX3_undo_2 1 rfl rfl)
theorem dX3_undo_49 : decode cX3_undo 49 = .ok (.iastore, 1) := dk_79 (dk_at dksX3_undo_2 2 rfl rfl)
theorem dX3_undo_50 : decode cX3_undo 50 = .ok (.iinc 1 1, 3) := dk_132 1 1 (dk_at dksX3_undo_2 3 rfl rfl)
theorem dX3_undo_53 : decode cX3_undo 53 = .ok (.goto (-31), 3) := dk_167 255 225 (dk_at dksX3_undo_2 6 rfl rfl)
theorem dX3_undo_56 : decode cX3_undo 56 = .ok (.aload_n 0, 1) := dk_42 (dk_at dksX3_undo_2 9 rfl rfl)
theorem dX3_undo_57 : decode cX3_undo 57 = .ok (.getfield 46, 3) := dk_180 0 46 (dk_at dksX3_undo_2 10 rfl rfl)
theorem dX3_undo_60 : decode cX3_undo 60 = .ok (.ireturn, 1) := dk_172 (dk_at dksX3_undo_2 13 rfl rfl)
abbrev cX3_save : ByteArray := prog_8_method_6_code
def yX3_save : MethodName := ⟨RX3, "save", "(I)I"⟩
def dkwX3_save_2 : List UInt8 := [180, 0, 23, 27, 4, 84, 42, 180, 0, 7, 5, 46, 172]
abbrev dktX3_save_2 : List UInt8 := dkwX3_save_2 ++ []
def dkwX3_save_1 : List UInt8 := [180, 0, 20, 17, 27, 91, 27, 104, 28, 96, 42, 180, 0, 7, 28, 46, 79, 132, 2, 1, 167, 255, 228, 42]
abbrev dktX3_save_1 : List UInt8 := dkwX3_save_1 ++ dktX3_save_2
def dkwX3_save_0 : List UInt8 := [27, 133, 3, 4, 184, 0, 51, 154, 0, 6, 16, 254, 172, 3, 61, 28, 17, 27, 91, 162, 0, 27, 42]
abbrev dktX3_save_0 : List UInt8 := dkwX3_save_0 ++ dktX3_save_1
theorem dksX3_save_0 : cX3_save.data.toList.drop 0 = dktX3_save_0 := by decide +kernel
theorem dksX3_save_1 : cX3_save.data.toList.drop 23 = dktX3_save_1 := dk_seg dksX3_save_0 23 rfl rfl
theorem dksX3_save_2 : cX3_save.data.toList.drop 47 = dktX3_save_2 := dk_seg dksX3_save_1 24 rfl rfl
theorem dX3_save_0 : decode cX3_save 0 = .ok (.iload_n 1, 1) := dk_27 (dk_at dksX3_save_0 0 rfl rfl)
theorem dX3_save_1 : decode cX3_save 1 = .ok (.i2l, 1) := dk_133 (dk_at dksX3_save_0 1 rfl rfl)
theorem dX3_save_2 : decode cX3_save 2 = .ok (.iconst 0, 1) := dk_3 (dk_at dksX3_save_0 2 rfl rfl)
theorem dX3_save_3 : decode cX3_save 3 = .ok (.iconst 1, 1) := dk_4 (dk_at dksX3_save_0 3 rfl rfl)
theorem dX3_save_4 : decode cX3_save 4 = .ok (.invokestatic 51, 3) := dk_184 0 51 (dk_at dksX3_save_0 4 rfl rfl)
theorem dX3_save_7 : decode cX3_save 7 = .ok (.ifCond .ne 6, 3) := dk_154 0 6 (dk_at dksX3_save_0 7 rfl rfl)
theorem dX3_save_10 : decode cX3_save 10 = .ok (.bipush (-2), 2) := dk_16 254 (dk_at dksX3_save_0 10 rfl rfl)
theorem dX3_save_12 : decode cX3_save 12 = .ok (.ireturn, 1) := dk_172 (dk_at dksX3_save_0 12 rfl rfl)
theorem dX3_save_13 : decode cX3_save 13 = .ok (.iconst 0, 1) := dk_3 (dk_at dksX3_save_0 13 rfl rfl)
theorem dX3_save_14 : decode cX3_save 14 = .ok (.istore_n 2, 1) := dk_61 (dk_at dksX3_save_0 14 rfl rfl)
theorem dX3_save_15 : decode cX3_save 15 = .ok (.iload_n 2, 1) := dk_28 (dk_at dksX3_save_0 15 rfl rfl)
theorem dX3_save_16 : decode cX3_save 16 = .ok (.sipush 7003, 3) := dk_17 27 91 (dk_at dksX3_save_0 16 rfl rfl)
theorem dX3_save_19 : decode cX3_save 19 = .ok (.if_icmp .ge 27, 3) := dk_162 0 27 (dk_at dksX3_save_0 19 rfl rfl)
theorem dX3_save_22 : decode cX3_save 22 = .ok (.aload_n 0, 1) := dk_42 (dk_at dksX3_save_0 22 rfl rfl)
theorem dX3_save_23 : decode cX3_save 23 = .ok (.getfield 20, 3) := dk_180 0 20 (dk_at dksX3_save_1 0 rfl rfl)
theorem dX3_save_26 : decode cX3_save 26 = .ok (.sipush 7003, 3) := dk_17 27 91 (dk_at dksX3_save_1 3 rfl rfl)
theorem dX3_save_29 : decode cX3_save 29 = .ok (.iload_n 1, 1) := dk_27 (dk_at dksX3_save_1 6 rfl rfl)
theorem dX3_save_30 : decode cX3_save 30 = .ok (.imul, 1) := dk_104 (dk_at dksX3_save_1 7 rfl rfl)
theorem dX3_save_31 : decode cX3_save 31 = .ok (.iload_n 2, 1) := dk_28 (dk_at dksX3_save_1 8 rfl rfl)
theorem dX3_save_32 : decode cX3_save 32 = .ok (.iadd, 1) := dk_96 (dk_at dksX3_save_1 9 rfl rfl)
theorem dX3_save_33 : decode cX3_save 33 = .ok (.aload_n 0, 1) := dk_42 (dk_at dksX3_save_1 10 rfl rfl)
theorem dX3_save_34 : decode cX3_save 34 = .ok (.getfield 7, 3) := dk_180 0 7 (dk_at dksX3_save_1 11 rfl rfl)
theorem dX3_save_37 : decode cX3_save 37 = .ok (.iload_n 2, 1) := dk_28 (dk_at dksX3_save_1 14 rfl rfl)
theorem dX3_save_38 : decode cX3_save 38 = .ok (.iaload, 1) := dk_46 (dk_at dksX3_save_1 15 rfl rfl)
theorem dX3_save_39 : decode cX3_save 39 = .ok (.iastore, 1) := dk_79 (dk_at dksX3_save_1 16 rfl rfl)
theorem dX3_save_40 : decode cX3_save 40 = .ok (.iinc 2 1, 3) := dk_132 2 1 (dk_at dksX3_save_1 17 rfl rfl)
theorem dX3_save_43 : decode cX3_save 43 = .ok (.goto (-28), 3) := dk_167 255 228 (dk_at dksX3_save_1 20 rfl rfl)
theorem dX3_save_46 : decode cX3_save 46 = .ok (.aload_n 0, 1) := dk_42 (dk_at dksX3_save_1 23 rfl rfl)
theorem dX3_save_47 : decode cX3_save 47 = .ok (.getfield 23, 3) := dk_180 0 23 (dk_at dksX3_save_2 0 rfl rfl)
theorem dX3_save_50 : decode cX3_save 50 = .ok (.iload_n 1, 1) := dk_27 (dk_at dksX3_save_2 3 rfl rfl)
theorem dX3_save_51 : decode cX3_save 51 = .ok (.iconst 1, 1) := dk_4 (dk_at dksX3_save_2 4 rfl rfl)
theorem dX3_save_52 : decode cX3_save 52 = .ok (.bastore, 1) := dk_84 (dk_at dksX3_save_2 5 rfl rfl)
theorem dX3_save_53 : decode cX3_save 53 = .ok (.aload_n 0, 1) := dk_42 (dk_at dksX3_save_2 6 rfl rfl)
theorem dX3_save_54 : decode cX3_save 54 = .ok (.getfield 7, 3) := dk_180 0 7 (dk_at dksX3_save_2 7 rfl rfl)
theorem dX3_save_57 : decode cX3_save 57 = .ok (.iconst 2, 1) := dk_5 (dk_at dksX3_save_2 10 rfl rfl)
theorem dX3_save_58 : decode cX3_save 58 = .ok (.iaload, 1) := dk_46 (dk_at dksX3_save_2 11 rfl rfl)
theorem dX3_save_59 : decode cX3_save 59 = .ok (.ireturn, 1) := dk_172 (dk_at dksX3_save_2 12 rfl rfl)
abbrev cX3_in : ByteArray := prog_8_method_2_code
def yX3_in : MethodName := ⟨RX3, "in", "(JII)Z"⟩
def dkwX3_in_0 : List UInt8 := [30, 28, 133, 148, 155, 0, 14, 30, 29, 133, 148, 157, 0, 7, 4, 167, 0, 4, 3, 172]
abbrev dktX3_in_0 : List UInt8 := dkwX3_in_0 ++ []
theorem dksX3_in_0 : cX3_in.data.toList.drop 0 = dktX3_in_0 := by decide +kernel
theorem dX3_in_0 : decode cX3_in 0 = .ok (.lload_n 0, 1) := dk_30 (dk_at dksX3_in_0 0 rfl rfl)
theorem dX3_in_1 : decode cX3_in 1 = .ok (.iload_n 2, 1) := dk_28 (dk_at dksX3_in_0 1 rfl rfl)
theorem dX3_in_2 : decode cX3_in 2 = .ok (.i2l, 1) := dk_133 (dk_at dksX3_in_0 2 rfl rfl)
theorem dX3_in_3 : decode cX3_in 3 = .ok (.lcmp, 1) := dk_148 (dk_at dksX3_in_0 3 rfl rfl)
theorem dX3_in_4 : decode cX3_in 4 = .ok (.ifCond .lt 14, 3) := dk_155 0 14 (dk_at dksX3_in_0 4 rfl rfl)
theorem dX3_in_7 : decode cX3_in 7 = .ok (.lload_n 0, 1) := dk_30 (dk_at dksX3_in_0 7 rfl rfl)
theorem dX3_in_8 : decode cX3_in 8 = .ok (.iload_n 3, 1) := dk_29 (dk_at dksX3_in_0 8 rfl rfl)
theorem dX3_in_9 : decode cX3_in 9 = .ok (.i2l, 1) := dk_133 (dk_at dksX3_in_0 9 rfl rfl)
theorem dX3_in_10 : decode cX3_in 10 = .ok (.lcmp, 1) := dk_148 (dk_at dksX3_in_0 10 rfl rfl)
theorem dX3_in_11 : decode cX3_in 11 = .ok (.ifCond .gt 7, 3) := dk_157 0 7 (dk_at dksX3_in_0 11 rfl rfl)
theorem dX3_in_14 : decode cX3_in 14 = .ok (.iconst 1, 1) := dk_4 (dk_at dksX3_in_0 14 rfl rfl)
theorem dX3_in_15 : decode cX3_in 15 = .ok (.goto 4, 3) := dk_167 0 4 (dk_at dksX3_in_0 15 rfl rfl)
theorem dX3_in_18 : decode cX3_in 18 = .ok (.iconst 0, 1) := dk_3 (dk_at dksX3_in_0 18 rfl rfl)
theorem dX3_in_19 : decode cX3_in 19 = .ok (.ireturn, 1) := dk_172 (dk_at dksX3_in_0 19 rfl rfl)
abbrev cX3_restore : ByteArray := prog_8_method_7_code
def yX3_restore : MethodName := ⟨RX3, "restore", "(I)I"⟩
def dkwX3_restore_3 : List UInt8 := [182, 0, 58, 172]
abbrev dktX3_restore_3 : List UInt8 := dkwX3_restore_3 ++ []
def dkwX3_restore_2 : List UInt8 := [17, 27, 91, 27, 104, 28, 96, 46, 79, 132, 2, 1, 167, 255, 228, 42, 42, 180, 0, 7, 5, 46]
abbrev dktX3_restore_2 : List UInt8 := dkwX3_restore_2 ++ dktX3_restore_3
def dkwX3_restore_1 : List UInt8 := [172, 42, 182, 0, 55, 3, 61, 28, 17, 27, 91, 162, 0, 27, 42, 180, 0, 7, 28, 42, 180, 0, 20]
abbrev dktX3_restore_1 : List UInt8 := dkwX3_restore_1 ++ dktX3_restore_2
def dkwX3_restore_0 : List UInt8 := [27, 133, 3, 4, 184, 0, 51, 154, 0, 6, 16, 254, 172, 42, 180, 0, 23, 27, 51, 154, 0, 6, 16, 251]
abbrev dktX3_restore_0 : List UInt8 := dkwX3_restore_0 ++ dktX3_restore_1
theorem dksX3_restore_0 : cX3_restore.data.toList.drop 0 = dktX3_restore_0 := by decide +kernel
theorem dksX3_restore_1 : cX3_restore.data.toList.drop 24 = dktX3_restore_1 := dk_seg dksX3_restore_0 24 rfl rfl
theorem dksX3_restore_2 : cX3_restore.data.toList.drop 47 = dktX3_restore_2 := dk_seg dksX3_restore_1 23 rfl rfl
theorem dksX3_restore_3 : cX3_restore.data.toList.drop 69 = dktX3_restore_3 := dk_seg dksX3_restore_2 22 rfl rfl
theorem dX3_restore_0 : decode cX3_restore 0 = .ok (.iload_n 1, 1) := dk_27 (dk_at dksX3_restore_0 0 rfl rfl)
theorem dX3_restore_1 : decode cX3_restore 1 = .ok (.i2l, 1) := dk_133 (dk_at dksX3_restore_0 1 rfl rfl)
theorem dX3_restore_2 : decode cX3_restore 2 = .ok (.iconst 0, 1) := dk_3 (dk_at dksX3_restore_0 2 rfl rfl)
theorem dX3_restore_3 : decode cX3_restore 3 = .ok (.iconst 1, 1) := dk_4 (dk_at dksX3_restore_0 3 rfl rfl)
theorem dX3_restore_4 : decode cX3_restore 4 = .ok (.invokestatic 51, 3) := dk_184 0 51 (dk_at dksX3_restore_0 4 rfl rfl)
theorem dX3_restore_7 : decode cX3_restore 7 = .ok (.ifCond .ne 6, 3) := dk_154 0 6 (dk_at dksX3_restore_0 7 rfl rfl)
theorem dX3_restore_10 : decode cX3_restore 10 = .ok (.bipush (-2), 2) := dk_16 254 (dk_at dksX3_restore_0 10 rfl rfl)
theorem dX3_restore_12 : decode cX3_restore 12 = .ok (.ireturn, 1) := dk_172 (dk_at dksX3_restore_0 12 rfl rfl)
theorem dX3_restore_13 : decode cX3_restore 13 = .ok (.aload_n 0, 1) := dk_42 (dk_at dksX3_restore_0 13 rfl rfl)
theorem dX3_restore_14 : decode cX3_restore 14 = .ok (.getfield 23, 3) := dk_180 0 23 (dk_at dksX3_restore_0 14 rfl rfl)
theorem dX3_restore_17 : decode cX3_restore 17 = .ok (.iload_n 1, 1) := dk_27 (dk_at dksX3_restore_0 17 rfl rfl)
theorem dX3_restore_18 : decode cX3_restore 18 = .ok (.baload, 1) := dk_51 (dk_at dksX3_restore_0 18 rfl rfl)
theorem dX3_restore_19 : decode cX3_restore 19 = .ok (.ifCond .ne 6, 3) := dk_154 0 6 (dk_at dksX3_restore_0 19 rfl rfl)
theorem dX3_restore_22 : decode cX3_restore 22 = .ok (.bipush (-5), 2) := dk_16 251 (dk_at dksX3_restore_0 22 rfl rfl)
theorem dX3_restore_24 : decode cX3_restore 24 = .ok (.ireturn, 1) := dk_172 (dk_at dksX3_restore_1 0 rfl rfl)
theorem dX3_restore_25 : decode cX3_restore 25 = .ok (.aload_n 0, 1) := dk_42 (dk_at dksX3_restore_1 1 rfl rfl)
theorem dX3_restore_26 : decode cX3_restore 26 = .ok (.invokevirtual 55, 3) := dk_182 0 55 (dk_at dksX3_restore_1 2 rfl rfl)
theorem dX3_restore_29 : decode cX3_restore 29 = .ok (.iconst 0, 1) := dk_3 (dk_at dksX3_restore_1 5 rfl rfl)
theorem dX3_restore_30 : decode cX3_restore 30 = .ok (.istore_n 2, 1) := dk_61 (dk_at dksX3_restore_1 6 rfl rfl)
theorem dX3_restore_31 : decode cX3_restore 31 = .ok (.iload_n 2, 1) := dk_28 (dk_at dksX3_restore_1 7 rfl rfl)
theorem dX3_restore_32 : decode cX3_restore 32 = .ok (.sipush 7003, 3) := dk_17 27 91 (dk_at dksX3_restore_1 8 rfl rfl)
theorem dX3_restore_35 : decode cX3_restore 35 = .ok (.if_icmp .ge 27, 3) := dk_162 0 27 (dk_at dksX3_restore_1 11 rfl rfl)
theorem dX3_restore_38 : decode cX3_restore 38 = .ok (.aload_n 0, 1) := dk_42 (dk_at dksX3_restore_1 14 rfl rfl)
theorem dX3_restore_39 : decode cX3_restore 39 = .ok (.getfield 7, 3) := dk_180 0 7 (dk_at dksX3_restore_1 15 rfl rfl)
theorem dX3_restore_42 : decode cX3_restore 42 = .ok (.iload_n 2, 1) := dk_28 (dk_at dksX3_restore_1 18 rfl rfl)
theorem dX3_restore_43 : decode cX3_restore 43 = .ok (.aload_n 0, 1) := dk_42 (dk_at dksX3_restore_1 19 rfl rfl)
theorem dX3_restore_44 : decode cX3_restore 44 = .ok (.getfield 20, 3) := dk_180 0 20 (dk_at dksX3_restore_1 20 rfl rfl)
theorem dX3_restore_47 : decode cX3_restore 47 = .ok (.sipush 7003, 3) := dk_17 27 91 (dk_at dksX3_restore_2 0 rfl rfl)
theorem dX3_restore_50 : decode cX3_restore 50 = .ok (.iload_n 1, 1) := dk_27 (dk_at dksX3_restore_2 3 rfl rfl)
theorem dX3_restore_51 : decode cX3_restore 51 = .ok (.imul, 1) := dk_104 (dk_at dksX3_restore_2 4 rfl rfl)
theorem dX3_restore_52 : decode cX3_restore 52 = .ok (.iload_n 2, 1) := dk_28 (dk_at dksX3_restore_2 5 rfl rfl)
theorem dX3_restore_53 : decode cX3_restore 53 = .ok (.iadd, 1) := dk_96 (dk_at dksX3_restore_2 6 rfl rfl)
theorem dX3_restore_54 : decode cX3_restore 54 = .ok (.iaload, 1) := dk_46 (dk_at dksX3_restore_2 7 rfl rfl)
theorem dX3_restore_55 : decode cX3_restore 55 = .ok (.iastore, 1) := dk_79 (dk_at dksX3_restore_2 8 rfl rfl)
theorem dX3_restore_56 : decode cX3_restore 56 = .ok (.iinc 2 1, 3) := dk_132 2 1 (dk_at dksX3_restore_2 9 rfl rfl)
theorem dX3_restore_59 : decode cX3_restore 59 = .ok (.goto (-28), 3) := dk_167 255 228 (dk_at dksX3_restore_2 12 rfl rfl)
theorem dX3_restore_62 : decode cX3_restore 62 = .ok (.aload_n 0, 1) := dk_42 (dk_at dksX3_restore_2 15 rfl rfl)
theorem dX3_restore_63 : decode cX3_restore 63 = .ok (.aload_n 0, 1) := dk_42 (dk_at dksX3_restore_2 16 rfl rfl)
theorem dX3_restore_64 : decode cX3_restore 64 = .ok (.getfield 7, 3) := dk_180 0 7 (dk_at dksX3_restore_2 17 rfl rfl)
theorem dX3_restore_67 : decode cX3_restore 67 = .ok (.iconst 2, 1) := dk_5 (dk_at dksX3_restore_2 20 rfl rfl)
theorem dX3_restore_68 : decode cX3_restore 68 = .ok (.iaload, 1) := dk_46 (dk_at dksX3_restore_2 21 rfl rfl)
theorem dX3_restore_69 : decode cX3_restore 69 = .ok (.invokevirtual 58, 3) := dk_182 0 58 (dk_at dksX3_restore_3 0 rfl rfl)
theorem dX3_restore_72 : decode cX3_restore 72 = .ok (.ireturn, 1) := dk_172 (dk_at dksX3_restore_3 3 rfl rfl)
abbrev cX3_remember : ByteArray := prog_8_method_3_code
def yX3_remember : MethodName := ⟨RX3, "remember", "()V"⟩
def dkwX3_remember_1 : List UInt8 := [167, 255, 234, 177]
abbrev dktX3_remember_1 : List UInt8 := dkwX3_remember_1 ++ []
def dkwX3_remember_0 : List UInt8 := [3, 60, 27, 17, 27, 91, 162, 0, 21, 42, 180, 0, 17, 27, 42, 180, 0, 7, 27, 46, 79, 132, 1, 1]
abbrev dktX3_remember_0 : List UInt8 := dkwX3_remember_0 ++ dktX3_remember_1
theorem dksX3_remember_0 : cX3_remember.data.toList.drop 0 = dktX3_remember_0 := by decide +kernel
theorem dksX3_remember_1 : cX3_remember.data.toList.drop 24 = dktX3_remember_1 := dk_seg dksX3_remember_0 24 rfl rfl
theorem dX3_remember_0 : decode cX3_remember 0 = .ok (.iconst 0, 1) := dk_3 (dk_at dksX3_remember_0 0 rfl rfl)
theorem dX3_remember_1 : decode cX3_remember 1 = .ok (.istore_n 1, 1) := dk_60 (dk_at dksX3_remember_0 1 rfl rfl)
theorem dX3_remember_2 : decode cX3_remember 2 = .ok (.iload_n 1, 1) := dk_27 (dk_at dksX3_remember_0 2 rfl rfl)
theorem dX3_remember_3 : decode cX3_remember 3 = .ok (.sipush 7003, 3) := dk_17 27 91 (dk_at dksX3_remember_0 3 rfl rfl)
theorem dX3_remember_6 : decode cX3_remember 6 = .ok (.if_icmp .ge 21, 3) := dk_162 0 21 (dk_at dksX3_remember_0 6 rfl rfl)
theorem dX3_remember_9 : decode cX3_remember 9 = .ok (.aload_n 0, 1) := dk_42 (dk_at dksX3_remember_0 9 rfl rfl)
theorem dX3_remember_10 : decode cX3_remember 10 = .ok (.getfield 17, 3) := dk_180 0 17 (dk_at dksX3_remember_0 10 rfl rfl)
theorem dX3_remember_13 : decode cX3_remember 13 = .ok (.iload_n 1, 1) := dk_27 (dk_at dksX3_remember_0 13 rfl rfl)
theorem dX3_remember_14 : decode cX3_remember 14 = .ok (.aload_n 0, 1) := dk_42 (dk_at dksX3_remember_0 14 rfl rfl)
theorem dX3_remember_15 : decode cX3_remember 15 = .ok (.getfield 7, 3) := dk_180 0 7 (dk_at dksX3_remember_0 15 rfl rfl)
theorem dX3_remember_18 : decode cX3_remember 18 = .ok (.iload_n 1, 1) := dk_27 (dk_at dksX3_remember_0 18 rfl rfl)
theorem dX3_remember_19 : decode cX3_remember 19 = .ok (.iaload, 1) := dk_46 (dk_at dksX3_remember_0 19 rfl rfl)
theorem dX3_remember_20 : decode cX3_remember 20 = .ok (.iastore, 1) := dk_79 (dk_at dksX3_remember_0 20 rfl rfl)
theorem dX3_remember_21 : decode cX3_remember 21 = .ok (.iinc 1 1, 3) := dk_132 1 1 (dk_at dksX3_remember_0 21 rfl rfl)
theorem dX3_remember_24 : decode cX3_remember 24 = .ok (.goto (-22), 3) := dk_167 255 234 (dk_at dksX3_remember_1 0 rfl rfl)
theorem dX3_remember_27 : decode cX3_remember 27 = .ok (.return_, 1) := dk_177 (dk_at dksX3_remember_1 3 rfl rfl)
abbrev cX3_record : ByteArray := prog_8_method_4_code
def yX3_record : MethodName := ⟨RX3, "record", "(I)I"⟩
def dkwX3_record_4 : List UInt8 := [180, 0, 46, 4, 96, 181, 0, 46, 27, 172]
abbrev dktX3_record_4 : List UInt8 := dkwX3_record_4 ++ []
def dkwX3_record_3 : List UInt8 := [42, 180, 0, 46, 104, 28, 96, 42, 180, 0, 17, 28, 46, 79, 132, 2, 1, 167, 255, 225, 42, 89]
abbrev dktX3_record_3 : List UInt8 := dkwX3_record_3 ++ dktX3_record_4
def dkwX3_record_2 : List UInt8 := [180, 0, 46, 4, 100, 181, 0, 46, 3, 61, 28, 17, 27, 91, 162, 0, 30, 42, 180, 0, 14, 17, 27, 91]
abbrev dktX3_record_2 : List UInt8 := dkwX3_record_2 ++ dktX3_record_3
def dkwX3_record_1 : List UInt8 := [180, 0, 14, 28, 42, 180, 0, 14, 17, 27, 91, 28, 96, 46, 79, 132, 2, 1, 167, 255, 231, 42, 89]
abbrev dktX3_record_1 : List UInt8 := dkwX3_record_1 ++ dktX3_record_2
def dkwX3_record_0 : List UInt8 := [27, 156, 0, 5, 27, 172, 42, 180, 0, 46, 16, 6, 160, 0, 43, 3, 61, 28, 18, 50, 162, 0, 25, 42]
abbrev dktX3_record_0 : List UInt8 := dkwX3_record_0 ++ dktX3_record_1
theorem dksX3_record_0 : cX3_record.data.toList.drop 0 = dktX3_record_0 := by decide +kernel
theorem dksX3_record_1 : cX3_record.data.toList.drop 24 = dktX3_record_1 := dk_seg dksX3_record_0 24 rfl rfl
theorem dksX3_record_2 : cX3_record.data.toList.drop 47 = dktX3_record_2 := dk_seg dksX3_record_1 23 rfl rfl
theorem dksX3_record_3 : cX3_record.data.toList.drop 71 = dktX3_record_3 := dk_seg dksX3_record_2 24 rfl rfl
theorem dksX3_record_4 : cX3_record.data.toList.drop 93 = dktX3_record_4 := dk_seg dksX3_record_3 22 rfl rfl
theorem dX3_record_0 : decode cX3_record 0 = .ok (.iload_n 1, 1) := dk_27 (dk_at dksX3_record_0 0 rfl rfl)
theorem dX3_record_1 : decode cX3_record 1 = .ok (.ifCond .ge 5, 3) := dk_156 0 5 (dk_at dksX3_record_0 1 rfl rfl)
theorem dX3_record_4 : decode cX3_record 4 = .ok (.iload_n 1, 1) := dk_27 (dk_at dksX3_record_0 4 rfl rfl)
theorem dX3_record_5 : decode cX3_record 5 = .ok (.ireturn, 1) := dk_172 (dk_at dksX3_record_0 5 rfl rfl)
theorem dX3_record_6 : decode cX3_record 6 = .ok (.aload_n 0, 1) := dk_42 (dk_at dksX3_record_0 6 rfl rfl)
theorem dX3_record_7 : decode cX3_record 7 = .ok (.getfield 46, 3) := dk_180 0 46 (dk_at dksX3_record_0 7 rfl rfl)
theorem dX3_record_10 : decode cX3_record 10 = .ok (.bipush 6, 2) := dk_16 6 (dk_at dksX3_record_0 10 rfl rfl)
theorem dX3_record_12 : decode cX3_record 12 = .ok (.if_icmp .ne 43, 3) := dk_160 0 43 (dk_at dksX3_record_0 12 rfl rfl)
theorem dX3_record_15 : decode cX3_record 15 = .ok (.iconst 0, 1) := dk_3 (dk_at dksX3_record_0 15 rfl rfl)
theorem dX3_record_16 : decode cX3_record 16 = .ok (.istore_n 2, 1) := dk_61 (dk_at dksX3_record_0 16 rfl rfl)
theorem dX3_record_17 : decode cX3_record 17 = .ok (.iload_n 2, 1) := dk_28 (dk_at dksX3_record_0 17 rfl rfl)
theorem dX3_record_18 : decode cX3_record 18 = .ok (.ldc 50, 2) := dk_18 50 (dk_at dksX3_record_0 18 rfl rfl)
theorem dX3_record_20 : decode cX3_record 20 = .ok (.if_icmp .ge 25, 3) := dk_162 0 25 (dk_at dksX3_record_0 20 rfl rfl)
theorem dX3_record_23 : decode cX3_record 23 = .ok (.aload_n 0, 1) := dk_42 (dk_at dksX3_record_0 23 rfl rfl)
theorem dX3_record_24 : decode cX3_record 24 = .ok (.getfield 14, 3) := dk_180 0 14 (dk_at dksX3_record_1 0 rfl rfl)
theorem dX3_record_27 : decode cX3_record 27 = .ok (.iload_n 2, 1) := dk_28 (dk_at dksX3_record_1 3 rfl rfl)
theorem dX3_record_28 : decode cX3_record 28 = .ok (.aload_n 0, 1) := dk_42 (dk_at dksX3_record_1 4 rfl rfl)
theorem dX3_record_29 : decode cX3_record 29 = .ok (.getfield 14, 3) := dk_180 0 14 (dk_at dksX3_record_1 5 rfl rfl)
theorem dX3_record_32 : decode cX3_record 32 = .ok (.sipush 7003, 3) := dk_17 27 91 (dk_at dksX3_record_1 8 rfl rfl)
theorem dX3_record_35 : decode cX3_record 35 = .ok (.iload_n 2, 1) := dk_28 (dk_at dksX3_record_1 11 rfl rfl)
theorem dX3_record_36 : decode cX3_record 36 = .ok (.iadd, 1) := dk_96 (dk_at dksX3_record_1 12 rfl rfl)
theorem dX3_record_37 : decode cX3_record 37 = .ok (.iaload, 1) := dk_46 (dk_at dksX3_record_1 13 rfl rfl)
theorem dX3_record_38 : decode cX3_record 38 = .ok (.iastore, 1) := dk_79 (dk_at dksX3_record_1 14 rfl rfl)
theorem dX3_record_39 : decode cX3_record 39 = .ok (.iinc 2 1, 3) := dk_132 2 1 (dk_at dksX3_record_1 15 rfl rfl)
theorem dX3_record_42 : decode cX3_record 42 = .ok (.goto (-25), 3) := dk_167 255 231 (dk_at dksX3_record_1 18 rfl rfl)
theorem dX3_record_45 : decode cX3_record 45 = .ok (.aload_n 0, 1) := dk_42 (dk_at dksX3_record_1 21 rfl rfl)
theorem dX3_record_46 : decode cX3_record 46 = .ok (.dup, 1) := dk_89 (dk_at dksX3_record_1 22 rfl rfl)
theorem dX3_record_47 : decode cX3_record 47 = .ok (.getfield 46, 3) := dk_180 0 46 (dk_at dksX3_record_2 0 rfl rfl)
theorem dX3_record_50 : decode cX3_record 50 = .ok (.iconst 1, 1) := dk_4 (dk_at dksX3_record_2 3 rfl rfl)
theorem dX3_record_51 : decode cX3_record 51 = .ok (.isub, 1) := dk_100 (dk_at dksX3_record_2 4 rfl rfl)
theorem dX3_record_52 : decode cX3_record 52 = .ok (.putfield 46, 3) := dk_181 0 46 (dk_at dksX3_record_2 5 rfl rfl)
theorem dX3_record_55 : decode cX3_record 55 = .ok (.iconst 0, 1) := dk_3 (dk_at dksX3_record_2 8 rfl rfl)
theorem dX3_record_56 : decode cX3_record 56 = .ok (.istore_n 2, 1) := dk_61 (dk_at dksX3_record_2 9 rfl rfl)
theorem dX3_record_57 : decode cX3_record 57 = .ok (.iload_n 2, 1) := dk_28 (dk_at dksX3_record_2 10 rfl rfl)
theorem dX3_record_58 : decode cX3_record 58 = .ok (.sipush 7003, 3) := dk_17 27 91 (dk_at dksX3_record_2 11 rfl rfl)
theorem dX3_record_61 : decode cX3_record 61 = .ok (.if_icmp .ge 30, 3) := dk_162 0 30 (dk_at dksX3_record_2 14 rfl rfl)
theorem dX3_record_64 : decode cX3_record 64 = .ok (.aload_n 0, 1) := dk_42 (dk_at dksX3_record_2 17 rfl rfl)
theorem dX3_record_65 : decode cX3_record 65 = .ok (.getfield 14, 3) := dk_180 0 14 (dk_at dksX3_record_2 18 rfl rfl)
theorem dX3_record_68 : decode cX3_record 68 = .ok (.sipush 7003, 3) := dk_17 27 91 (dk_at dksX3_record_2 21 rfl rfl)
theorem dX3_record_71 : decode cX3_record 71 = .ok (.aload_n 0, 1) := dk_42 (dk_at dksX3_record_3 0 rfl rfl)
theorem dX3_record_72 : decode cX3_record 72 = .ok (.getfield 46, 3) := dk_180 0 46 (dk_at dksX3_record_3 1 rfl rfl)
theorem dX3_record_75 : decode cX3_record 75 = .ok (.imul, 1) := dk_104 (dk_at dksX3_record_3 4 rfl rfl)
theorem dX3_record_76 : decode cX3_record 76 = .ok (.iload_n 2, 1) := dk_28 (dk_at dksX3_record_3 5 rfl rfl)
theorem dX3_record_77 : decode cX3_record 77 = .ok (.iadd, 1) := dk_96 (dk_at dksX3_record_3 6 rfl rfl)
theorem dX3_record_78 : decode cX3_record 78 = .ok (.aload_n 0, 1) := dk_42 (dk_at dksX3_record_3 7 rfl rfl)
theorem dX3_record_79 : decode cX3_record 79 = .ok (.getfield 17, 3) := dk_180 0 17 (dk_at dksX3_record_3 8 rfl rfl)
theorem dX3_record_82 : decode cX3_record 82 = .ok (.iload_n 2, 1) := dk_28 (dk_at dksX3_record_3 11 rfl rfl)
theorem dX3_record_83 : decode cX3_record 83 = .ok (.iaload, 1) := dk_46 (dk_at dksX3_record_3 12 rfl rfl)
theorem dX3_record_84 : decode cX3_record 84 = .ok (.iastore, 1) := dk_79 (dk_at dksX3_record_3 13 rfl rfl)
theorem dX3_record_85 : decode cX3_record 85 = .ok (.iinc 2 1, 3) := dk_132 2 1 (dk_at dksX3_record_3 14 rfl rfl)
theorem dX3_record_88 : decode cX3_record 88 = .ok (.goto (-31), 3) := dk_167 255 225 (dk_at dksX3_record_3 17 rfl rfl)
theorem dX3_record_91 : decode cX3_record 91 = .ok (.aload_n 0, 1) := dk_42 (dk_at dksX3_record_3 20 rfl rfl)
theorem dX3_record_92 : decode cX3_record 92 = .ok (.dup, 1) := dk_89 (dk_at dksX3_record_3 21 rfl rfl)
theorem dX3_record_93 : decode cX3_record 93 = .ok (.getfield 46, 3) := dk_180 0 46 (dk_at dksX3_record_4 0 rfl rfl)
theorem dX3_record_96 : decode cX3_record 96 = .ok (.iconst 1, 1) := dk_4 (dk_at dksX3_record_4 3 rfl rfl)
theorem dX3_record_97 : decode cX3_record 97 = .ok (.iadd, 1) := dk_96 (dk_at dksX3_record_4 4 rfl rfl)
theorem dX3_record_98 : decode cX3_record 98 = .ok (.putfield 46, 3) := dk_181 0 46 (dk_at dksX3_record_4 5 rfl rfl)
theorem dX3_record_101 : decode cX3_record 101 = .ok (.iload_n 1, 1) := dk_27 (dk_at dksX3_record_4 8 rfl rfl)
theorem dX3_record_102 : decode cX3_record 102 = .ok (.ireturn, 1) := dk_172 (dk_at dksX3_record_4 9 rfl rfl)
abbrev cX3_set : ByteArray := prog_8_method_35_code
def yX3_set : MethodName := ⟨RX3, "set", "(II)I"⟩
def dkwX3_set_2 : List UInt8 := [182, 0, 58, 172]
abbrev dktX3_set_2 : List UInt8 := dkwX3_set_2 ++ []
def dkwX3_set_1 : List UInt8 := [182, 0, 55, 42, 180, 0, 7, 27, 46, 62, 42, 180, 0, 7, 27, 28, 79, 42, 182, 0, 143, 42, 29]
abbrev dktX3_set_1 : List UInt8 := dkwX3_set_1 ++ dktX3_set_2
def dkwX3_set_0 : List UInt8 := [27, 133, 3, 4, 184, 0, 51, 153, 0, 13, 28, 133, 3, 4, 184, 0, 51, 154, 0, 6, 16, 254, 172, 42]
abbrev dktX3_set_0 : List UInt8 := dkwX3_set_0 ++ dktX3_set_1
theorem dksX3_set_0 : cX3_set.data.toList.drop 0 = dktX3_set_0 := by decide +kernel
theorem dksX3_set_1 : cX3_set.data.toList.drop 24 = dktX3_set_1 := dk_seg dksX3_set_0 24 rfl rfl
theorem dksX3_set_2 : cX3_set.data.toList.drop 47 = dktX3_set_2 := dk_seg dksX3_set_1 23 rfl rfl
theorem dX3_set_0 : decode cX3_set 0 = .ok (.iload_n 1, 1) := dk_27 (dk_at dksX3_set_0 0 rfl rfl)
theorem dX3_set_1 : decode cX3_set 1 = .ok (.i2l, 1) := dk_133 (dk_at dksX3_set_0 1 rfl rfl)
theorem dX3_set_2 : decode cX3_set 2 = .ok (.iconst 0, 1) := dk_3 (dk_at dksX3_set_0 2 rfl rfl)
theorem dX3_set_3 : decode cX3_set 3 = .ok (.iconst 1, 1) := dk_4 (dk_at dksX3_set_0 3 rfl rfl)
theorem dX3_set_4 : decode cX3_set 4 = .ok (.invokestatic 51, 3) := dk_184 0 51 (dk_at dksX3_set_0 4 rfl rfl)
theorem dX3_set_7 : decode cX3_set 7 = .ok (.ifCond .eq 13, 3) := dk_153 0 13 (dk_at dksX3_set_0 7 rfl rfl)
theorem dX3_set_10 : decode cX3_set 10 = .ok (.iload_n 2, 1) := dk_28 (dk_at dksX3_set_0 10 rfl rfl)
theorem dX3_set_11 : decode cX3_set 11 = .ok (.i2l, 1) := dk_133 (dk_at dksX3_set_0 11 rfl rfl)
theorem dX3_set_12 : decode cX3_set 12 = .ok (.iconst 0, 1) := dk_3 (dk_at dksX3_set_0 12 rfl rfl)
theorem dX3_set_13 : decode cX3_set 13 = .ok (.iconst 1, 1) := dk_4 (dk_at dksX3_set_0 13 rfl rfl)
theorem dX3_set_14 : decode cX3_set 14 = .ok (.invokestatic 51, 3) := dk_184 0 51 (dk_at dksX3_set_0 14 rfl rfl)
theorem dX3_set_17 : decode cX3_set 17 = .ok (.ifCond .ne 6, 3) := dk_154 0 6 (dk_at dksX3_set_0 17 rfl rfl)
theorem dX3_set_20 : decode cX3_set 20 = .ok (.bipush (-2), 2) := dk_16 254 (dk_at dksX3_set_0 20 rfl rfl)
theorem dX3_set_22 : decode cX3_set 22 = .ok (.ireturn, 1) := dk_172 (dk_at dksX3_set_0 22 rfl rfl)
theorem dX3_set_23 : decode cX3_set 23 = .ok (.aload_n 0, 1) := dk_42 (dk_at dksX3_set_0 23 rfl rfl)
theorem dX3_set_24 : decode cX3_set 24 = .ok (.invokevirtual 55, 3) := dk_182 0 55 (dk_at dksX3_set_1 0 rfl rfl)
theorem dX3_set_27 : decode cX3_set 27 = .ok (.aload_n 0, 1) := dk_42 (dk_at dksX3_set_1 3 rfl rfl)
theorem dX3_set_28 : decode cX3_set 28 = .ok (.getfield 7, 3) := dk_180 0 7 (dk_at dksX3_set_1 4 rfl rfl)
theorem dX3_set_31 : decode cX3_set 31 = .ok (.iload_n 1, 1) := dk_27 (dk_at dksX3_set_1 7 rfl rfl)
theorem dX3_set_32 : decode cX3_set 32 = .ok (.iaload, 1) := dk_46 (dk_at dksX3_set_1 8 rfl rfl)
theorem dX3_set_33 : decode cX3_set 33 = .ok (.istore_n 3, 1) := dk_62 (dk_at dksX3_set_1 9 rfl rfl)
theorem dX3_set_34 : decode cX3_set 34 = .ok (.aload_n 0, 1) := dk_42 (dk_at dksX3_set_1 10 rfl rfl)
theorem dX3_set_35 : decode cX3_set 35 = .ok (.getfield 7, 3) := dk_180 0 7 (dk_at dksX3_set_1 11 rfl rfl)
theorem dX3_set_38 : decode cX3_set 38 = .ok (.iload_n 1, 1) := dk_27 (dk_at dksX3_set_1 14 rfl rfl)
theorem dX3_set_39 : decode cX3_set 39 = .ok (.iload_n 2, 1) := dk_28 (dk_at dksX3_set_1 15 rfl rfl)
theorem dX3_set_40 : decode cX3_set 40 = .ok (.iastore, 1) := dk_79 (dk_at dksX3_set_1 16 rfl rfl)
theorem dX3_set_41 : decode cX3_set 41 = .ok (.aload_n 0, 1) := dk_42 (dk_at dksX3_set_1 17 rfl rfl)
theorem dX3_set_42 : decode cX3_set 42 = .ok (.invokevirtual 143, 3) := dk_182 0 143 (dk_at dksX3_set_1 18 rfl rfl)
theorem dX3_set_45 : decode cX3_set 45 = .ok (.aload_n 0, 1) := dk_42 (dk_at dksX3_set_1 21 rfl rfl)
theorem dX3_set_46 : decode cX3_set 46 = .ok (.iload_n 3, 1) := dk_29 (dk_at dksX3_set_1 22 rfl rfl)
theorem dX3_set_47 : decode cX3_set 47 = .ok (.invokevirtual 58, 3) := dk_182 0 58 (dk_at dksX3_set_2 0 rfl rfl)
theorem dX3_set_50 : decode cX3_set 50 = .ok (.ireturn, 1) := dk_172 (dk_at dksX3_set_2 3 rfl rfl)
abbrev cX3_anew : ByteArray := prog_8_method_30_code
def yX3_anew : MethodName := ⟨RX3, "anew", "()V"⟩
def dkwX3_anew_0 : List UInt8 := [5, 60, 27, 17, 27, 91, 162, 0, 16, 42, 180, 0, 7, 27, 3, 79, 132, 1, 1, 167, 255, 239, 177]
abbrev dktX3_anew_0 : List UInt8 := dkwX3_anew_0 ++ []
theorem dksX3_anew_0 : cX3_anew.data.toList.drop 0 = dktX3_anew_0 := by decide +kernel
theorem dX3_anew_0 : decode cX3_anew 0 = .ok (.iconst 2, 1) := dk_5 (dk_at dksX3_anew_0 0 rfl rfl)
theorem dX3_anew_1 : decode cX3_anew 1 = .ok (.istore_n 1, 1) := dk_60 (dk_at dksX3_anew_0 1 rfl rfl)
theorem dX3_anew_2 : decode cX3_anew 2 = .ok (.iload_n 1, 1) := dk_27 (dk_at dksX3_anew_0 2 rfl rfl)
theorem dX3_anew_3 : decode cX3_anew 3 = .ok (.sipush 7003, 3) := dk_17 27 91 (dk_at dksX3_anew_0 3 rfl rfl)
theorem dX3_anew_6 : decode cX3_anew 6 = .ok (.if_icmp .ge 16, 3) := dk_162 0 16 (dk_at dksX3_anew_0 6 rfl rfl)
theorem dX3_anew_9 : decode cX3_anew 9 = .ok (.aload_n 0, 1) := dk_42 (dk_at dksX3_anew_0 9 rfl rfl)
theorem dX3_anew_10 : decode cX3_anew 10 = .ok (.getfield 7, 3) := dk_180 0 7 (dk_at dksX3_anew_0 10 rfl rfl)
theorem dX3_anew_13 : decode cX3_anew 13 = .ok (.iload_n 1, 1) := dk_27 (dk_at dksX3_anew_0 13 rfl rfl)
theorem dX3_anew_14 : decode cX3_anew 14 = .ok (.iconst 0, 1) := dk_3 (dk_at dksX3_anew_0 14 rfl rfl)
theorem dX3_anew_15 : decode cX3_anew 15 = .ok (.iastore, 1) := dk_79 (dk_at dksX3_anew_0 15 rfl rfl)
theorem dX3_anew_16 : decode cX3_anew 16 = .ok (.iinc 1 1, 3) := dk_132 1 1 (dk_at dksX3_anew_0 16 rfl rfl)
theorem dX3_anew_19 : decode cX3_anew 19 = .ok (.goto (-17), 3) := dk_167 255 239 (dk_at dksX3_anew_0 19 rfl rfl)
theorem dX3_anew_22 : decode cX3_anew 22 = .ok (.return_, 1) := dk_177 (dk_at dksX3_anew_0 22 rfl rfl)
abbrev cX3_begin : ByteArray := prog_8_method_36_code
def yX3_begin : MethodName := ⟨RX3, "begin", "()I"⟩
def dkwX3_begin_0 : List UInt8 := [42, 182, 0, 55, 42, 180, 0, 7, 5, 46, 60, 42, 182, 0, 143, 42, 27, 182, 0, 58, 172]
abbrev dktX3_begin_0 : List UInt8 := dkwX3_begin_0 ++ []
theorem dksX3_begin_0 : cX3_begin.data.toList.drop 0 = dktX3_begin_0 := by decide +kernel
theorem dX3_begin_0 : decode cX3_begin 0 = .ok (.aload_n 0, 1) := dk_42 (dk_at dksX3_begin_0 0 rfl rfl)
theorem dX3_begin_1 : decode cX3_begin 1 = .ok (.invokevirtual 55, 3) := dk_182 0 55 (dk_at dksX3_begin_0 1 rfl rfl)
theorem dX3_begin_4 : decode cX3_begin 4 = .ok (.aload_n 0, 1) := dk_42 (dk_at dksX3_begin_0 4 rfl rfl)
theorem dX3_begin_5 : decode cX3_begin 5 = .ok (.getfield 7, 3) := dk_180 0 7 (dk_at dksX3_begin_0 5 rfl rfl)
theorem dX3_begin_8 : decode cX3_begin 8 = .ok (.iconst 2, 1) := dk_5 (dk_at dksX3_begin_0 8 rfl rfl)
theorem dX3_begin_9 : decode cX3_begin 9 = .ok (.iaload, 1) := dk_46 (dk_at dksX3_begin_0 9 rfl rfl)
theorem dX3_begin_10 : decode cX3_begin 10 = .ok (.istore_n 1, 1) := dk_60 (dk_at dksX3_begin_0 10 rfl rfl)
theorem dX3_begin_11 : decode cX3_begin 11 = .ok (.aload_n 0, 1) := dk_42 (dk_at dksX3_begin_0 11 rfl rfl)
theorem dX3_begin_12 : decode cX3_begin 12 = .ok (.invokevirtual 143, 3) := dk_182 0 143 (dk_at dksX3_begin_0 12 rfl rfl)
theorem dX3_begin_15 : decode cX3_begin 15 = .ok (.aload_n 0, 1) := dk_42 (dk_at dksX3_begin_0 15 rfl rfl)
theorem dX3_begin_16 : decode cX3_begin 16 = .ok (.iload_n 1, 1) := dk_27 (dk_at dksX3_begin_0 16 rfl rfl)
theorem dX3_begin_17 : decode cX3_begin 17 = .ok (.invokevirtual 58, 3) := dk_182 0 58 (dk_at dksX3_begin_0 17 rfl rfl)
theorem dX3_begin_20 : decode cX3_begin 20 = .ok (.ireturn, 1) := dk_172 (dk_at dksX3_begin_0 20 rfl rfl)
abbrev cX3_place : ByteArray := prog_8_method_37_code
def yX3_place : MethodName := ⟨RX3, "place", "(I)I"⟩
def dkwX3_place_0 : List UInt8 := [42, 182, 0, 55, 42, 42, 27, 182, 0, 146, 182, 0, 58, 172]
abbrev dktX3_place_0 : List UInt8 := dkwX3_place_0 ++ []
theorem dksX3_place_0 : cX3_place.data.toList.drop 0 = dktX3_place_0 := by decide +kernel
theorem dX3_place_0 : decode cX3_place 0 = .ok (.aload_n 0, 1) := dk_42 (dk_at dksX3_place_0 0 rfl rfl)
theorem dX3_place_1 : decode cX3_place 1 = .ok (.invokevirtual 55, 3) := dk_182 0 55 (dk_at dksX3_place_0 1 rfl rfl)
theorem dX3_place_4 : decode cX3_place 4 = .ok (.aload_n 0, 1) := dk_42 (dk_at dksX3_place_0 4 rfl rfl)
theorem dX3_place_5 : decode cX3_place 5 = .ok (.aload_n 0, 1) := dk_42 (dk_at dksX3_place_0 5 rfl rfl)
theorem dX3_place_6 : decode cX3_place 6 = .ok (.iload_n 1, 1) := dk_27 (dk_at dksX3_place_0 6 rfl rfl)
theorem dX3_place_7 : decode cX3_place 7 = .ok (.invokevirtual 146, 3) := dk_182 0 146 (dk_at dksX3_place_0 7 rfl rfl)
theorem dX3_place_10 : decode cX3_place 10 = .ok (.invokevirtual 58, 3) := dk_182 0 58 (dk_at dksX3_place_0 10 rfl rfl)
theorem dX3_place_13 : decode cX3_place 13 = .ok (.ireturn, 1) := dk_172 (dk_at dksX3_place_0 13 rfl rfl)
abbrev cX3_places : ByteArray := prog_8_method_32_code
def yX3_places : MethodName := ⟨RX3, "places", "(I)I"⟩
def dkwX3_places_0 : List UInt8 := [27, 133, 3, 16, 8, 184, 0, 51, 153, 0, 12, 42, 27, 4, 182, 0, 136, 167, 0, 4, 2, 172]
abbrev dktX3_places_0 : List UInt8 := dkwX3_places_0 ++ []
theorem dksX3_places_0 : cX3_places.data.toList.drop 0 = dktX3_places_0 := by decide +kernel
theorem dX3_places_0 : decode cX3_places 0 = .ok (.iload_n 1, 1) := dk_27 (dk_at dksX3_places_0 0 rfl rfl)
theorem dX3_places_1 : decode cX3_places 1 = .ok (.i2l, 1) := dk_133 (dk_at dksX3_places_0 1 rfl rfl)
theorem dX3_places_2 : decode cX3_places 2 = .ok (.iconst 0, 1) := dk_3 (dk_at dksX3_places_0 2 rfl rfl)
theorem dX3_places_3 : decode cX3_places 3 = .ok (.bipush 8, 2) := dk_16 8 (dk_at dksX3_places_0 3 rfl rfl)
theorem dX3_places_5 : decode cX3_places 5 = .ok (.invokestatic 51, 3) := dk_184 0 51 (dk_at dksX3_places_0 5 rfl rfl)
theorem dX3_places_8 : decode cX3_places 8 = .ok (.ifCond .eq 12, 3) := dk_153 0 12 (dk_at dksX3_places_0 8 rfl rfl)
theorem dX3_places_11 : decode cX3_places 11 = .ok (.aload_n 0, 1) := dk_42 (dk_at dksX3_places_0 11 rfl rfl)
theorem dX3_places_12 : decode cX3_places 12 = .ok (.iload_n 1, 1) := dk_27 (dk_at dksX3_places_0 12 rfl rfl)
theorem dX3_places_13 : decode cX3_places 13 = .ok (.iconst 1, 1) := dk_4 (dk_at dksX3_places_0 13 rfl rfl)
theorem dX3_places_14 : decode cX3_places 14 = .ok (.invokevirtual 136, 3) := dk_182 0 136 (dk_at dksX3_places_0 14 rfl rfl)
theorem dX3_places_17 : decode cX3_places 17 = .ok (.goto 4, 3) := dk_167 0 4 (dk_at dksX3_places_0 17 rfl rfl)
theorem dX3_places_20 : decode cX3_places 20 = .ok (.iconst (-1), 1) := dk_2 (dk_at dksX3_places_0 20 rfl rfl)
theorem dX3_places_21 : decode cX3_places 21 = .ok (.ireturn, 1) := dk_172 (dk_at dksX3_places_0 21 rfl rfl)
abbrev cX3_moves : ByteArray := prog_8_method_31_code
def yX3_moves : MethodName := ⟨RX3, "moves", "(IZ)I"⟩
def dkwX3_moves_2 : List UInt8 := [180, 0, 62, 172]
abbrev dktX3_moves_2 : List UInt8 := dkwX3_moves_2 ++ []
def dkwX3_moves_1 : List UInt8 := [182, 0, 133, 42, 42, 182, 0, 112, 182, 0, 87, 28, 153, 0, 11, 42, 29, 182, 0, 69, 167, 0, 7, 42]
abbrev dktX3_moves_1 : List UInt8 := dkwX3_moves_1 ++ dktX3_moves_2
def dkwX3_moves_0 : List UInt8 := [42, 27, 182, 0, 130, 154, 0, 6, 16, 251, 172, 42, 182, 0, 112, 17, 76, 227, 108, 62, 42, 27]
abbrev dktX3_moves_0 : List UInt8 := dkwX3_moves_0 ++ dktX3_moves_1
theorem dksX3_moves_0 : cX3_moves.data.toList.drop 0 = dktX3_moves_0 := by decide +kernel
theorem dksX3_moves_1 : cX3_moves.data.toList.drop 22 = dktX3_moves_1 := dk_seg dksX3_moves_0 22 rfl rfl
theorem dksX3_moves_2 : cX3_moves.data.toList.drop 46 = dktX3_moves_2 := dk_seg dksX3_moves_1 24 rfl rfl
theorem dX3_moves_0 : decode cX3_moves 0 = .ok (.aload_n 0, 1) := dk_42 (dk_at dksX3_moves_0 0 rfl rfl)
theorem dX3_moves_1 : decode cX3_moves 1 = .ok (.iload_n 1, 1) := dk_27 (dk_at dksX3_moves_0 1 rfl rfl)
theorem dX3_moves_2 : decode cX3_moves 2 = .ok (.invokevirtual 130, 3) := dk_182 0 130 (dk_at dksX3_moves_0 2 rfl rfl)
theorem dX3_moves_5 : decode cX3_moves 5 = .ok (.ifCond .ne 6, 3) := dk_154 0 6 (dk_at dksX3_moves_0 5 rfl rfl)
theorem dX3_moves_8 : decode cX3_moves 8 = .ok (.bipush (-5), 2) := dk_16 251 (dk_at dksX3_moves_0 8 rfl rfl)
theorem dX3_moves_10 : decode cX3_moves 10 = .ok (.ireturn, 1) := dk_172 (dk_at dksX3_moves_0 10 rfl rfl)
theorem dX3_moves_11 : decode cX3_moves 11 = .ok (.aload_n 0, 1) := dk_42 (dk_at dksX3_moves_0 11 rfl rfl)
theorem dX3_moves_12 : decode cX3_moves 12 = .ok (.invokevirtual 112, 3) := dk_182 0 112 (dk_at dksX3_moves_0 12 rfl rfl)
theorem dX3_moves_15 : decode cX3_moves 15 = .ok (.sipush 19683, 3) := dk_17 76 227 (dk_at dksX3_moves_0 15 rfl rfl)
theorem dX3_moves_18 : decode cX3_moves 18 = .ok (.idiv, 1) := dk_108 (dk_at dksX3_moves_0 18 rfl rfl)
theorem dX3_moves_19 : decode cX3_moves 19 = .ok (.istore_n 3, 1) := dk_62 (dk_at dksX3_moves_0 19 rfl rfl)
theorem dX3_moves_20 : decode cX3_moves 20 = .ok (.aload_n 0, 1) := dk_42 (dk_at dksX3_moves_0 20 rfl rfl)
theorem dX3_moves_21 : decode cX3_moves 21 = .ok (.iload_n 1, 1) := dk_27 (dk_at dksX3_moves_0 21 rfl rfl)
theorem dX3_moves_22 : decode cX3_moves 22 = .ok (.invokevirtual 133, 3) := dk_182 0 133 (dk_at dksX3_moves_1 0 rfl rfl)
theorem dX3_moves_25 : decode cX3_moves 25 = .ok (.aload_n 0, 1) := dk_42 (dk_at dksX3_moves_1 3 rfl rfl)
theorem dX3_moves_26 : decode cX3_moves 26 = .ok (.aload_n 0, 1) := dk_42 (dk_at dksX3_moves_1 4 rfl rfl)
theorem dX3_moves_27 : decode cX3_moves 27 = .ok (.invokevirtual 112, 3) := dk_182 0 112 (dk_at dksX3_moves_1 5 rfl rfl)
theorem dX3_moves_30 : decode cX3_moves 30 = .ok (.invokevirtual 87, 3) := dk_182 0 87 (dk_at dksX3_moves_1 8 rfl rfl)
theorem dX3_moves_33 : decode cX3_moves 33 = .ok (.iload_n 2, 1) := dk_28 (dk_at dksX3_moves_1 11 rfl rfl)
theorem dX3_moves_34 : decode cX3_moves 34 = .ok (.ifCond .eq 11, 3) := dk_153 0 11 (dk_at dksX3_moves_1 12 rfl rfl)
theorem dX3_moves_37 : decode cX3_moves 37 = .ok (.aload_n 0, 1) := dk_42 (dk_at dksX3_moves_1 15 rfl rfl)
theorem dX3_moves_38 : decode cX3_moves 38 = .ok (.iload_n 3, 1) := dk_29 (dk_at dksX3_moves_1 16 rfl rfl)
theorem dX3_moves_39 : decode cX3_moves 39 = .ok (.invokevirtual 69, 3) := dk_182 0 69 (dk_at dksX3_moves_1 17 rfl rfl)
theorem dX3_moves_42 : decode cX3_moves 42 = .ok (.goto 7, 3) := dk_167 0 7 (dk_at dksX3_moves_1 20 rfl rfl)
theorem dX3_moves_45 : decode cX3_moves 45 = .ok (.aload_n 0, 1) := dk_42 (dk_at dksX3_moves_1 23 rfl rfl)
theorem dX3_moves_46 : decode cX3_moves 46 = .ok (.getfield 62, 3) := dk_180 0 62 (dk_at dksX3_moves_2 0 rfl rfl)
theorem dX3_moves_49 : decode cX3_moves 49 = .ok (.ireturn, 1) := dk_172 (dk_at dksX3_moves_2 3 rfl rfl)
abbrev cX3_isMove : ByteArray := prog_8_method_27_code
def yX3_isMove : MethodName := ⟨RX3, "isMove", "(I)Z"⟩
def dkwX3_isMove_1 : List UInt8 := [4, 172, 132, 2, 1, 167, 255, 233, 3, 172]
abbrev dktX3_isMove_1 : List UInt8 := dkwX3_isMove_1 ++ []
def dkwX3_isMove_0 : List UInt8 := [42, 182, 0, 124, 3, 61, 28, 42, 180, 0, 76, 162, 0, 21, 42, 180, 0, 36, 28, 46, 27, 160, 0, 5]
abbrev dktX3_isMove_0 : List UInt8 := dkwX3_isMove_0 ++ dktX3_isMove_1
theorem dksX3_isMove_0 : cX3_isMove.data.toList.drop 0 = dktX3_isMove_0 := by decide +kernel
theorem dksX3_isMove_1 : cX3_isMove.data.toList.drop 24 = dktX3_isMove_1 := dk_seg dksX3_isMove_0 24 rfl rfl
theorem dX3_isMove_0 : decode cX3_isMove 0 = .ok (.aload_n 0, 1) := dk_42 (dk_at dksX3_isMove_0 0 rfl rfl)
theorem dX3_isMove_1 : decode cX3_isMove 1 = .ok (.invokevirtual 124, 3) := dk_182 0 124 (dk_at dksX3_isMove_0 1 rfl rfl)
theorem dX3_isMove_4 : decode cX3_isMove 4 = .ok (.iconst 0, 1) := dk_3 (dk_at dksX3_isMove_0 4 rfl rfl)
theorem dX3_isMove_5 : decode cX3_isMove 5 = .ok (.istore_n 2, 1) := dk_61 (dk_at dksX3_isMove_0 5 rfl rfl)
theorem dX3_isMove_6 : decode cX3_isMove 6 = .ok (.iload_n 2, 1) := dk_28 (dk_at dksX3_isMove_0 6 rfl rfl)
theorem dX3_isMove_7 : decode cX3_isMove 7 = .ok (.aload_n 0, 1) := dk_42 (dk_at dksX3_isMove_0 7 rfl rfl)
theorem dX3_isMove_8 : decode cX3_isMove 8 = .ok (.getfield 76, 3) := dk_180 0 76 (dk_at dksX3_isMove_0 8 rfl rfl)
theorem dX3_isMove_11 : decode cX3_isMove 11 = .ok (.if_icmp .ge 21, 3) := dk_162 0 21 (dk_at dksX3_isMove_0 11 rfl rfl)
theorem dX3_isMove_14 : decode cX3_isMove 14 = .ok (.aload_n 0, 1) := dk_42 (dk_at dksX3_isMove_0 14 rfl rfl)
theorem dX3_isMove_15 : decode cX3_isMove 15 = .ok (.getfield 36, 3) := dk_180 0 36 (dk_at dksX3_isMove_0 15 rfl rfl)
theorem dX3_isMove_18 : decode cX3_isMove 18 = .ok (.iload_n 2, 1) := dk_28 (dk_at dksX3_isMove_0 18 rfl rfl)
theorem dX3_isMove_19 : decode cX3_isMove 19 = .ok (.iaload, 1) := dk_46 (dk_at dksX3_isMove_0 19 rfl rfl)
theorem dX3_isMove_20 : decode cX3_isMove 20 = .ok (.iload_n 1, 1) := dk_27 (dk_at dksX3_isMove_0 20 rfl rfl)
theorem dX3_isMove_21 : decode cX3_isMove 21 = .ok (.if_icmp .ne 5, 3) := dk_160 0 5 (dk_at dksX3_isMove_0 21 rfl rfl)
theorem dX3_isMove_24 : decode cX3_isMove 24 = .ok (.iconst 1, 1) := dk_4 (dk_at dksX3_isMove_1 0 rfl rfl)
theorem dX3_isMove_25 : decode cX3_isMove 25 = .ok (.ireturn, 1) := dk_172 (dk_at dksX3_isMove_1 1 rfl rfl)
theorem dX3_isMove_26 : decode cX3_isMove 26 = .ok (.iinc 2 1, 3) := dk_132 2 1 (dk_at dksX3_isMove_1 2 rfl rfl)
theorem dX3_isMove_29 : decode cX3_isMove 29 = .ok (.goto (-23), 3) := dk_167 255 233 (dk_at dksX3_isMove_1 5 rfl rfl)
theorem dX3_isMove_32 : decode cX3_isMove 32 = .ok (.iconst 0, 1) := dk_3 (dk_at dksX3_isMove_1 8 rfl rfl)
theorem dX3_isMove_33 : decode cX3_isMove 33 = .ok (.ireturn, 1) := dk_172 (dk_at dksX3_isMove_1 9 rfl rfl)
abbrev cX3_lookNow : ByteArray := prog_8_method_26_code
def yX3_lookNow : MethodName := ⟨RX3, "lookNow", "()V"⟩
def dkwX3_lookNow_1 : List UInt8 := [167, 0, 7, 42, 180, 0, 76, 181, 0, 76, 177]
abbrev dktX3_lookNow_1 : List UInt8 := dkwX3_lookNow_1 ++ []
def dkwX3_lookNow_0 : List UInt8 := [42, 182, 0, 121, 60, 42, 42, 182, 0, 112, 182, 0, 87, 42, 182, 0, 99, 42, 27, 153, 0, 7, 3]
abbrev dktX3_lookNow_0 : List UInt8 := dkwX3_lookNow_0 ++ dktX3_lookNow_1
theorem dksX3_lookNow_0 : cX3_lookNow.data.toList.drop 0 = dktX3_lookNow_0 := by decide +kernel
theorem dksX3_lookNow_1 : cX3_lookNow.data.toList.drop 23 = dktX3_lookNow_1 := dk_seg dksX3_lookNow_0 23 rfl rfl
theorem dX3_lookNow_0 : decode cX3_lookNow 0 = .ok (.aload_n 0, 1) := dk_42 (dk_at dksX3_lookNow_0 0 rfl rfl)
theorem dX3_lookNow_1 : decode cX3_lookNow 1 = .ok (.invokevirtual 121, 3) := dk_182 0 121 (dk_at dksX3_lookNow_0 1 rfl rfl)
theorem dX3_lookNow_4 : decode cX3_lookNow 4 = .ok (.istore_n 1, 1) := dk_60 (dk_at dksX3_lookNow_0 4 rfl rfl)
theorem dX3_lookNow_5 : decode cX3_lookNow 5 = .ok (.aload_n 0, 1) := dk_42 (dk_at dksX3_lookNow_0 5 rfl rfl)
theorem dX3_lookNow_6 : decode cX3_lookNow 6 = .ok (.aload_n 0, 1) := dk_42 (dk_at dksX3_lookNow_0 6 rfl rfl)
theorem dX3_lookNow_7 : decode cX3_lookNow 7 = .ok (.invokevirtual 112, 3) := dk_182 0 112 (dk_at dksX3_lookNow_0 7 rfl rfl)
theorem dX3_lookNow_10 : decode cX3_lookNow 10 = .ok (.invokevirtual 87, 3) := dk_182 0 87 (dk_at dksX3_lookNow_0 10 rfl rfl)
theorem dX3_lookNow_13 : decode cX3_lookNow 13 = .ok (.aload_n 0, 1) := dk_42 (dk_at dksX3_lookNow_0 13 rfl rfl)
theorem dX3_lookNow_14 : decode cX3_lookNow 14 = .ok (.invokevirtual 99, 3) := dk_182 0 99 (dk_at dksX3_lookNow_0 14 rfl rfl)
theorem dX3_lookNow_17 : decode cX3_lookNow 17 = .ok (.aload_n 0, 1) := dk_42 (dk_at dksX3_lookNow_0 17 rfl rfl)
theorem dX3_lookNow_18 : decode cX3_lookNow 18 = .ok (.iload_n 1, 1) := dk_27 (dk_at dksX3_lookNow_0 18 rfl rfl)
theorem dX3_lookNow_19 : decode cX3_lookNow 19 = .ok (.ifCond .eq 7, 3) := dk_153 0 7 (dk_at dksX3_lookNow_0 19 rfl rfl)
theorem dX3_lookNow_22 : decode cX3_lookNow 22 = .ok (.iconst 0, 1) := dk_3 (dk_at dksX3_lookNow_0 22 rfl rfl)
theorem dX3_lookNow_23 : decode cX3_lookNow 23 = .ok (.goto 7, 3) := dk_167 0 7 (dk_at dksX3_lookNow_1 0 rfl rfl)
theorem dX3_lookNow_26 : decode cX3_lookNow 26 = .ok (.aload_n 0, 1) := dk_42 (dk_at dksX3_lookNow_1 3 rfl rfl)
theorem dX3_lookNow_27 : decode cX3_lookNow 27 = .ok (.getfield 76, 3) := dk_180 0 76 (dk_at dksX3_lookNow_1 4 rfl rfl)
theorem dX3_lookNow_30 : decode cX3_lookNow 30 = .ok (.putfield 76, 3) := dk_181 0 76 (dk_at dksX3_lookNow_1 7 rfl rfl)
theorem dX3_lookNow_33 : decode cX3_lookNow 33 = .ok (.return_, 1) := dk_177 (dk_at dksX3_lookNow_1 10 rfl rfl)
abbrev cX3_isOver : ByteArray := prog_8_method_25_code
def yX3_isOver : MethodName := ⟨RX3, "isOver", "()Z"⟩
def dkwX3_isOver_0 : List UInt8 := [42, 182, 0, 118, 154, 0, 11, 42, 182, 0, 115, 6, 161, 0, 7, 4, 167, 0, 4, 3, 172]
abbrev dktX3_isOver_0 : List UInt8 := dkwX3_isOver_0 ++ []
theorem dksX3_isOver_0 : cX3_isOver.data.toList.drop 0 = dktX3_isOver_0 := by decide +kernel
theorem dX3_isOver_0 : decode cX3_isOver 0 = .ok (.aload_n 0, 1) := dk_42 (dk_at dksX3_isOver_0 0 rfl rfl)
theorem dX3_isOver_1 : decode cX3_isOver 1 = .ok (.invokevirtual 118, 3) := dk_182 0 118 (dk_at dksX3_isOver_0 1 rfl rfl)
theorem dX3_isOver_4 : decode cX3_isOver 4 = .ok (.ifCond .ne 11, 3) := dk_154 0 11 (dk_at dksX3_isOver_0 4 rfl rfl)
theorem dX3_isOver_7 : decode cX3_isOver 7 = .ok (.aload_n 0, 1) := dk_42 (dk_at dksX3_isOver_0 7 rfl rfl)
theorem dX3_isOver_8 : decode cX3_isOver 8 = .ok (.invokevirtual 115, 3) := dk_182 0 115 (dk_at dksX3_isOver_0 8 rfl rfl)
theorem dX3_isOver_11 : decode cX3_isOver 11 = .ok (.iconst 3, 1) := dk_6 (dk_at dksX3_isOver_0 11 rfl rfl)
theorem dX3_isOver_12 : decode cX3_isOver 12 = .ok (.if_icmp .lt 7, 3) := dk_161 0 7 (dk_at dksX3_isOver_0 12 rfl rfl)
theorem dX3_isOver_15 : decode cX3_isOver 15 = .ok (.iconst 1, 1) := dk_4 (dk_at dksX3_isOver_0 15 rfl rfl)
theorem dX3_isOver_16 : decode cX3_isOver 16 = .ok (.goto 4, 3) := dk_167 0 4 (dk_at dksX3_isOver_0 16 rfl rfl)
theorem dX3_isOver_19 : decode cX3_isOver 19 = .ok (.iconst 0, 1) := dk_3 (dk_at dksX3_isOver_0 19 rfl rfl)
theorem dX3_isOver_20 : decode cX3_isOver 20 = .ok (.ireturn, 1) := dk_172 (dk_at dksX3_isOver_0 20 rfl rfl)
abbrev cX3_hasLost : ByteArray := prog_8_method_22_code
def yX3_hasLost : MethodName := ⟨RX3, "hasLost", "()Z"⟩
def dkwX3_hasLost_1 : List UInt8 := [172]
abbrev dktX3_hasLost_1 : List UInt8 := dkwX3_hasLost_1 ++ []
def dkwX3_hasLost_0 : List UInt8 := [42, 42, 182, 0, 112, 182, 0, 87, 42, 182, 0, 99, 42, 180, 0, 76, 154, 0, 7, 4, 167, 0, 4, 3]
abbrev dktX3_hasLost_0 : List UInt8 := dkwX3_hasLost_0 ++ dktX3_hasLost_1
theorem dksX3_hasLost_0 : cX3_hasLost.data.toList.drop 0 = dktX3_hasLost_0 := by decide +kernel
theorem dksX3_hasLost_1 : cX3_hasLost.data.toList.drop 24 = dktX3_hasLost_1 := dk_seg dksX3_hasLost_0 24 rfl rfl
theorem dX3_hasLost_0 : decode cX3_hasLost 0 = .ok (.aload_n 0, 1) := dk_42 (dk_at dksX3_hasLost_0 0 rfl rfl)
theorem dX3_hasLost_1 : decode cX3_hasLost 1 = .ok (.aload_n 0, 1) := dk_42 (dk_at dksX3_hasLost_0 1 rfl rfl)
theorem dX3_hasLost_2 : decode cX3_hasLost 2 = .ok (.invokevirtual 112, 3) := dk_182 0 112 (dk_at dksX3_hasLost_0 2 rfl rfl)
theorem dX3_hasLost_5 : decode cX3_hasLost 5 = .ok (.invokevirtual 87, 3) := dk_182 0 87 (dk_at dksX3_hasLost_0 5 rfl rfl)
theorem dX3_hasLost_8 : decode cX3_hasLost 8 = .ok (.aload_n 0, 1) := dk_42 (dk_at dksX3_hasLost_0 8 rfl rfl)
theorem dX3_hasLost_9 : decode cX3_hasLost 9 = .ok (.invokevirtual 99, 3) := dk_182 0 99 (dk_at dksX3_hasLost_0 9 rfl rfl)
theorem dX3_hasLost_12 : decode cX3_hasLost 12 = .ok (.aload_n 0, 1) := dk_42 (dk_at dksX3_hasLost_0 12 rfl rfl)
theorem dX3_hasLost_13 : decode cX3_hasLost 13 = .ok (.getfield 76, 3) := dk_180 0 76 (dk_at dksX3_hasLost_0 13 rfl rfl)
theorem dX3_hasLost_16 : decode cX3_hasLost 16 = .ok (.ifCond .ne 7, 3) := dk_154 0 7 (dk_at dksX3_hasLost_0 16 rfl rfl)
theorem dX3_hasLost_19 : decode cX3_hasLost 19 = .ok (.iconst 1, 1) := dk_4 (dk_at dksX3_hasLost_0 19 rfl rfl)
theorem dX3_hasLost_20 : decode cX3_hasLost 20 = .ok (.goto 4, 3) := dk_167 0 4 (dk_at dksX3_hasLost_0 20 rfl rfl)
theorem dX3_hasLost_23 : decode cX3_hasLost 23 = .ok (.iconst 0, 1) := dk_3 (dk_at dksX3_hasLost_0 23 rfl rfl)
theorem dX3_hasLost_24 : decode cX3_hasLost 24 = .ok (.ireturn, 1) := dk_172 (dk_at dksX3_hasLost_1 0 rfl rfl)
abbrev cX3_now : ByteArray := prog_8_method_8_code
def yX3_now : MethodName := ⟨RX3, "now", "()I"⟩
def dkwX3_now_0 : List UInt8 := [42, 180, 0, 7, 6, 42, 180, 0, 7, 5, 46, 96, 46, 172]
abbrev dktX3_now_0 : List UInt8 := dkwX3_now_0 ++ []
theorem dksX3_now_0 : cX3_now.data.toList.drop 0 = dktX3_now_0 := by decide +kernel
theorem dX3_now_0 : decode cX3_now 0 = .ok (.aload_n 0, 1) := dk_42 (dk_at dksX3_now_0 0 rfl rfl)
theorem dX3_now_1 : decode cX3_now 1 = .ok (.getfield 7, 3) := dk_180 0 7 (dk_at dksX3_now_0 1 rfl rfl)
theorem dX3_now_4 : decode cX3_now 4 = .ok (.iconst 3, 1) := dk_6 (dk_at dksX3_now_0 4 rfl rfl)
theorem dX3_now_5 : decode cX3_now 5 = .ok (.aload_n 0, 1) := dk_42 (dk_at dksX3_now_0 5 rfl rfl)
theorem dX3_now_6 : decode cX3_now 6 = .ok (.getfield 7, 3) := dk_180 0 7 (dk_at dksX3_now_0 6 rfl rfl)
theorem dX3_now_9 : decode cX3_now 9 = .ok (.iconst 2, 1) := dk_5 (dk_at dksX3_now_0 9 rfl rfl)
theorem dX3_now_10 : decode cX3_now 10 = .ok (.iaload, 1) := dk_46 (dk_at dksX3_now_0 10 rfl rfl)
theorem dX3_now_11 : decode cX3_now 11 = .ok (.iadd, 1) := dk_96 (dk_at dksX3_now_0 11 rfl rfl)
theorem dX3_now_12 : decode cX3_now 12 = .ok (.iaload, 1) := dk_46 (dk_at dksX3_now_0 12 rfl rfl)
theorem dX3_now_13 : decode cX3_now 13 = .ok (.ireturn, 1) := dk_172 (dk_at dksX3_now_0 13 rfl rfl)
abbrev cX3_open : ByteArray := prog_8_method_9_code
def yX3_open : MethodName := ⟨RX3, "open", "(I)V"⟩
def dkwX3_open_1 : List UInt8 := [180, 0, 33, 29, 28, 6, 112, 79, 28, 6, 108, 61, 132, 3, 1, 167, 255, 234, 177]
abbrev dktX3_open_1 : List UInt8 := dkwX3_open_1 ++ []
def dkwX3_open_0 : List UInt8 := [27, 17, 76, 227, 112, 61, 42, 27, 17, 76, 227, 108, 181, 0, 62, 3, 62, 29, 16, 9, 162, 0, 22, 42]
abbrev dktX3_open_0 : List UInt8 := dkwX3_open_0 ++ dktX3_open_1
theorem dksX3_open_0 : cX3_open.data.toList.drop 0 = dktX3_open_0 := by decide +kernel
theorem dksX3_open_1 : cX3_open.data.toList.drop 24 = dktX3_open_1 := dk_seg dksX3_open_0 24 rfl rfl
theorem dX3_open_0 : decode cX3_open 0 = .ok (.iload_n 1, 1) := dk_27 (dk_at dksX3_open_0 0 rfl rfl)
theorem dX3_open_1 : decode cX3_open 1 = .ok (.sipush 19683, 3) := dk_17 76 227 (dk_at dksX3_open_0 1 rfl rfl)
theorem dX3_open_4 : decode cX3_open 4 = .ok (.irem, 1) := dk_112 (dk_at dksX3_open_0 4 rfl rfl)
theorem dX3_open_5 : decode cX3_open 5 = .ok (.istore_n 2, 1) := dk_61 (dk_at dksX3_open_0 5 rfl rfl)
theorem dX3_open_6 : decode cX3_open 6 = .ok (.aload_n 0, 1) := dk_42 (dk_at dksX3_open_0 6 rfl rfl)
theorem dX3_open_7 : decode cX3_open 7 = .ok (.iload_n 1, 1) := dk_27 (dk_at dksX3_open_0 7 rfl rfl)
theorem dX3_open_8 : decode cX3_open 8 = .ok (.sipush 19683, 3) := dk_17 76 227 (dk_at dksX3_open_0 8 rfl rfl)
theorem dX3_open_11 : decode cX3_open 11 = .ok (.idiv, 1) := dk_108 (dk_at dksX3_open_0 11 rfl rfl)
theorem dX3_open_12 : decode cX3_open 12 = .ok (.putfield 62, 3) := dk_181 0 62 (dk_at dksX3_open_0 12 rfl rfl)
theorem dX3_open_15 : decode cX3_open 15 = .ok (.iconst 0, 1) := dk_3 (dk_at dksX3_open_0 15 rfl rfl)
theorem dX3_open_16 : decode cX3_open 16 = .ok (.istore_n 3, 1) := dk_62 (dk_at dksX3_open_0 16 rfl rfl)
theorem dX3_open_17 : decode cX3_open 17 = .ok (.iload_n 3, 1) := dk_29 (dk_at dksX3_open_0 17 rfl rfl)
theorem dX3_open_18 : decode cX3_open 18 = .ok (.bipush 9, 2) := dk_16 9 (dk_at dksX3_open_0 18 rfl rfl)
theorem dX3_open_20 : decode cX3_open 20 = .ok (.if_icmp .ge 22, 3) := dk_162 0 22 (dk_at dksX3_open_0 20 rfl rfl)
theorem dX3_open_23 : decode cX3_open 23 = .ok (.aload_n 0, 1) := dk_42 (dk_at dksX3_open_0 23 rfl rfl)
theorem dX3_open_24 : decode cX3_open 24 = .ok (.getfield 33, 3) := dk_180 0 33 (dk_at dksX3_open_1 0 rfl rfl)
theorem dX3_open_27 : decode cX3_open 27 = .ok (.iload_n 3, 1) := dk_29 (dk_at dksX3_open_1 3 rfl rfl)
theorem dX3_open_28 : decode cX3_open 28 = .ok (.iload_n 2, 1) := dk_28 (dk_at dksX3_open_1 4 rfl rfl)
theorem dX3_open_29 : decode cX3_open 29 = .ok (.iconst 3, 1) := dk_6 (dk_at dksX3_open_1 5 rfl rfl)
theorem dX3_open_30 : decode cX3_open 30 = .ok (.irem, 1) := dk_112 (dk_at dksX3_open_1 6 rfl rfl)
theorem dX3_open_31 : decode cX3_open 31 = .ok (.iastore, 1) := dk_79 (dk_at dksX3_open_1 7 rfl rfl)
theorem dX3_open_32 : decode cX3_open 32 = .ok (.iload_n 2, 1) := dk_28 (dk_at dksX3_open_1 8 rfl rfl)
theorem dX3_open_33 : decode cX3_open 33 = .ok (.iconst 3, 1) := dk_6 (dk_at dksX3_open_1 9 rfl rfl)
theorem dX3_open_34 : decode cX3_open 34 = .ok (.idiv, 1) := dk_108 (dk_at dksX3_open_1 10 rfl rfl)
theorem dX3_open_35 : decode cX3_open 35 = .ok (.istore_n 2, 1) := dk_61 (dk_at dksX3_open_1 11 rfl rfl)
theorem dX3_open_36 : decode cX3_open 36 = .ok (.iinc 3 1, 3) := dk_132 3 1 (dk_at dksX3_open_1 12 rfl rfl)
theorem dX3_open_39 : decode cX3_open 39 = .ok (.goto (-22), 3) := dk_167 255 234 (dk_at dksX3_open_1 15 rfl rfl)
theorem dX3_open_42 : decode cX3_open 42 = .ok (.return_, 1) := dk_177 (dk_at dksX3_open_1 18 rfl rfl)
abbrev cX3_look : ByteArray := prog_8_method_16_code
def yX3_look : MethodName := ⟨RX3, "look", "()V"⟩
def dkwX3_look_8 : List UInt8 := [42, 4, 181, 0, 76, 177]
abbrev dktX3_look_8 : List UInt8 := dkwX3_look_8 ++ []
def dkwX3_look_7 : List UInt8 := [180, 0, 76, 154, 0, 26, 42, 180, 0, 7, 4, 46, 4, 160, 0, 16, 42, 180, 0, 36, 3, 16, 90, 79]
abbrev dktX3_look_7 : List UInt8 := dkwX3_look_7 ++ dktX3_look_8
def dkwX3_look_6 : List UInt8 := [42, 89, 180, 0, 76, 4, 96, 181, 0, 76, 132, 3, 1, 167, 255, 182, 132, 2, 1, 167, 255, 135, 42]
abbrev dktX3_look_6 : List UInt8 := dkwX3_look_6 ++ dktX3_look_7
def dkwX3_look_5 : List UInt8 := [182, 0, 79, 153, 0, 31, 42, 180, 0, 36, 42, 180, 0, 76, 16, 9, 16, 9, 28, 104, 96, 29, 96, 79]
abbrev dktX3_look_5 : List UInt8 := dkwX3_look_5 ++ dktX3_look_6
def dkwX3_look_4 : List UInt8 := [28, 46, 42, 180, 0, 62, 4, 96, 160, 0, 55, 42, 180, 0, 33, 29, 46, 154, 0, 40, 42, 28, 29]
abbrev dktX3_look_4 : List UInt8 := dkwX3_look_4 ++ dktX3_look_5
def dkwX3_look_3 : List UInt8 := [180, 0, 76, 4, 96, 181, 0, 76, 3, 62, 29, 16, 9, 162, 0, 74, 27, 154, 0, 70, 42, 180, 0, 33]
abbrev dktX3_look_3 : List UInt8 := dkwX3_look_3 ++ dktX3_look_4
def dkwX3_look_2 : List UInt8 := [153, 0, 32, 42, 180, 0, 33, 28, 46, 154, 0, 23, 42, 180, 0, 36, 42, 180, 0, 76, 28, 79, 42, 89]
abbrev dktX3_look_2 : List UInt8 := dkwX3_look_2 ++ dktX3_look_3
def dkwX3_look_1 : List UInt8 := [182, 0, 69, 6, 162, 0, 7, 4, 167, 0, 4, 3, 60, 3, 61, 28, 16, 9, 162, 0, 121, 27]
abbrev dktX3_look_1 : List UInt8 := dkwX3_look_1 ++ dktX3_look_2
def dkwX3_look_0 : List UInt8 := [42, 3, 181, 0, 76, 42, 4, 42, 180, 0, 62, 100, 182, 0, 72, 153, 0, 4, 177, 42, 42, 180, 0, 62]
abbrev dktX3_look_0 : List UInt8 := dkwX3_look_0 ++ dktX3_look_1
theorem dksX3_look_0 : cX3_look.data.toList.drop 0 = dktX3_look_0 := by decide +kernel
theorem dksX3_look_1 : cX3_look.data.toList.drop 24 = dktX3_look_1 := dk_seg dksX3_look_0 24 rfl rfl
theorem dksX3_look_2 : cX3_look.data.toList.drop 46 = dktX3_look_2 := dk_seg dksX3_look_1 22 rfl rfl
theorem dksX3_look_3 : cX3_look.data.toList.drop 70 = dktX3_look_3 := dk_seg dksX3_look_2 24 rfl rfl
theorem dksX3_look_4 : cX3_look.data.toList.drop 94 = dktX3_look_4 := dk_seg dksX3_look_3 24 rfl rfl
theorem dksX3_look_5 : cX3_look.data.toList.drop 117 = dktX3_look_5 := dk_seg dksX3_look_4 23 rfl rfl
theorem dksX3_look_6 : cX3_look.data.toList.drop 141 = dktX3_look_6 := dk_seg dksX3_look_5 24 rfl rfl
theorem dksX3_look_7 : cX3_look.data.toList.drop 164 = dktX3_look_7 := dk_seg dksX3_look_6 23 rfl rfl
theorem dksX3_look_8 : cX3_look.data.toList.drop 188 = dktX3_look_8 := dk_seg dksX3_look_7 24 rfl rfl
theorem dX3_look_0 : decode cX3_look 0 = .ok (.aload_n 0, 1) := dk_42 (dk_at dksX3_look_0 0 rfl rfl)
theorem dX3_look_1 : decode cX3_look 1 = .ok (.iconst 0, 1) := dk_3 (dk_at dksX3_look_0 1 rfl rfl)
theorem dX3_look_2 : decode cX3_look 2 = .ok (.putfield 76, 3) := dk_181 0 76 (dk_at dksX3_look_0 2 rfl rfl)
theorem dX3_look_5 : decode cX3_look 5 = .ok (.aload_n 0, 1) := dk_42 (dk_at dksX3_look_0 5 rfl rfl)
theorem dX3_look_6 : decode cX3_look 6 = .ok (.iconst 1, 1) := dk_4 (dk_at dksX3_look_0 6 rfl rfl)
theorem dX3_look_7 : decode cX3_look 7 = .ok (.aload_n 0, 1) := dk_42 (dk_at dksX3_look_0 7 rfl rfl)
theorem dX3_look_8 : decode cX3_look 8 = .ok (.getfield 62, 3) := dk_180 0 62 (dk_at dksX3_look_0 8 rfl rfl)
theorem dX3_look_11 : decode cX3_look 11 = .ok (.isub, 1) := dk_100 (dk_at dksX3_look_0 11 rfl rfl)
theorem dX3_look_12 : decode cX3_look 12 = .ok (.invokevirtual 72, 3) := dk_182 0 72 (dk_at dksX3_look_0 12 rfl rfl)
theorem dX3_look_15 : decode cX3_look 15 = .ok (.ifCond .eq 4, 3) := dk_153 0 4 (dk_at dksX3_look_0 15 rfl rfl)
theorem dX3_look_18 : decode cX3_look 18 = .ok (.return_, 1) := dk_177 (dk_at dksX3_look_0 18 rfl rfl)
theorem dX3_look_19 : decode cX3_look 19 = .ok (.aload_n 0, 1) := dk_42 (dk_at dksX3_look_0 19 rfl rfl)
theorem dX3_look_20 : decode cX3_look 20 = .ok (.aload_n 0, 1) := dk_42 (dk_at dksX3_look_0 20 rfl rfl)
theorem dX3_look_21 : decode cX3_look 21 = .ok (.getfield 62, 3) := dk_180 0 62 (dk_at dksX3_look_0 21 rfl rfl)
theorem dX3_look_24 : decode cX3_look 24 = .ok (.invokevirtual 69, 3) := dk_182 0 69 (dk_at dksX3_look_1 0 rfl rfl)
theorem dX3_look_27 : decode cX3_look 27 = .ok (.iconst 3, 1) := dk_6 (dk_at dksX3_look_1 3 rfl rfl)
theorem dX3_look_28 : decode cX3_look 28 = .ok (.if_icmp .ge 7, 3) := dk_162 0 7 (dk_at dksX3_look_1 4 rfl rfl)
theorem dX3_look_31 : decode cX3_look 31 = .ok (.iconst 1, 1) := dk_4 (dk_at dksX3_look_1 7 rfl rfl)
theorem dX3_look_32 : decode cX3_look 32 = .ok (.goto 4, 3) := dk_167 0 4 (dk_at dksX3_look_1 8 rfl rfl)
theorem dX3_look_35 : decode cX3_look 35 = .ok (.iconst 0, 1) := dk_3 (dk_at dksX3_look_1 11 rfl rfl)
theorem dX3_look_36 : decode cX3_look 36 = .ok (.istore_n 1, 1) := dk_60 (dk_at dksX3_look_1 12 rfl rfl)
theorem dX3_look_37 : decode cX3_look 37 = .ok (.iconst 0, 1) := dk_3 (dk_at dksX3_look_1 13 rfl rfl)
theorem dX3_look_38 : decode cX3_look 38 = .ok (.istore_n 2, 1) := dk_61 (dk_at dksX3_look_1 14 rfl rfl)
theorem dX3_look_39 : decode cX3_look 39 = .ok (.iload_n 2, 1) := dk_28 (dk_at dksX3_look_1 15 rfl rfl)
theorem dX3_look_40 : decode cX3_look 40 = .ok (.bipush 9, 2) := dk_16 9 (dk_at dksX3_look_1 16 rfl rfl)
theorem dX3_look_42 : decode cX3_look 42 = .ok (.if_icmp .ge 121, 3) := dk_162 0 121 (dk_at dksX3_look_1 18 rfl rfl)
theorem dX3_look_45 : decode cX3_look 45 = .ok (.iload_n 1, 1) := dk_27 (dk_at dksX3_look_1 21 rfl rfl)
theorem dX3_look_46 : decode cX3_look 46 = .ok (.ifCond .eq 32, 3) := dk_153 0 32 (dk_at dksX3_look_2 0 rfl rfl)
theorem dX3_look_49 : decode cX3_look 49 = .ok (.aload_n 0, 1) := dk_42 (dk_at dksX3_look_2 3 rfl rfl)
theorem dX3_look_50 : decode cX3_look 50 = .ok (.getfield 33, 3) := dk_180 0 33 (dk_at dksX3_look_2 4 rfl rfl)
theorem dX3_look_53 : decode cX3_look 53 = .ok (.iload_n 2, 1) := dk_28 (dk_at dksX3_look_2 7 rfl rfl)
theorem dX3_look_54 : decode cX3_look 54 = .ok (.iaload, 1) := dk_46 (dk_at dksX3_look_2 8 rfl rfl)
theorem dX3_look_55 : decode cX3_look 55 = .ok (.ifCond .ne 23, 3) := dk_154 0 23 (dk_at dksX3_look_2 9 rfl rfl)
theorem dX3_look_58 : decode cX3_look 58 = .ok (.aload_n 0, 1) := dk_42 (dk_at dksX3_look_2 12 rfl rfl)
theorem dX3_look_59 : decode cX3_look 59 = .ok (.getfield 36, 3) := dk_180 0 36 (dk_at dksX3_look_2 13 rfl rfl)
theorem dX3_look_62 : decode cX3_look 62 = .ok (.aload_n 0, 1) := dk_42 (dk_at dksX3_look_2 16 rfl rfl)
theorem dX3_look_63 : decode cX3_look 63 = .ok (.getfield 76, 3) := dk_180 0 76 (dk_at dksX3_look_2 17 rfl rfl)
theorem dX3_look_66 : decode cX3_look 66 = .ok (.iload_n 2, 1) := dk_28 (dk_at dksX3_look_2 20 rfl rfl)
theorem dX3_look_67 : decode cX3_look 67 = .ok (.iastore, 1) := dk_79 (dk_at dksX3_look_2 21 rfl rfl)
theorem dX3_look_68 : decode cX3_look 68 = .ok (.aload_n 0, 1) := dk_42 (dk_at dksX3_look_2 22 rfl rfl)
theorem dX3_look_69 : decode cX3_look 69 = .ok (.dup, 1) := dk_89 (dk_at dksX3_look_2 23 rfl rfl)
theorem dX3_look_70 : decode cX3_look 70 = .ok (.getfield 76, 3) := dk_180 0 76 (dk_at dksX3_look_3 0 rfl rfl)
theorem dX3_look_73 : decode cX3_look 73 = .ok (.iconst 1, 1) := dk_4 (dk_at dksX3_look_3 3 rfl rfl)
theorem dX3_look_74 : decode cX3_look 74 = .ok (.iadd, 1) := dk_96 (dk_at dksX3_look_3 4 rfl rfl)
theorem dX3_look_75 : decode cX3_look 75 = .ok (.putfield 76, 3) := dk_181 0 76 (dk_at dksX3_look_3 5 rfl rfl)
theorem dX3_look_78 : decode cX3_look 78 = .ok (.iconst 0, 1) := dk_3 (dk_at dksX3_look_3 8 rfl rfl)
theorem dX3_look_79 : decode cX3_look 79 = .ok (.istore_n 3, 1) := dk_62 (dk_at dksX3_look_3 9 rfl rfl)
theorem dX3_look_80 : decode cX3_look 80 = .ok (.iload_n 3, 1) := dk_29 (dk_at dksX3_look_3 10 rfl rfl)
theorem dX3_look_81 : decode cX3_look 81 = .ok (.bipush 9, 2) := dk_16 9 (dk_at dksX3_look_3 11 rfl rfl)
theorem dX3_look_83 : decode cX3_look 83 = .ok (.if_icmp .ge 74, 3) := dk_162 0 74 (dk_at dksX3_look_3 13 rfl rfl)
theorem dX3_look_86 : decode cX3_look 86 = .ok (.iload_n 1, 1) := dk_27 (dk_at dksX3_look_3 16 rfl rfl)
theorem dX3_look_87 : decode cX3_look 87 = .ok (.ifCond .ne 70, 3) := dk_154 0 70 (dk_at dksX3_look_3 17 rfl rfl)
theorem dX3_look_90 : decode cX3_look 90 = .ok (.aload_n 0, 1) := dk_42 (dk_at dksX3_look_3 20 rfl rfl)
theorem dX3_look_91 : decode cX3_look 91 = .ok (.getfield 33, 3) := dk_180 0 33 (dk_at dksX3_look_3 21 rfl rfl)
theorem dX3_look_94 : decode cX3_look 94 = .ok (.iload_n 2, 1) := dk_28 (dk_at dksX3_look_4 0 rfl rfl)
theorem dX3_look_95 : decode cX3_look 95 = .ok (.iaload, 1) := dk_46 (dk_at dksX3_look_4 1 rfl rfl)
theorem dX3_look_96 : decode cX3_look 96 = .ok (.aload_n 0, 1) := dk_42 (dk_at dksX3_look_4 2 rfl rfl)
theorem dX3_look_97 : decode cX3_look 97 = .ok (.getfield 62, 3) := dk_180 0 62 (dk_at dksX3_look_4 3 rfl rfl)
theorem dX3_look_100 : decode cX3_look 100 = .ok (.iconst 1, 1) := dk_4 (dk_at dksX3_look_4 6 rfl rfl)
theorem dX3_look_101 : decode cX3_look 101 = .ok (.iadd, 1) := dk_96 (dk_at dksX3_look_4 7 rfl rfl)
theorem dX3_look_102 : decode cX3_look 102 = .ok (.if_icmp .ne 55, 3) := dk_160 0 55 (dk_at dksX3_look_4 8 rfl rfl)
theorem dX3_look_105 : decode cX3_look 105 = .ok (.aload_n 0, 1) := dk_42 (dk_at dksX3_look_4 11 rfl rfl)
theorem dX3_look_106 : decode cX3_look 106 = .ok (.getfield 33, 3) := dk_180 0 33 (dk_at dksX3_look_4 12 rfl rfl)
theorem dX3_look_109 : decode cX3_look 109 = .ok (.iload_n 3, 1) := dk_29 (dk_at dksX3_look_4 15 rfl rfl)
theorem dX3_look_110 : decode cX3_look 110 = .ok (.iaload, 1) := dk_46 (dk_at dksX3_look_4 16 rfl rfl)
theorem dX3_look_111 : decode cX3_look 111 = .ok (.ifCond .ne 40, 3) := dk_154 0 40 (dk_at dksX3_look_4 17 rfl rfl)
theorem dX3_look_114 : decode cX3_look 114 = .ok (.aload_n 0, 1) := dk_42 (dk_at dksX3_look_4 20 rfl rfl)
theorem dX3_look_115 : decode cX3_look 115 = .ok (.iload_n 2, 1) := dk_28 (dk_at dksX3_look_4 21 rfl rfl)
theorem dX3_look_116 : decode cX3_look 116 = .ok (.iload_n 3, 1) := dk_29 (dk_at dksX3_look_4 22 rfl rfl)
theorem dX3_look_117 : decode cX3_look 117 = .ok (.invokevirtual 79, 3) := dk_182 0 79 (dk_at dksX3_look_5 0 rfl rfl)
theorem dX3_look_120 : decode cX3_look 120 = .ok (.ifCond .eq 31, 3) := dk_153 0 31 (dk_at dksX3_look_5 3 rfl rfl)
theorem dX3_look_123 : decode cX3_look 123 = .ok (.aload_n 0, 1) := dk_42 (dk_at dksX3_look_5 6 rfl rfl)
theorem dX3_look_124 : decode cX3_look 124 = .ok (.getfield 36, 3) := dk_180 0 36 (dk_at dksX3_look_5 7 rfl rfl)
theorem dX3_look_127 : decode cX3_look 127 = .ok (.aload_n 0, 1) := dk_42 (dk_at dksX3_look_5 10 rfl rfl)
theorem dX3_look_128 : decode cX3_look 128 = .ok (.getfield 76, 3) := dk_180 0 76 (dk_at dksX3_look_5 11 rfl rfl)
theorem dX3_look_131 : decode cX3_look 131 = .ok (.bipush 9, 2) := dk_16 9 (dk_at dksX3_look_5 14 rfl rfl)
theorem dX3_look_133 : decode cX3_look 133 = .ok (.bipush 9, 2) := dk_16 9 (dk_at dksX3_look_5 16 rfl rfl)
theorem dX3_look_135 : decode cX3_look 135 = .ok (.iload_n 2, 1) := dk_28 (dk_at dksX3_look_5 18 rfl rfl)
theorem dX3_look_136 : decode cX3_look 136 = .ok (.imul, 1) := dk_104 (dk_at dksX3_look_5 19 rfl rfl)
theorem dX3_look_137 : decode cX3_look 137 = .ok (.iadd, 1) := dk_96 (dk_at dksX3_look_5 20 rfl rfl)
theorem dX3_look_138 : decode cX3_look 138 = .ok (.iload_n 3, 1) := dk_29 (dk_at dksX3_look_5 21 rfl rfl)
theorem dX3_look_139 : decode cX3_look 139 = .ok (.iadd, 1) := dk_96 (dk_at dksX3_look_5 22 rfl rfl)
theorem dX3_look_140 : decode cX3_look 140 = .ok (.iastore, 1) := dk_79 (dk_at dksX3_look_5 23 rfl rfl)
theorem dX3_look_141 : decode cX3_look 141 = .ok (.aload_n 0, 1) := dk_42 (dk_at dksX3_look_6 0 rfl rfl)
theorem dX3_look_142 : decode cX3_look 142 = .ok (.dup, 1) := dk_89 (dk_at dksX3_look_6 1 rfl rfl)
theorem dX3_look_143 : decode cX3_look 143 = .ok (.getfield 76, 3) := dk_180 0 76 (dk_at dksX3_look_6 2 rfl rfl)
theorem dX3_look_146 : decode cX3_look 146 = .ok (.iconst 1, 1) := dk_4 (dk_at dksX3_look_6 5 rfl rfl)
theorem dX3_look_147 : decode cX3_look 147 = .ok (.iadd, 1) := dk_96 (dk_at dksX3_look_6 6 rfl rfl)
theorem dX3_look_148 : decode cX3_look 148 = .ok (.putfield 76, 3) := dk_181 0 76 (dk_at dksX3_look_6 7 rfl rfl)
theorem dX3_look_151 : decode cX3_look 151 = .ok (.iinc 3 1, 3) := dk_132 3 1 (dk_at dksX3_look_6 10 rfl rfl)
theorem dX3_look_154 : decode cX3_look 154 = .ok (.goto (-74), 3) := dk_167 255 182 (dk_at dksX3_look_6 13 rfl rfl)
theorem dX3_look_157 : decode cX3_look 157 = .ok (.iinc 2 1, 3) := dk_132 2 1 (dk_at dksX3_look_6 16 rfl rfl)
theorem dX3_look_160 : decode cX3_look 160 = .ok (.goto (-121), 3) := dk_167 255 135 (dk_at dksX3_look_6 19 rfl rfl)
theorem dX3_look_163 : decode cX3_look 163 = .ok (.aload_n 0, 1) := dk_42 (dk_at dksX3_look_6 22 rfl rfl)
theorem dX3_look_164 : decode cX3_look 164 = .ok (.getfield 76, 3) := dk_180 0 76 (dk_at dksX3_look_7 0 rfl rfl)
theorem dX3_look_167 : decode cX3_look 167 = .ok (.ifCond .ne 26, 3) := dk_154 0 26 (dk_at dksX3_look_7 3 rfl rfl)
theorem dX3_look_170 : decode cX3_look 170 = .ok (.aload_n 0, 1) := dk_42 (dk_at dksX3_look_7 6 rfl rfl)
theorem dX3_look_171 : decode cX3_look 171 = .ok (.getfield 7, 3) := dk_180 0 7 (dk_at dksX3_look_7 7 rfl rfl)
theorem dX3_look_174 : decode cX3_look 174 = .ok (.iconst 1, 1) := dk_4 (dk_at dksX3_look_7 10 rfl rfl)
theorem dX3_look_175 : decode cX3_look 175 = .ok (.iaload, 1) := dk_46 (dk_at dksX3_look_7 11 rfl rfl)
theorem dX3_look_176 : decode cX3_look 176 = .ok (.iconst 1, 1) := dk_4 (dk_at dksX3_look_7 12 rfl rfl)
theorem dX3_look_177 : decode cX3_look 177 = .ok (.if_icmp .ne 16, 3) := dk_160 0 16 (dk_at dksX3_look_7 13 rfl rfl)
theorem dX3_look_180 : decode cX3_look 180 = .ok (.aload_n 0, 1) := dk_42 (dk_at dksX3_look_7 16 rfl rfl)
theorem dX3_look_181 : decode cX3_look 181 = .ok (.getfield 36, 3) := dk_180 0 36 (dk_at dksX3_look_7 17 rfl rfl)
theorem dX3_look_184 : decode cX3_look 184 = .ok (.iconst 0, 1) := dk_3 (dk_at dksX3_look_7 20 rfl rfl)
theorem dX3_look_185 : decode cX3_look 185 = .ok (.bipush 90, 2) := dk_16 90 (dk_at dksX3_look_7 21 rfl rfl)
theorem dX3_look_187 : decode cX3_look 187 = .ok (.iastore, 1) := dk_79 (dk_at dksX3_look_7 23 rfl rfl)
theorem dX3_look_188 : decode cX3_look 188 = .ok (.aload_n 0, 1) := dk_42 (dk_at dksX3_look_8 0 rfl rfl)
theorem dX3_look_189 : decode cX3_look 189 = .ok (.iconst 1, 1) := dk_4 (dk_at dksX3_look_8 1 rfl rfl)
theorem dX3_look_190 : decode cX3_look 190 = .ok (.putfield 76, 3) := dk_181 0 76 (dk_at dksX3_look_8 2 rfl rfl)
theorem dX3_look_193 : decode cX3_look 193 = .ok (.return_, 1) := dk_177 (dk_at dksX3_look_8 5 rfl rfl)
abbrev cX3_hasLine : ByteArray := prog_8_method_13_code
def yX3_hasLine : MethodName := ⟨RX3, "hasLine", "(I)Z"⟩
def dkwX3_hasLine_3 : List UInt8 := [3, 172]
abbrev dktX3_hasLine_3 : List UInt8 := dkwX3_hasLine_3 ++ []
def dkwX3_hasLine_2 : List UInt8 := [42, 27, 3, 7, 182, 0, 65, 154, 0, 13, 42, 27, 5, 5, 182, 0, 65, 153, 0, 7, 4, 167, 0, 4]
abbrev dktX3_hasLine_2 : List UInt8 := dkwX3_hasLine_2 ++ dktX3_hasLine_3
def dkwX3_hasLine_1 : List UInt8 := [182, 0, 65, 153, 0, 5, 4, 172, 132, 2, 1, 167, 255, 224, 42, 180, 0, 7, 3, 46, 4, 160, 0, 27]
abbrev dktX3_hasLine_1 : List UInt8 := dkwX3_hasLine_1 ++ dktX3_hasLine_2
def dkwX3_hasLine_0 : List UInt8 := [3, 61, 28, 6, 162, 0, 33, 42, 27, 6, 28, 104, 4, 182, 0, 65, 154, 0, 13, 42, 27, 28, 6]
abbrev dktX3_hasLine_0 : List UInt8 := dkwX3_hasLine_0 ++ dktX3_hasLine_1
theorem dksX3_hasLine_0 : cX3_hasLine.data.toList.drop 0 = dktX3_hasLine_0 := by decide +kernel
theorem dksX3_hasLine_1 : cX3_hasLine.data.toList.drop 23 = dktX3_hasLine_1 := dk_seg dksX3_hasLine_0 23 rfl rfl
theorem dksX3_hasLine_2 : cX3_hasLine.data.toList.drop 47 = dktX3_hasLine_2 := dk_seg dksX3_hasLine_1 24 rfl rfl
theorem dksX3_hasLine_3 : cX3_hasLine.data.toList.drop 71 = dktX3_hasLine_3 := dk_seg dksX3_hasLine_2 24 rfl rfl
theorem dX3_hasLine_0 : decode cX3_hasLine 0 = .ok (.iconst 0, 1) := dk_3 (dk_at dksX3_hasLine_0 0 rfl rfl)
theorem dX3_hasLine_1 : decode cX3_hasLine 1 = .ok (.istore_n 2, 1) := dk_61 (dk_at dksX3_hasLine_0 1 rfl rfl)
theorem dX3_hasLine_2 : decode cX3_hasLine 2 = .ok (.iload_n 2, 1) := dk_28 (dk_at dksX3_hasLine_0 2 rfl rfl)
theorem dX3_hasLine_3 : decode cX3_hasLine 3 = .ok (.iconst 3, 1) := dk_6 (dk_at dksX3_hasLine_0 3 rfl rfl)
theorem dX3_hasLine_4 : decode cX3_hasLine 4 = .ok (.if_icmp .ge 33, 3) := dk_162 0 33 (dk_at dksX3_hasLine_0 4 rfl rfl)
theorem dX3_hasLine_7 : decode cX3_hasLine 7 = .ok (.aload_n 0, 1) := dk_42 (dk_at dksX3_hasLine_0 7 rfl rfl)
theorem dX3_hasLine_8 : decode cX3_hasLine 8 = .ok (.iload_n 1, 1) := dk_27 (dk_at dksX3_hasLine_0 8 rfl rfl)
theorem dX3_hasLine_9 : decode cX3_hasLine 9 = .ok (.iconst 3, 1) := dk_6 (dk_at dksX3_hasLine_0 9 rfl rfl)
theorem dX3_hasLine_10 : decode cX3_hasLine 10 = .ok (.iload_n 2, 1) := dk_28 (dk_at dksX3_hasLine_0 10 rfl rfl)
theorem dX3_hasLine_11 : decode cX3_hasLine 11 = .ok (.imul, 1) := dk_104 (dk_at dksX3_hasLine_0 11 rfl rfl)
theorem dX3_hasLine_12 : decode cX3_hasLine 12 = .ok (.iconst 1, 1) := dk_4 (dk_at dksX3_hasLine_0 12 rfl rfl)
theorem dX3_hasLine_13 : decode cX3_hasLine 13 = .ok (.invokevirtual 65, 3) := dk_182 0 65 (dk_at dksX3_hasLine_0 13 rfl rfl)
theorem dX3_hasLine_16 : decode cX3_hasLine 16 = .ok (.ifCond .ne 13, 3) := dk_154 0 13 (dk_at dksX3_hasLine_0 16 rfl rfl)
theorem dX3_hasLine_19 : decode cX3_hasLine 19 = .ok (.aload_n 0, 1) := dk_42 (dk_at dksX3_hasLine_0 19 rfl rfl)
theorem dX3_hasLine_20 : decode cX3_hasLine 20 = .ok (.iload_n 1, 1) := dk_27 (dk_at dksX3_hasLine_0 20 rfl rfl)
theorem dX3_hasLine_21 : decode cX3_hasLine 21 = .ok (.iload_n 2, 1) := dk_28 (dk_at dksX3_hasLine_0 21 rfl rfl)
theorem dX3_hasLine_22 : decode cX3_hasLine 22 = .ok (.iconst 3, 1) := dk_6 (dk_at dksX3_hasLine_0 22 rfl rfl)
theorem dX3_hasLine_23 : decode cX3_hasLine 23 = .ok (.invokevirtual 65, 3) := dk_182 0 65 (dk_at dksX3_hasLine_1 0 rfl rfl)
theorem dX3_hasLine_26 : decode cX3_hasLine 26 = .ok (.ifCond .eq 5, 3) := dk_153 0 5 (dk_at dksX3_hasLine_1 3 rfl rfl)
theorem dX3_hasLine_29 : decode cX3_hasLine 29 = .ok (.iconst 1, 1) := dk_4 (dk_at dksX3_hasLine_1 6 rfl rfl)
theorem dX3_hasLine_30 : decode cX3_hasLine 30 = .ok (.ireturn, 1) := dk_172 (dk_at dksX3_hasLine_1 7 rfl rfl)
theorem dX3_hasLine_31 : decode cX3_hasLine 31 = .ok (.iinc 2 1, 3) := dk_132 2 1 (dk_at dksX3_hasLine_1 8 rfl rfl)
theorem dX3_hasLine_34 : decode cX3_hasLine 34 = .ok (.goto (-32), 3) := dk_167 255 224 (dk_at dksX3_hasLine_1 11 rfl rfl)
theorem dX3_hasLine_37 : decode cX3_hasLine 37 = .ok (.aload_n 0, 1) := dk_42 (dk_at dksX3_hasLine_1 14 rfl rfl)
theorem dX3_hasLine_38 : decode cX3_hasLine 38 = .ok (.getfield 7, 3) := dk_180 0 7 (dk_at dksX3_hasLine_1 15 rfl rfl)
theorem dX3_hasLine_41 : decode cX3_hasLine 41 = .ok (.iconst 0, 1) := dk_3 (dk_at dksX3_hasLine_1 18 rfl rfl)
theorem dX3_hasLine_42 : decode cX3_hasLine 42 = .ok (.iaload, 1) := dk_46 (dk_at dksX3_hasLine_1 19 rfl rfl)
theorem dX3_hasLine_43 : decode cX3_hasLine 43 = .ok (.iconst 1, 1) := dk_4 (dk_at dksX3_hasLine_1 20 rfl rfl)
theorem dX3_hasLine_44 : decode cX3_hasLine 44 = .ok (.if_icmp .ne 27, 3) := dk_160 0 27 (dk_at dksX3_hasLine_1 21 rfl rfl)
theorem dX3_hasLine_47 : decode cX3_hasLine 47 = .ok (.aload_n 0, 1) := dk_42 (dk_at dksX3_hasLine_2 0 rfl rfl)
theorem dX3_hasLine_48 : decode cX3_hasLine 48 = .ok (.iload_n 1, 1) := dk_27 (dk_at dksX3_hasLine_2 1 rfl rfl)
theorem dX3_hasLine_49 : decode cX3_hasLine 49 = .ok (.iconst 0, 1) := dk_3 (dk_at dksX3_hasLine_2 2 rfl rfl)
theorem dX3_hasLine_50 : decode cX3_hasLine 50 = .ok (.iconst 4, 1) := dk_7 (dk_at dksX3_hasLine_2 3 rfl rfl)
theorem dX3_hasLine_51 : decode cX3_hasLine 51 = .ok (.invokevirtual 65, 3) := dk_182 0 65 (dk_at dksX3_hasLine_2 4 rfl rfl)
theorem dX3_hasLine_54 : decode cX3_hasLine 54 = .ok (.ifCond .ne 13, 3) := dk_154 0 13 (dk_at dksX3_hasLine_2 7 rfl rfl)
theorem dX3_hasLine_57 : decode cX3_hasLine 57 = .ok (.aload_n 0, 1) := dk_42 (dk_at dksX3_hasLine_2 10 rfl rfl)
theorem dX3_hasLine_58 : decode cX3_hasLine 58 = .ok (.iload_n 1, 1) := dk_27 (dk_at dksX3_hasLine_2 11 rfl rfl)
theorem dX3_hasLine_59 : decode cX3_hasLine 59 = .ok (.iconst 2, 1) := dk_5 (dk_at dksX3_hasLine_2 12 rfl rfl)
theorem dX3_hasLine_60 : decode cX3_hasLine 60 = .ok (.iconst 2, 1) := dk_5 (dk_at dksX3_hasLine_2 13 rfl rfl)
theorem dX3_hasLine_61 : decode cX3_hasLine 61 = .ok (.invokevirtual 65, 3) := dk_182 0 65 (dk_at dksX3_hasLine_2 14 rfl rfl)
theorem dX3_hasLine_64 : decode cX3_hasLine 64 = .ok (.ifCond .eq 7, 3) := dk_153 0 7 (dk_at dksX3_hasLine_2 17 rfl rfl)
theorem dX3_hasLine_67 : decode cX3_hasLine 67 = .ok (.iconst 1, 1) := dk_4 (dk_at dksX3_hasLine_2 20 rfl rfl)
theorem dX3_hasLine_68 : decode cX3_hasLine 68 = .ok (.goto 4, 3) := dk_167 0 4 (dk_at dksX3_hasLine_2 21 rfl rfl)
theorem dX3_hasLine_71 : decode cX3_hasLine 71 = .ok (.iconst 0, 1) := dk_3 (dk_at dksX3_hasLine_3 0 rfl rfl)
theorem dX3_hasLine_72 : decode cX3_hasLine 72 = .ok (.ireturn, 1) := dk_172 (dk_at dksX3_hasLine_3 1 rfl rfl)
abbrev cX3_three : ByteArray := prog_8_method_12_code
def yX3_three : MethodName := ⟨RX3, "three", "(III)Z"⟩
def dkwX3_three_2 : List UInt8 := [3, 172]
abbrev dktX3_three_2 : List UInt8 := dkwX3_three_2 ++ []
def dkwX3_three_1 : List UInt8 := [21, 4, 160, 0, 22, 42, 180, 0, 33, 28, 5, 29, 104, 96, 46, 21, 4, 160, 0, 7, 4, 167, 0, 4]
abbrev dktX3_three_1 : List UInt8 := dkwX3_three_1 ++ dktX3_three_2
def dkwX3_three_0 : List UInt8 := [27, 4, 96, 54, 4, 42, 180, 0, 33, 28, 46, 21, 4, 160, 0, 35, 42, 180, 0, 33, 28, 29, 96, 46]
abbrev dktX3_three_0 : List UInt8 := dkwX3_three_0 ++ dktX3_three_1
theorem dksX3_three_0 : cX3_three.data.toList.drop 0 = dktX3_three_0 := by decide +kernel
theorem dksX3_three_1 : cX3_three.data.toList.drop 24 = dktX3_three_1 := dk_seg dksX3_three_0 24 rfl rfl
theorem dksX3_three_2 : cX3_three.data.toList.drop 48 = dktX3_three_2 := dk_seg dksX3_three_1 24 rfl rfl
theorem dX3_three_0 : decode cX3_three 0 = .ok (.iload_n 1, 1) := dk_27 (dk_at dksX3_three_0 0 rfl rfl)
theorem dX3_three_1 : decode cX3_three 1 = .ok (.iconst 1, 1) := dk_4 (dk_at dksX3_three_0 1 rfl rfl)
theorem dX3_three_2 : decode cX3_three 2 = .ok (.iadd, 1) := dk_96 (dk_at dksX3_three_0 2 rfl rfl)
theorem dX3_three_3 : decode cX3_three 3 = .ok (.istore 4, 2) := dk_54 4 (dk_at dksX3_three_0 3 rfl rfl)
theorem dX3_three_5 : decode cX3_three 5 = .ok (.aload_n 0, 1) := dk_42 (dk_at dksX3_three_0 5 rfl rfl)
theorem dX3_three_6 : decode cX3_three 6 = .ok (.getfield 33, 3) := dk_180 0 33 (dk_at dksX3_three_0 6 rfl rfl)
theorem dX3_three_9 : decode cX3_three 9 = .ok (.iload_n 2, 1) := dk_28 (dk_at dksX3_three_0 9 rfl rfl)
theorem dX3_three_10 : decode cX3_three 10 = .ok (.iaload, 1) := dk_46 (dk_at dksX3_three_0 10 rfl rfl)
theorem dX3_three_11 : decode cX3_three 11 = .ok (.iload 4, 2) := dk_21 4 (dk_at dksX3_three_0 11 rfl rfl)
theorem dX3_three_13 : decode cX3_three 13 = .ok (.if_icmp .ne 35, 3) := dk_160 0 35 (dk_at dksX3_three_0 13 rfl rfl)
theorem dX3_three_16 : decode cX3_three 16 = .ok (.aload_n 0, 1) := dk_42 (dk_at dksX3_three_0 16 rfl rfl)
theorem dX3_three_17 : decode cX3_three 17 = .ok (.getfield 33, 3) := dk_180 0 33 (dk_at dksX3_three_0 17 rfl rfl)
theorem dX3_three_20 : decode cX3_three 20 = .ok (.iload_n 2, 1) := dk_28 (dk_at dksX3_three_0 20 rfl rfl)
theorem dX3_three_21 : decode cX3_three 21 = .ok (.iload_n 3, 1) := dk_29 (dk_at dksX3_three_0 21 rfl rfl)
theorem dX3_three_22 : decode cX3_three 22 = .ok (.iadd, 1) := dk_96 (dk_at dksX3_three_0 22 rfl rfl)
theorem dX3_three_23 : decode cX3_three 23 = .ok (.iaload, 1) := dk_46 (dk_at dksX3_three_0 23 rfl rfl)
theorem dX3_three_24 : decode cX3_three 24 = .ok (.iload 4, 2) := dk_21 4 (dk_at dksX3_three_1 0 rfl rfl)
theorem dX3_three_26 : decode cX3_three 26 = .ok (.if_icmp .ne 22, 3) := dk_160 0 22 (dk_at dksX3_three_1 2 rfl rfl)
theorem dX3_three_29 : decode cX3_three 29 = .ok (.aload_n 0, 1) := dk_42 (dk_at dksX3_three_1 5 rfl rfl)
theorem dX3_three_30 : decode cX3_three 30 = .ok (.getfield 33, 3) := dk_180 0 33 (dk_at dksX3_three_1 6 rfl rfl)
theorem dX3_three_33 : decode cX3_three 33 = .ok (.iload_n 2, 1) := dk_28 (dk_at dksX3_three_1 9 rfl rfl)
theorem dX3_three_34 : decode cX3_three 34 = .ok (.iconst 2, 1) := dk_5 (dk_at dksX3_three_1 10 rfl rfl)
theorem dX3_three_35 : decode cX3_three 35 = .ok (.iload_n 3, 1) := dk_29 (dk_at dksX3_three_1 11 rfl rfl)
theorem dX3_three_36 : decode cX3_three 36 = .ok (.imul, 1) := dk_104 (dk_at dksX3_three_1 12 rfl rfl)
theorem dX3_three_37 : decode cX3_three 37 = .ok (.iadd, 1) := dk_96 (dk_at dksX3_three_1 13 rfl rfl)
theorem dX3_three_38 : decode cX3_three 38 = .ok (.iaload, 1) := dk_46 (dk_at dksX3_three_1 14 rfl rfl)
theorem dX3_three_39 : decode cX3_three 39 = .ok (.iload 4, 2) := dk_21 4 (dk_at dksX3_three_1 15 rfl rfl)
theorem dX3_three_41 : decode cX3_three 41 = .ok (.if_icmp .ne 7, 3) := dk_160 0 7 (dk_at dksX3_three_1 17 rfl rfl)
theorem dX3_three_44 : decode cX3_three 44 = .ok (.iconst 1, 1) := dk_4 (dk_at dksX3_three_1 20 rfl rfl)
theorem dX3_three_45 : decode cX3_three 45 = .ok (.goto 4, 3) := dk_167 0 4 (dk_at dksX3_three_1 21 rfl rfl)
theorem dX3_three_48 : decode cX3_three 48 = .ok (.iconst 0, 1) := dk_3 (dk_at dksX3_three_2 0 rfl rfl)
theorem dX3_three_49 : decode cX3_three 49 = .ok (.ireturn, 1) := dk_172 (dk_at dksX3_three_2 1 rfl rfl)
abbrev cX3_men : ByteArray := prog_8_method_11_code
def yX3_men : MethodName := ⟨RX3, "men", "(I)I"⟩
def dkwX3_men_1 : List UInt8 := [167, 0, 4, 3, 96, 61, 132, 3, 1, 167, 255, 227, 28, 172]
abbrev dktX3_men_1 : List UInt8 := dkwX3_men_1 ++ []
def dkwX3_men_0 : List UInt8 := [3, 61, 3, 62, 29, 16, 9, 162, 0, 29, 28, 42, 180, 0, 33, 29, 46, 27, 4, 96, 160, 0, 7, 4]
abbrev dktX3_men_0 : List UInt8 := dkwX3_men_0 ++ dktX3_men_1
theorem dksX3_men_0 : cX3_men.data.toList.drop 0 = dktX3_men_0 := by decide +kernel
theorem dksX3_men_1 : cX3_men.data.toList.drop 24 = dktX3_men_1 := dk_seg dksX3_men_0 24 rfl rfl
theorem dX3_men_0 : decode cX3_men 0 = .ok (.iconst 0, 1) := dk_3 (dk_at dksX3_men_0 0 rfl rfl)
theorem dX3_men_1 : decode cX3_men 1 = .ok (.istore_n 2, 1) := dk_61 (dk_at dksX3_men_0 1 rfl rfl)
theorem dX3_men_2 : decode cX3_men 2 = .ok (.iconst 0, 1) := dk_3 (dk_at dksX3_men_0 2 rfl rfl)
theorem dX3_men_3 : decode cX3_men 3 = .ok (.istore_n 3, 1) := dk_62 (dk_at dksX3_men_0 3 rfl rfl)
theorem dX3_men_4 : decode cX3_men 4 = .ok (.iload_n 3, 1) := dk_29 (dk_at dksX3_men_0 4 rfl rfl)
theorem dX3_men_5 : decode cX3_men 5 = .ok (.bipush 9, 2) := dk_16 9 (dk_at dksX3_men_0 5 rfl rfl)
theorem dX3_men_7 : decode cX3_men 7 = .ok (.if_icmp .ge 29, 3) := dk_162 0 29 (dk_at dksX3_men_0 7 rfl rfl)
theorem dX3_men_10 : decode cX3_men 10 = .ok (.iload_n 2, 1) := dk_28 (dk_at dksX3_men_0 10 rfl rfl)
theorem dX3_men_11 : decode cX3_men 11 = .ok (.aload_n 0, 1) := dk_42 (dk_at dksX3_men_0 11 rfl rfl)
theorem dX3_men_12 : decode cX3_men 12 = .ok (.getfield 33, 3) := dk_180 0 33 (dk_at dksX3_men_0 12 rfl rfl)
theorem dX3_men_15 : decode cX3_men 15 = .ok (.iload_n 3, 1) := dk_29 (dk_at dksX3_men_0 15 rfl rfl)
theorem dX3_men_16 : decode cX3_men 16 = .ok (.iaload, 1) := dk_46 (dk_at dksX3_men_0 16 rfl rfl)
theorem dX3_men_17 : decode cX3_men 17 = .ok (.iload_n 1, 1) := dk_27 (dk_at dksX3_men_0 17 rfl rfl)
theorem dX3_men_18 : decode cX3_men 18 = .ok (.iconst 1, 1) := dk_4 (dk_at dksX3_men_0 18 rfl rfl)
theorem dX3_men_19 : decode cX3_men 19 = .ok (.iadd, 1) := dk_96 (dk_at dksX3_men_0 19 rfl rfl)
theorem dX3_men_20 : decode cX3_men 20 = .ok (.if_icmp .ne 7, 3) := dk_160 0 7 (dk_at dksX3_men_0 20 rfl rfl)
theorem dX3_men_23 : decode cX3_men 23 = .ok (.iconst 1, 1) := dk_4 (dk_at dksX3_men_0 23 rfl rfl)
theorem dX3_men_24 : decode cX3_men 24 = .ok (.goto 4, 3) := dk_167 0 4 (dk_at dksX3_men_1 0 rfl rfl)
theorem dX3_men_27 : decode cX3_men 27 = .ok (.iconst 0, 1) := dk_3 (dk_at dksX3_men_1 3 rfl rfl)
theorem dX3_men_28 : decode cX3_men 28 = .ok (.iadd, 1) := dk_96 (dk_at dksX3_men_1 4 rfl rfl)
theorem dX3_men_29 : decode cX3_men 29 = .ok (.istore_n 2, 1) := dk_61 (dk_at dksX3_men_1 5 rfl rfl)
theorem dX3_men_30 : decode cX3_men 30 = .ok (.iinc 3 1, 3) := dk_132 3 1 (dk_at dksX3_men_1 6 rfl rfl)
theorem dX3_men_33 : decode cX3_men 33 = .ok (.goto (-29), 3) := dk_167 255 227 (dk_at dksX3_men_1 9 rfl rfl)
theorem dX3_men_36 : decode cX3_men 36 = .ok (.iload_n 2, 1) := dk_28 (dk_at dksX3_men_1 12 rfl rfl)
theorem dX3_men_37 : decode cX3_men 37 = .ok (.ireturn, 1) := dk_172 (dk_at dksX3_men_1 13 rfl rfl)
abbrev cX3_areNeighbours : ByteArray := prog_8_method_14_code
def yX3_areNeighbours : MethodName := ⟨RX3, "areNeighbours", "(II)Z"⟩
def dkwX3_areNeighbours_2 : List UInt8 := [160, 0, 17, 27, 7, 159, 0, 8, 28, 7, 160, 0, 7, 4, 167, 0, 4, 3, 172]
abbrev dktX3_areNeighbours_2 : List UInt8 := dkwX3_areNeighbours_2 ++ []
def dkwX3_areNeighbours_1 : List UInt8 := [104, 96, 54, 5, 21, 5, 4, 159, 0, 29, 21, 5, 5, 160, 0, 27, 42, 180, 0, 7, 3, 46, 4]
abbrev dktX3_areNeighbours_1 : List UInt8 := dkwX3_areNeighbours_1 ++ dktX3_areNeighbours_2
def dkwX3_areNeighbours_0 : List UInt8 := [27, 6, 108, 28, 6, 108, 100, 62, 27, 6, 112, 28, 6, 112, 100, 54, 4, 29, 29, 104, 21, 4, 21, 4]
abbrev dktX3_areNeighbours_0 : List UInt8 := dkwX3_areNeighbours_0 ++ dktX3_areNeighbours_1
theorem dksX3_areNeighbours_0 : cX3_areNeighbours.data.toList.drop 0 = dktX3_areNeighbours_0 := by decide +kernel
theorem dksX3_areNeighbours_1 : cX3_areNeighbours.data.toList.drop 24 = dktX3_areNeighbours_1 := dk_seg dksX3_areNeighbours_0 24 rfl rfl
theorem dksX3_areNeighbours_2 : cX3_areNeighbours.data.toList.drop 47 = dktX3_areNeighbours_2 := dk_seg dksX3_areNeighbours_1 23 rfl rfl
theorem dX3_areNeighbours_0 : decode cX3_areNeighbours 0 = .ok (.iload_n 1, 1) := dk_27 (dk_at dksX3_areNeighbours_0 0 rfl rfl)
theorem dX3_areNeighbours_1 : decode cX3_areNeighbours 1 = .ok (.iconst 3, 1) := dk_6 (dk_at dksX3_areNeighbours_0 1 rfl rfl)
theorem dX3_areNeighbours_2 : decode cX3_areNeighbours 2 = .ok (.idiv, 1) := dk_108 (dk_at dksX3_areNeighbours_0 2 rfl rfl)
theorem dX3_areNeighbours_3 : decode cX3_areNeighbours 3 = .ok (.iload_n 2, 1) := dk_28 (dk_at dksX3_areNeighbours_0 3 rfl rfl)
theorem dX3_areNeighbours_4 : decode cX3_areNeighbours 4 = .ok (.iconst 3, 1) := dk_6 (dk_at dksX3_areNeighbours_0 4 rfl rfl)
theorem dX3_areNeighbours_5 : decode cX3_areNeighbours 5 = .ok (.idiv, 1) := dk_108 (dk_at dksX3_areNeighbours_0 5 rfl rfl)
theorem dX3_areNeighbours_6 : decode cX3_areNeighbours 6 = .ok (.isub, 1) := dk_100 (dk_at dksX3_areNeighbours_0 6 rfl rfl)
theorem dX3_areNeighbours_7 : decode cX3_areNeighbours 7 = .ok (.istore_n 3, 1) := dk_62 (dk_at dksX3_areNeighbours_0 7 rfl rfl)
theorem dX3_areNeighbours_8 : decode cX3_areNeighbours 8 = .ok (.iload_n 1, 1) := dk_27 (dk_at dksX3_areNeighbours_0 8 rfl rfl)
theorem dX3_areNeighbours_9 : decode cX3_areNeighbours 9 = .ok (.iconst 3, 1) := dk_6 (dk_at dksX3_areNeighbours_0 9 rfl rfl)
theorem dX3_areNeighbours_10 : decode cX3_areNeighbours 10 = .ok (.irem, 1) := dk_112 (dk_at dksX3_areNeighbours_0 10 rfl rfl)
theorem dX3_areNeighbours_11 : decode cX3_areNeighbours 11 = .ok (.iload_n 2, 1) := dk_28 (dk_at dksX3_areNeighbours_0 11 rfl rfl)
theorem dX3_areNeighbours_12 : decode cX3_areNeighbours 12 = .ok (.iconst 3, 1) := dk_6 (dk_at dksX3_areNeighbours_0 12 rfl rfl)
theorem dX3_areNeighbours_13 : decode cX3_areNeighbours 13 = .ok (.irem, 1) := dk_112 (dk_at dksX3_areNeighbours_0 13 rfl rfl)
theorem dX3_areNeighbours_14 : decode cX3_areNeighbours 14 = .ok (.isub, 1) := dk_100 (dk_at dksX3_areNeighbours_0 14 rfl rfl)
theorem dX3_areNeighbours_15 : decode cX3_areNeighbours 15 = .ok (.istore 4, 2) := dk_54 4 (dk_at dksX3_areNeighbours_0 15 rfl rfl)
theorem dX3_areNeighbours_17 : decode cX3_areNeighbours 17 = .ok (.iload_n 3, 1) := dk_29 (dk_at dksX3_areNeighbours_0 17 rfl rfl)
theorem dX3_areNeighbours_18 : decode cX3_areNeighbours 18 = .ok (.iload_n 3, 1) := dk_29 (dk_at dksX3_areNeighbours_0 18 rfl rfl)
theorem dX3_areNeighbours_19 : decode cX3_areNeighbours 19 = .ok (.imul, 1) := dk_104 (dk_at dksX3_areNeighbours_0 19 rfl rfl)
theorem dX3_areNeighbours_20 : decode cX3_areNeighbours 20 = .ok (.iload 4, 2) := dk_21 4 (dk_at dksX3_areNeighbours_0 20 rfl rfl)
theorem dX3_areNeighbours_22 : decode cX3_areNeighbours 22 = .ok (.iload 4, 2) := dk_21 4 (dk_at dksX3_areNeighbours_0 22 rfl rfl)
theorem dX3_areNeighbours_24 : decode cX3_areNeighbours 24 = .ok (.imul, 1) := dk_104 (dk_at dksX3_areNeighbours_1 0 rfl rfl)
theorem dX3_areNeighbours_25 : decode cX3_areNeighbours 25 = .ok (.iadd, 1) := dk_96 (dk_at dksX3_areNeighbours_1 1 rfl rfl)
theorem dX3_areNeighbours_26 : decode cX3_areNeighbours 26 = .ok (.istore 5, 2) := dk_54 5 (dk_at dksX3_areNeighbours_1 2 rfl rfl)
theorem dX3_areNeighbours_28 : decode cX3_areNeighbours 28 = .ok (.iload 5, 2) := dk_21 5 (dk_at dksX3_areNeighbours_1 4 rfl rfl)
theorem dX3_areNeighbours_30 : decode cX3_areNeighbours 30 = .ok (.iconst 1, 1) := dk_4 (dk_at dksX3_areNeighbours_1 6 rfl rfl)
theorem dX3_areNeighbours_31 : decode cX3_areNeighbours 31 = .ok (.if_icmp .eq 29, 3) := dk_159 0 29 (dk_at dksX3_areNeighbours_1 7 rfl rfl)
theorem dX3_areNeighbours_34 : decode cX3_areNeighbours 34 = .ok (.iload 5, 2) := dk_21 5 (dk_at dksX3_areNeighbours_1 10 rfl rfl)
theorem dX3_areNeighbours_36 : decode cX3_areNeighbours 36 = .ok (.iconst 2, 1) := dk_5 (dk_at dksX3_areNeighbours_1 12 rfl rfl)
theorem dX3_areNeighbours_37 : decode cX3_areNeighbours 37 = .ok (.if_icmp .ne 27, 3) := dk_160 0 27 (dk_at dksX3_areNeighbours_1 13 rfl rfl)
theorem dX3_areNeighbours_40 : decode cX3_areNeighbours 40 = .ok (.aload_n 0, 1) := dk_42 (dk_at dksX3_areNeighbours_1 16 rfl rfl)
theorem dX3_areNeighbours_41 : decode cX3_areNeighbours 41 = .ok (.getfield 7, 3) := dk_180 0 7 (dk_at dksX3_areNeighbours_1 17 rfl rfl)
theorem dX3_areNeighbours_44 : decode cX3_areNeighbours 44 = .ok (.iconst 0, 1) := dk_3 (dk_at dksX3_areNeighbours_1 20 rfl rfl)
theorem dX3_areNeighbours_45 : decode cX3_areNeighbours 45 = .ok (.iaload, 1) := dk_46 (dk_at dksX3_areNeighbours_1 21 rfl rfl)
theorem dX3_areNeighbours_46 : decode cX3_areNeighbours 46 = .ok (.iconst 1, 1) := dk_4 (dk_at dksX3_areNeighbours_1 22 rfl rfl)
theorem dX3_areNeighbours_47 : decode cX3_areNeighbours 47 = .ok (.if_icmp .ne 17, 3) := dk_160 0 17 (dk_at dksX3_areNeighbours_2 0 rfl rfl)
theorem dX3_areNeighbours_50 : decode cX3_areNeighbours 50 = .ok (.iload_n 1, 1) := dk_27 (dk_at dksX3_areNeighbours_2 3 rfl rfl)
theorem dX3_areNeighbours_51 : decode cX3_areNeighbours 51 = .ok (.iconst 4, 1) := dk_7 (dk_at dksX3_areNeighbours_2 4 rfl rfl)
theorem dX3_areNeighbours_52 : decode cX3_areNeighbours 52 = .ok (.if_icmp .eq 8, 3) := dk_159 0 8 (dk_at dksX3_areNeighbours_2 5 rfl rfl)
theorem dX3_areNeighbours_55 : decode cX3_areNeighbours 55 = .ok (.iload_n 2, 1) := dk_28 (dk_at dksX3_areNeighbours_2 8 rfl rfl)
theorem dX3_areNeighbours_56 : decode cX3_areNeighbours 56 = .ok (.iconst 4, 1) := dk_7 (dk_at dksX3_areNeighbours_2 9 rfl rfl)
theorem dX3_areNeighbours_57 : decode cX3_areNeighbours 57 = .ok (.if_icmp .ne 7, 3) := dk_160 0 7 (dk_at dksX3_areNeighbours_2 10 rfl rfl)
theorem dX3_areNeighbours_60 : decode cX3_areNeighbours 60 = .ok (.iconst 1, 1) := dk_4 (dk_at dksX3_areNeighbours_2 13 rfl rfl)
theorem dX3_areNeighbours_61 : decode cX3_areNeighbours 61 = .ok (.goto 4, 3) := dk_167 0 4 (dk_at dksX3_areNeighbours_2 14 rfl rfl)
theorem dX3_areNeighbours_64 : decode cX3_areNeighbours 64 = .ok (.iconst 0, 1) := dk_3 (dk_at dksX3_areNeighbours_2 17 rfl rfl)
theorem dX3_areNeighbours_65 : decode cX3_areNeighbours 65 = .ok (.ireturn, 1) := dk_172 (dk_at dksX3_areNeighbours_2 18 rfl rfl)
abbrev cX3_often : ByteArray := prog_8_method_23_code
def yX3_often : MethodName := ⟨RX3, "often", "()I"⟩
def dkwX3_often_1 : List UInt8 := [182, 0, 112, 160, 0, 7, 4, 167, 0, 4, 3, 96, 60, 132, 2, 1, 167, 255, 220, 27, 172]
abbrev dktX3_often_1 : List UInt8 := dkwX3_often_1 ++ []
def dkwX3_often_0 : List UInt8 := [3, 60, 3, 61, 28, 42, 180, 0, 7, 5, 46, 163, 0, 32, 27, 42, 180, 0, 7, 6, 28, 96, 46, 42]
abbrev dktX3_often_0 : List UInt8 := dkwX3_often_0 ++ dktX3_often_1
theorem dksX3_often_0 : cX3_often.data.toList.drop 0 = dktX3_often_0 := by decide +kernel
theorem dksX3_often_1 : cX3_often.data.toList.drop 24 = dktX3_often_1 := dk_seg dksX3_often_0 24 rfl rfl
theorem dX3_often_0 : decode cX3_often 0 = .ok (.iconst 0, 1) := dk_3 (dk_at dksX3_often_0 0 rfl rfl)
theorem dX3_often_1 : decode cX3_often 1 = .ok (.istore_n 1, 1) := dk_60 (dk_at dksX3_often_0 1 rfl rfl)
theorem dX3_often_2 : decode cX3_often 2 = .ok (.iconst 0, 1) := dk_3 (dk_at dksX3_often_0 2 rfl rfl)
theorem dX3_often_3 : decode cX3_often 3 = .ok (.istore_n 2, 1) := dk_61 (dk_at dksX3_often_0 3 rfl rfl)
theorem dX3_often_4 : decode cX3_often 4 = .ok (.iload_n 2, 1) := dk_28 (dk_at dksX3_often_0 4 rfl rfl)
theorem dX3_often_5 : decode cX3_often 5 = .ok (.aload_n 0, 1) := dk_42 (dk_at dksX3_often_0 5 rfl rfl)
theorem dX3_often_6 : decode cX3_often 6 = .ok (.getfield 7, 3) := dk_180 0 7 (dk_at dksX3_often_0 6 rfl rfl)
theorem dX3_often_9 : decode cX3_often 9 = .ok (.iconst 2, 1) := dk_5 (dk_at dksX3_often_0 9 rfl rfl)
theorem dX3_often_10 : decode cX3_often 10 = .ok (.iaload, 1) := dk_46 (dk_at dksX3_often_0 10 rfl rfl)
theorem dX3_often_11 : decode cX3_often 11 = .ok (.if_icmp .gt 32, 3) := dk_163 0 32 (dk_at dksX3_often_0 11 rfl rfl)
theorem dX3_often_14 : decode cX3_often 14 = .ok (.iload_n 1, 1) := dk_27 (dk_at dksX3_often_0 14 rfl rfl)
theorem dX3_often_15 : decode cX3_often 15 = .ok (.aload_n 0, 1) := dk_42 (dk_at dksX3_often_0 15 rfl rfl)
theorem dX3_often_16 : decode cX3_often 16 = .ok (.getfield 7, 3) := dk_180 0 7 (dk_at dksX3_often_0 16 rfl rfl)
theorem dX3_often_19 : decode cX3_often 19 = .ok (.iconst 3, 1) := dk_6 (dk_at dksX3_often_0 19 rfl rfl)
theorem dX3_often_20 : decode cX3_often 20 = .ok (.iload_n 2, 1) := dk_28 (dk_at dksX3_often_0 20 rfl rfl)
theorem dX3_often_21 : decode cX3_often 21 = .ok (.iadd, 1) := dk_96 (dk_at dksX3_often_0 21 rfl rfl)
theorem dX3_often_22 : decode cX3_often 22 = .ok (.iaload, 1) := dk_46 (dk_at dksX3_often_0 22 rfl rfl)
theorem dX3_often_23 : decode cX3_often 23 = .ok (.aload_n 0, 1) := dk_42 (dk_at dksX3_often_0 23 rfl rfl)
theorem dX3_often_24 : decode cX3_often 24 = .ok (.invokevirtual 112, 3) := dk_182 0 112 (dk_at dksX3_often_1 0 rfl rfl)
theorem dX3_often_27 : decode cX3_often 27 = .ok (.if_icmp .ne 7, 3) := dk_160 0 7 (dk_at dksX3_often_1 3 rfl rfl)
theorem dX3_often_30 : decode cX3_often 30 = .ok (.iconst 1, 1) := dk_4 (dk_at dksX3_often_1 6 rfl rfl)
theorem dX3_often_31 : decode cX3_often 31 = .ok (.goto 4, 3) := dk_167 0 4 (dk_at dksX3_often_1 7 rfl rfl)
theorem dX3_often_34 : decode cX3_often 34 = .ok (.iconst 0, 1) := dk_3 (dk_at dksX3_often_1 10 rfl rfl)
theorem dX3_often_35 : decode cX3_often 35 = .ok (.iadd, 1) := dk_96 (dk_at dksX3_often_1 11 rfl rfl)
theorem dX3_often_36 : decode cX3_often 36 = .ok (.istore_n 1, 1) := dk_60 (dk_at dksX3_often_1 12 rfl rfl)
theorem dX3_often_37 : decode cX3_often 37 = .ok (.iinc 2 1, 3) := dk_132 2 1 (dk_at dksX3_often_1 13 rfl rfl)
theorem dX3_often_40 : decode cX3_often 40 = .ok (.goto (-36), 3) := dk_167 255 220 (dk_at dksX3_often_1 16 rfl rfl)
theorem dX3_often_43 : decode cX3_often 43 = .ok (.iload_n 1, 1) := dk_27 (dk_at dksX3_often_1 19 rfl rfl)
theorem dX3_often_44 : decode cX3_often 44 = .ok (.ireturn, 1) := dk_172 (dk_at dksX3_often_1 20 rfl rfl)
abbrev cX3_goes : ByteArray := prog_8_method_28_code
def yX3_goes : MethodName := ⟨RX3, "goes", "(I)V"⟩
def dkwX3_goes_1 : List UInt8 := [42, 180, 0, 7, 6, 42, 180, 0, 7, 5, 46, 96, 28, 79, 177]
abbrev dktX3_goes_1 : List UInt8 := dkwX3_goes_1 ++ []
def dkwX3_goes_0 : List UInt8 := [42, 42, 182, 0, 112, 182, 0, 87, 42, 27, 182, 0, 106, 61, 42, 180, 0, 7, 5, 92, 46, 4, 96, 79]
abbrev dktX3_goes_0 : List UInt8 := dkwX3_goes_0 ++ dktX3_goes_1
theorem dksX3_goes_0 : cX3_goes.data.toList.drop 0 = dktX3_goes_0 := by decide +kernel
theorem dksX3_goes_1 : cX3_goes.data.toList.drop 24 = dktX3_goes_1 := dk_seg dksX3_goes_0 24 rfl rfl
theorem dX3_goes_0 : decode cX3_goes 0 = .ok (.aload_n 0, 1) := dk_42 (dk_at dksX3_goes_0 0 rfl rfl)
theorem dX3_goes_1 : decode cX3_goes 1 = .ok (.aload_n 0, 1) := dk_42 (dk_at dksX3_goes_0 1 rfl rfl)
theorem dX3_goes_2 : decode cX3_goes 2 = .ok (.invokevirtual 112, 3) := dk_182 0 112 (dk_at dksX3_goes_0 2 rfl rfl)
theorem dX3_goes_5 : decode cX3_goes 5 = .ok (.invokevirtual 87, 3) := dk_182 0 87 (dk_at dksX3_goes_0 5 rfl rfl)
theorem dX3_goes_8 : decode cX3_goes 8 = .ok (.aload_n 0, 1) := dk_42 (dk_at dksX3_goes_0 8 rfl rfl)
theorem dX3_goes_9 : decode cX3_goes 9 = .ok (.iload_n 1, 1) := dk_27 (dk_at dksX3_goes_0 9 rfl rfl)
theorem dX3_goes_10 : decode cX3_goes 10 = .ok (.invokevirtual 106, 3) := dk_182 0 106 (dk_at dksX3_goes_0 10 rfl rfl)
theorem dX3_goes_13 : decode cX3_goes 13 = .ok (.istore_n 2, 1) := dk_61 (dk_at dksX3_goes_0 13 rfl rfl)
theorem dX3_goes_14 : decode cX3_goes 14 = .ok (.aload_n 0, 1) := dk_42 (dk_at dksX3_goes_0 14 rfl rfl)
theorem dX3_goes_15 : decode cX3_goes 15 = .ok (.getfield 7, 3) := dk_180 0 7 (dk_at dksX3_goes_0 15 rfl rfl)
theorem dX3_goes_18 : decode cX3_goes 18 = .ok (.iconst 2, 1) := dk_5 (dk_at dksX3_goes_0 18 rfl rfl)
theorem dX3_goes_19 : decode cX3_goes 19 = .ok (.dup2, 1) := dk_92 (dk_at dksX3_goes_0 19 rfl rfl)
theorem dX3_goes_20 : decode cX3_goes 20 = .ok (.iaload, 1) := dk_46 (dk_at dksX3_goes_0 20 rfl rfl)
theorem dX3_goes_21 : decode cX3_goes 21 = .ok (.iconst 1, 1) := dk_4 (dk_at dksX3_goes_0 21 rfl rfl)
theorem dX3_goes_22 : decode cX3_goes 22 = .ok (.iadd, 1) := dk_96 (dk_at dksX3_goes_0 22 rfl rfl)
theorem dX3_goes_23 : decode cX3_goes 23 = .ok (.iastore, 1) := dk_79 (dk_at dksX3_goes_0 23 rfl rfl)
theorem dX3_goes_24 : decode cX3_goes 24 = .ok (.aload_n 0, 1) := dk_42 (dk_at dksX3_goes_1 0 rfl rfl)
theorem dX3_goes_25 : decode cX3_goes 25 = .ok (.getfield 7, 3) := dk_180 0 7 (dk_at dksX3_goes_1 1 rfl rfl)
theorem dX3_goes_28 : decode cX3_goes 28 = .ok (.iconst 3, 1) := dk_6 (dk_at dksX3_goes_1 4 rfl rfl)
theorem dX3_goes_29 : decode cX3_goes 29 = .ok (.aload_n 0, 1) := dk_42 (dk_at dksX3_goes_1 5 rfl rfl)
theorem dX3_goes_30 : decode cX3_goes 30 = .ok (.getfield 7, 3) := dk_180 0 7 (dk_at dksX3_goes_1 6 rfl rfl)
theorem dX3_goes_33 : decode cX3_goes 33 = .ok (.iconst 2, 1) := dk_5 (dk_at dksX3_goes_1 9 rfl rfl)
theorem dX3_goes_34 : decode cX3_goes 34 = .ok (.iaload, 1) := dk_46 (dk_at dksX3_goes_1 10 rfl rfl)
theorem dX3_goes_35 : decode cX3_goes 35 = .ok (.iadd, 1) := dk_96 (dk_at dksX3_goes_1 11 rfl rfl)
theorem dX3_goes_36 : decode cX3_goes 36 = .ok (.iload_n 2, 1) := dk_28 (dk_at dksX3_goes_1 12 rfl rfl)
theorem dX3_goes_37 : decode cX3_goes 37 = .ok (.iastore, 1) := dk_79 (dk_at dksX3_goes_1 13 rfl rfl)
theorem dX3_goes_38 : decode cX3_goes 38 = .ok (.return_, 1) := dk_177 (dk_at dksX3_goes_1 14 rfl rfl)
abbrev cX3_next : ByteArray := prog_8_method_17_code
def yX3_next : MethodName := ⟨RX3, "next", "(I)I"⟩
def dkwX3_next_3 : List UInt8 := [181, 0, 62, 42, 182, 0, 83, 62, 42, 28, 182, 0, 87, 29, 172]
abbrev dktX3_next_3 : List UInt8 := dkwX3_next_3 ++ []
def dkwX3_next_2 : List UInt8 := [180, 0, 33, 27, 16, 9, 100, 16, 9, 112, 42, 180, 0, 62, 4, 96, 79, 42, 4, 42, 180, 0, 62, 100]
abbrev dktX3_next_2 : List UInt8 := dkwX3_next_2 ++ dktX3_next_3
def dkwX3_next_1 : List UInt8 := [167, 0, 40, 27, 16, 90, 162, 0, 34, 42, 180, 0, 33, 27, 16, 9, 100, 16, 9, 108, 3, 79, 42]
abbrev dktX3_next_1 : List UInt8 := dkwX3_next_1 ++ dktX3_next_2
def dkwX3_next_0 : List UInt8 := [42, 182, 0, 83, 61, 27, 16, 9, 162, 0, 18, 42, 180, 0, 33, 27, 42, 180, 0, 62, 4, 96, 79]
abbrev dktX3_next_0 : List UInt8 := dkwX3_next_0 ++ dktX3_next_1
theorem dksX3_next_0 : cX3_next.data.toList.drop 0 = dktX3_next_0 := by decide +kernel
theorem dksX3_next_1 : cX3_next.data.toList.drop 23 = dktX3_next_1 := dk_seg dksX3_next_0 23 rfl rfl
theorem dksX3_next_2 : cX3_next.data.toList.drop 46 = dktX3_next_2 := dk_seg dksX3_next_1 23 rfl rfl
theorem dksX3_next_3 : cX3_next.data.toList.drop 70 = dktX3_next_3 := dk_seg dksX3_next_2 24 rfl rfl
theorem dX3_next_0 : decode cX3_next 0 = .ok (.aload_n 0, 1) := dk_42 (dk_at dksX3_next_0 0 rfl rfl)
theorem dX3_next_1 : decode cX3_next 1 = .ok (.invokevirtual 83, 3) := dk_182 0 83 (dk_at dksX3_next_0 1 rfl rfl)
theorem dX3_next_4 : decode cX3_next 4 = .ok (.istore_n 2, 1) := dk_61 (dk_at dksX3_next_0 4 rfl rfl)
theorem dX3_next_5 : decode cX3_next 5 = .ok (.iload_n 1, 1) := dk_27 (dk_at dksX3_next_0 5 rfl rfl)
theorem dX3_next_6 : decode cX3_next 6 = .ok (.bipush 9, 2) := dk_16 9 (dk_at dksX3_next_0 6 rfl rfl)
theorem dX3_next_8 : decode cX3_next 8 = .ok (.if_icmp .ge 18, 3) := dk_162 0 18 (dk_at dksX3_next_0 8 rfl rfl)
theorem dX3_next_11 : decode cX3_next 11 = .ok (.aload_n 0, 1) := dk_42 (dk_at dksX3_next_0 11 rfl rfl)
theorem dX3_next_12 : decode cX3_next 12 = .ok (.getfield 33, 3) := dk_180 0 33 (dk_at dksX3_next_0 12 rfl rfl)
theorem dX3_next_15 : decode cX3_next 15 = .ok (.iload_n 1, 1) := dk_27 (dk_at dksX3_next_0 15 rfl rfl)
theorem dX3_next_16 : decode cX3_next 16 = .ok (.aload_n 0, 1) := dk_42 (dk_at dksX3_next_0 16 rfl rfl)
theorem dX3_next_17 : decode cX3_next 17 = .ok (.getfield 62, 3) := dk_180 0 62 (dk_at dksX3_next_0 17 rfl rfl)
theorem dX3_next_20 : decode cX3_next 20 = .ok (.iconst 1, 1) := dk_4 (dk_at dksX3_next_0 20 rfl rfl)
theorem dX3_next_21 : decode cX3_next 21 = .ok (.iadd, 1) := dk_96 (dk_at dksX3_next_0 21 rfl rfl)
theorem dX3_next_22 : decode cX3_next 22 = .ok (.iastore, 1) := dk_79 (dk_at dksX3_next_0 22 rfl rfl)
theorem dX3_next_23 : decode cX3_next 23 = .ok (.goto 40, 3) := dk_167 0 40 (dk_at dksX3_next_1 0 rfl rfl)
theorem dX3_next_26 : decode cX3_next 26 = .ok (.iload_n 1, 1) := dk_27 (dk_at dksX3_next_1 3 rfl rfl)
theorem dX3_next_27 : decode cX3_next 27 = .ok (.bipush 90, 2) := dk_16 90 (dk_at dksX3_next_1 4 rfl rfl)
theorem dX3_next_29 : decode cX3_next 29 = .ok (.if_icmp .ge 34, 3) := dk_162 0 34 (dk_at dksX3_next_1 6 rfl rfl)
theorem dX3_next_32 : decode cX3_next 32 = .ok (.aload_n 0, 1) := dk_42 (dk_at dksX3_next_1 9 rfl rfl)
theorem dX3_next_33 : decode cX3_next 33 = .ok (.getfield 33, 3) := dk_180 0 33 (dk_at dksX3_next_1 10 rfl rfl)
theorem dX3_next_36 : decode cX3_next 36 = .ok (.iload_n 1, 1) := dk_27 (dk_at dksX3_next_1 13 rfl rfl)
theorem dX3_next_37 : decode cX3_next 37 = .ok (.bipush 9, 2) := dk_16 9 (dk_at dksX3_next_1 14 rfl rfl)
theorem dX3_next_39 : decode cX3_next 39 = .ok (.isub, 1) := dk_100 (dk_at dksX3_next_1 16 rfl rfl)
theorem dX3_next_40 : decode cX3_next 40 = .ok (.bipush 9, 2) := dk_16 9 (dk_at dksX3_next_1 17 rfl rfl)
theorem dX3_next_42 : decode cX3_next 42 = .ok (.idiv, 1) := dk_108 (dk_at dksX3_next_1 19 rfl rfl)
theorem dX3_next_43 : decode cX3_next 43 = .ok (.iconst 0, 1) := dk_3 (dk_at dksX3_next_1 20 rfl rfl)
theorem dX3_next_44 : decode cX3_next 44 = .ok (.iastore, 1) := dk_79 (dk_at dksX3_next_1 21 rfl rfl)
theorem dX3_next_45 : decode cX3_next 45 = .ok (.aload_n 0, 1) := dk_42 (dk_at dksX3_next_1 22 rfl rfl)
theorem dX3_next_46 : decode cX3_next 46 = .ok (.getfield 33, 3) := dk_180 0 33 (dk_at dksX3_next_2 0 rfl rfl)
theorem dX3_next_49 : decode cX3_next 49 = .ok (.iload_n 1, 1) := dk_27 (dk_at dksX3_next_2 3 rfl rfl)
theorem dX3_next_50 : decode cX3_next 50 = .ok (.bipush 9, 2) := dk_16 9 (dk_at dksX3_next_2 4 rfl rfl)
theorem dX3_next_52 : decode cX3_next 52 = .ok (.isub, 1) := dk_100 (dk_at dksX3_next_2 6 rfl rfl)
theorem dX3_next_53 : decode cX3_next 53 = .ok (.bipush 9, 2) := dk_16 9 (dk_at dksX3_next_2 7 rfl rfl)
theorem dX3_next_55 : decode cX3_next 55 = .ok (.irem, 1) := dk_112 (dk_at dksX3_next_2 9 rfl rfl)
theorem dX3_next_56 : decode cX3_next 56 = .ok (.aload_n 0, 1) := dk_42 (dk_at dksX3_next_2 10 rfl rfl)
theorem dX3_next_57 : decode cX3_next 57 = .ok (.getfield 62, 3) := dk_180 0 62 (dk_at dksX3_next_2 11 rfl rfl)
theorem dX3_next_60 : decode cX3_next 60 = .ok (.iconst 1, 1) := dk_4 (dk_at dksX3_next_2 14 rfl rfl)
theorem dX3_next_61 : decode cX3_next 61 = .ok (.iadd, 1) := dk_96 (dk_at dksX3_next_2 15 rfl rfl)
theorem dX3_next_62 : decode cX3_next 62 = .ok (.iastore, 1) := dk_79 (dk_at dksX3_next_2 16 rfl rfl)
theorem dX3_next_63 : decode cX3_next 63 = .ok (.aload_n 0, 1) := dk_42 (dk_at dksX3_next_2 17 rfl rfl)
theorem dX3_next_64 : decode cX3_next 64 = .ok (.iconst 1, 1) := dk_4 (dk_at dksX3_next_2 18 rfl rfl)
theorem dX3_next_65 : decode cX3_next 65 = .ok (.aload_n 0, 1) := dk_42 (dk_at dksX3_next_2 19 rfl rfl)
theorem dX3_next_66 : decode cX3_next 66 = .ok (.getfield 62, 3) := dk_180 0 62 (dk_at dksX3_next_2 20 rfl rfl)
theorem dX3_next_69 : decode cX3_next 69 = .ok (.isub, 1) := dk_100 (dk_at dksX3_next_2 23 rfl rfl)
theorem dX3_next_70 : decode cX3_next 70 = .ok (.putfield 62, 3) := dk_181 0 62 (dk_at dksX3_next_3 0 rfl rfl)
theorem dX3_next_73 : decode cX3_next 73 = .ok (.aload_n 0, 1) := dk_42 (dk_at dksX3_next_3 3 rfl rfl)
theorem dX3_next_74 : decode cX3_next 74 = .ok (.invokevirtual 83, 3) := dk_182 0 83 (dk_at dksX3_next_3 4 rfl rfl)
theorem dX3_next_77 : decode cX3_next 77 = .ok (.istore_n 3, 1) := dk_62 (dk_at dksX3_next_3 7 rfl rfl)
theorem dX3_next_78 : decode cX3_next 78 = .ok (.aload_n 0, 1) := dk_42 (dk_at dksX3_next_3 8 rfl rfl)
theorem dX3_next_79 : decode cX3_next 79 = .ok (.iload_n 2, 1) := dk_28 (dk_at dksX3_next_3 9 rfl rfl)
theorem dX3_next_80 : decode cX3_next 80 = .ok (.invokevirtual 87, 3) := dk_182 0 87 (dk_at dksX3_next_3 10 rfl rfl)
theorem dX3_next_83 : decode cX3_next 83 = .ok (.iload_n 3, 1) := dk_29 (dk_at dksX3_next_3 13 rfl rfl)
theorem dX3_next_84 : decode cX3_next 84 = .ok (.ireturn, 1) := dk_172 (dk_at dksX3_next_3 14 rfl rfl)
abbrev cX3_code : ByteArray := prog_8_method_10_code
def yX3_code : MethodName := ⟨RX3, "code", "()I"⟩
def dkwX3_code_1 : List UInt8 := [167, 255, 238, 27, 17, 76, 227, 42, 180, 0, 62, 104, 96, 172]
abbrev dktX3_code_1 : List UInt8 := dkwX3_code_1 ++ []
def dkwX3_code_0 : List UInt8 := [3, 60, 16, 8, 61, 28, 155, 0, 20, 6, 27, 104, 42, 180, 0, 33, 28, 46, 96, 60, 132, 2, 255]
abbrev dktX3_code_0 : List UInt8 := dkwX3_code_0 ++ dktX3_code_1
theorem dksX3_code_0 : cX3_code.data.toList.drop 0 = dktX3_code_0 := by decide +kernel
theorem dksX3_code_1 : cX3_code.data.toList.drop 23 = dktX3_code_1 := dk_seg dksX3_code_0 23 rfl rfl
theorem dX3_code_0 : decode cX3_code 0 = .ok (.iconst 0, 1) := dk_3 (dk_at dksX3_code_0 0 rfl rfl)
theorem dX3_code_1 : decode cX3_code 1 = .ok (.istore_n 1, 1) := dk_60 (dk_at dksX3_code_0 1 rfl rfl)
theorem dX3_code_2 : decode cX3_code 2 = .ok (.bipush 8, 2) := dk_16 8 (dk_at dksX3_code_0 2 rfl rfl)
theorem dX3_code_4 : decode cX3_code 4 = .ok (.istore_n 2, 1) := dk_61 (dk_at dksX3_code_0 4 rfl rfl)
theorem dX3_code_5 : decode cX3_code 5 = .ok (.iload_n 2, 1) := dk_28 (dk_at dksX3_code_0 5 rfl rfl)
theorem dX3_code_6 : decode cX3_code 6 = .ok (.ifCond .lt 20, 3) := dk_155 0 20 (dk_at dksX3_code_0 6 rfl rfl)
theorem dX3_code_9 : decode cX3_code 9 = .ok (.iconst 3, 1) := dk_6 (dk_at dksX3_code_0 9 rfl rfl)
theorem dX3_code_10 : decode cX3_code 10 = .ok (.iload_n 1, 1) := dk_27 (dk_at dksX3_code_0 10 rfl rfl)
theorem dX3_code_11 : decode cX3_code 11 = .ok (.imul, 1) := dk_104 (dk_at dksX3_code_0 11 rfl rfl)
theorem dX3_code_12 : decode cX3_code 12 = .ok (.aload_n 0, 1) := dk_42 (dk_at dksX3_code_0 12 rfl rfl)
theorem dX3_code_13 : decode cX3_code 13 = .ok (.getfield 33, 3) := dk_180 0 33 (dk_at dksX3_code_0 13 rfl rfl)
theorem dX3_code_16 : decode cX3_code 16 = .ok (.iload_n 2, 1) := dk_28 (dk_at dksX3_code_0 16 rfl rfl)
theorem dX3_code_17 : decode cX3_code 17 = .ok (.iaload, 1) := dk_46 (dk_at dksX3_code_0 17 rfl rfl)
theorem dX3_code_18 : decode cX3_code 18 = .ok (.iadd, 1) := dk_96 (dk_at dksX3_code_0 18 rfl rfl)
theorem dX3_code_19 : decode cX3_code 19 = .ok (.istore_n 1, 1) := dk_60 (dk_at dksX3_code_0 19 rfl rfl)
theorem dX3_code_20 : decode cX3_code 20 = .ok (.iinc 2 (-1), 3) := dk_132 2 255 (dk_at dksX3_code_0 20 rfl rfl)
theorem dX3_code_23 : decode cX3_code 23 = .ok (.goto (-18), 3) := dk_167 255 238 (dk_at dksX3_code_1 0 rfl rfl)
theorem dX3_code_26 : decode cX3_code 26 = .ok (.iload_n 1, 1) := dk_27 (dk_at dksX3_code_1 3 rfl rfl)
theorem dX3_code_27 : decode cX3_code 27 = .ok (.sipush 19683, 3) := dk_17 76 227 (dk_at dksX3_code_1 4 rfl rfl)
theorem dX3_code_30 : decode cX3_code 30 = .ok (.aload_n 0, 1) := dk_42 (dk_at dksX3_code_1 7 rfl rfl)
theorem dX3_code_31 : decode cX3_code 31 = .ok (.getfield 62, 3) := dk_180 0 62 (dk_at dksX3_code_1 8 rfl rfl)
theorem dX3_code_34 : decode cX3_code 34 = .ok (.imul, 1) := dk_104 (dk_at dksX3_code_1 11 rfl rfl)
theorem dX3_code_35 : decode cX3_code 35 = .ok (.iadd, 1) := dk_96 (dk_at dksX3_code_1 12 rfl rfl)
theorem dX3_code_36 : decode cX3_code 36 = .ok (.ireturn, 1) := dk_172 (dk_at dksX3_code_1 13 rfl rfl)
abbrev cX3_slide : ByteArray := prog_8_method_38_code
def yX3_slide : MethodName := ⟨RX3, "slide", "(II)I"⟩
def dkwX3_slide_0 : List UInt8 := [42, 182, 0, 55, 42, 42, 27, 28, 182, 0, 149, 182, 0, 58, 172]
abbrev dktX3_slide_0 : List UInt8 := dkwX3_slide_0 ++ []
theorem dksX3_slide_0 : cX3_slide.data.toList.drop 0 = dktX3_slide_0 := by decide +kernel
theorem dX3_slide_0 : decode cX3_slide 0 = .ok (.aload_n 0, 1) := dk_42 (dk_at dksX3_slide_0 0 rfl rfl)
theorem dX3_slide_1 : decode cX3_slide 1 = .ok (.invokevirtual 55, 3) := dk_182 0 55 (dk_at dksX3_slide_0 1 rfl rfl)
theorem dX3_slide_4 : decode cX3_slide 4 = .ok (.aload_n 0, 1) := dk_42 (dk_at dksX3_slide_0 4 rfl rfl)
theorem dX3_slide_5 : decode cX3_slide 5 = .ok (.aload_n 0, 1) := dk_42 (dk_at dksX3_slide_0 5 rfl rfl)
theorem dX3_slide_6 : decode cX3_slide 6 = .ok (.iload_n 1, 1) := dk_27 (dk_at dksX3_slide_0 6 rfl rfl)
theorem dX3_slide_7 : decode cX3_slide 7 = .ok (.iload_n 2, 1) := dk_28 (dk_at dksX3_slide_0 7 rfl rfl)
theorem dX3_slide_8 : decode cX3_slide 8 = .ok (.invokevirtual 149, 3) := dk_182 0 149 (dk_at dksX3_slide_0 8 rfl rfl)
theorem dX3_slide_11 : decode cX3_slide 11 = .ok (.invokevirtual 58, 3) := dk_182 0 58 (dk_at dksX3_slide_0 11 rfl rfl)
theorem dX3_slide_14 : decode cX3_slide 14 = .ok (.ireturn, 1) := dk_172 (dk_at dksX3_slide_0 14 rfl rfl)
abbrev cX3_slides : ByteArray := prog_8_method_33_code
def yX3_slides : MethodName := ⟨RX3, "slides", "(II)I"⟩
def dkwX3_slides_1 : List UInt8 := [16, 9, 16, 9, 27, 104, 96, 28, 96, 3, 182, 0, 136, 167, 0, 4, 2, 172]
abbrev dktX3_slides_1 : List UInt8 := dkwX3_slides_1 ++ []
def dkwX3_slides_0 : List UInt8 := [27, 133, 3, 16, 8, 184, 0, 51, 153, 0, 31, 28, 133, 3, 16, 8, 184, 0, 51, 153, 0, 20, 42]
abbrev dktX3_slides_0 : List UInt8 := dkwX3_slides_0 ++ dktX3_slides_1
theorem dksX3_slides_0 : cX3_slides.data.toList.drop 0 = dktX3_slides_0 := by decide +kernel
theorem dksX3_slides_1 : cX3_slides.data.toList.drop 23 = dktX3_slides_1 := dk_seg dksX3_slides_0 23 rfl rfl
theorem dX3_slides_0 : decode cX3_slides 0 = .ok (.iload_n 1, 1) := dk_27 (dk_at dksX3_slides_0 0 rfl rfl)
theorem dX3_slides_1 : decode cX3_slides 1 = .ok (.i2l, 1) := dk_133 (dk_at dksX3_slides_0 1 rfl rfl)
theorem dX3_slides_2 : decode cX3_slides 2 = .ok (.iconst 0, 1) := dk_3 (dk_at dksX3_slides_0 2 rfl rfl)
theorem dX3_slides_3 : decode cX3_slides 3 = .ok (.bipush 8, 2) := dk_16 8 (dk_at dksX3_slides_0 3 rfl rfl)
theorem dX3_slides_5 : decode cX3_slides 5 = .ok (.invokestatic 51, 3) := dk_184 0 51 (dk_at dksX3_slides_0 5 rfl rfl)
theorem dX3_slides_8 : decode cX3_slides 8 = .ok (.ifCond .eq 31, 3) := dk_153 0 31 (dk_at dksX3_slides_0 8 rfl rfl)
theorem dX3_slides_11 : decode cX3_slides 11 = .ok (.iload_n 2, 1) := dk_28 (dk_at dksX3_slides_0 11 rfl rfl)
theorem dX3_slides_12 : decode cX3_slides 12 = .ok (.i2l, 1) := dk_133 (dk_at dksX3_slides_0 12 rfl rfl)
theorem dX3_slides_13 : decode cX3_slides 13 = .ok (.iconst 0, 1) := dk_3 (dk_at dksX3_slides_0 13 rfl rfl)
theorem dX3_slides_14 : decode cX3_slides 14 = .ok (.bipush 8, 2) := dk_16 8 (dk_at dksX3_slides_0 14 rfl rfl)
theorem dX3_slides_16 : decode cX3_slides 16 = .ok (.invokestatic 51, 3) := dk_184 0 51 (dk_at dksX3_slides_0 16 rfl rfl)
theorem dX3_slides_19 : decode cX3_slides 19 = .ok (.ifCond .eq 20, 3) := dk_153 0 20 (dk_at dksX3_slides_0 19 rfl rfl)
theorem dX3_slides_22 : decode cX3_slides 22 = .ok (.aload_n 0, 1) := dk_42 (dk_at dksX3_slides_0 22 rfl rfl)
theorem dX3_slides_23 : decode cX3_slides 23 = .ok (.bipush 9, 2) := dk_16 9 (dk_at dksX3_slides_1 0 rfl rfl)
theorem dX3_slides_25 : decode cX3_slides 25 = .ok (.bipush 9, 2) := dk_16 9 (dk_at dksX3_slides_1 2 rfl rfl)
theorem dX3_slides_27 : decode cX3_slides 27 = .ok (.iload_n 1, 1) := dk_27 (dk_at dksX3_slides_1 4 rfl rfl)
theorem dX3_slides_28 : decode cX3_slides 28 = .ok (.imul, 1) := dk_104 (dk_at dksX3_slides_1 5 rfl rfl)
theorem dX3_slides_29 : decode cX3_slides 29 = .ok (.iadd, 1) := dk_96 (dk_at dksX3_slides_1 6 rfl rfl)
theorem dX3_slides_30 : decode cX3_slides 30 = .ok (.iload_n 2, 1) := dk_28 (dk_at dksX3_slides_1 7 rfl rfl)
theorem dX3_slides_31 : decode cX3_slides 31 = .ok (.iadd, 1) := dk_96 (dk_at dksX3_slides_1 8 rfl rfl)
theorem dX3_slides_32 : decode cX3_slides 32 = .ok (.iconst 0, 1) := dk_3 (dk_at dksX3_slides_1 9 rfl rfl)
theorem dX3_slides_33 : decode cX3_slides 33 = .ok (.invokevirtual 136, 3) := dk_182 0 136 (dk_at dksX3_slides_1 10 rfl rfl)
theorem dX3_slides_36 : decode cX3_slides 36 = .ok (.goto 4, 3) := dk_167 0 4 (dk_at dksX3_slides_1 13 rfl rfl)
theorem dX3_slides_39 : decode cX3_slides 39 = .ok (.iconst (-1), 1) := dk_2 (dk_at dksX3_slides_1 16 rfl rfl)
theorem dX3_slides_40 : decode cX3_slides 40 = .ok (.ireturn, 1) := dk_172 (dk_at dksX3_slides_1 17 rfl rfl)
abbrev cX3_pass : ByteArray := prog_8_method_39_code
def yX3_pass : MethodName := ⟨RX3, "pass", "()I"⟩
def dkwX3_pass_0 : List UInt8 := [42, 182, 0, 55, 42, 42, 16, 90, 3, 182, 0, 136, 182, 0, 58, 172]
abbrev dktX3_pass_0 : List UInt8 := dkwX3_pass_0 ++ []
theorem dksX3_pass_0 : cX3_pass.data.toList.drop 0 = dktX3_pass_0 := by decide +kernel
theorem dX3_pass_0 : decode cX3_pass 0 = .ok (.aload_n 0, 1) := dk_42 (dk_at dksX3_pass_0 0 rfl rfl)
theorem dX3_pass_1 : decode cX3_pass 1 = .ok (.invokevirtual 55, 3) := dk_182 0 55 (dk_at dksX3_pass_0 1 rfl rfl)
theorem dX3_pass_4 : decode cX3_pass 4 = .ok (.aload_n 0, 1) := dk_42 (dk_at dksX3_pass_0 4 rfl rfl)
theorem dX3_pass_5 : decode cX3_pass 5 = .ok (.aload_n 0, 1) := dk_42 (dk_at dksX3_pass_0 5 rfl rfl)
theorem dX3_pass_6 : decode cX3_pass 6 = .ok (.bipush 90, 2) := dk_16 90 (dk_at dksX3_pass_0 6 rfl rfl)
theorem dX3_pass_8 : decode cX3_pass 8 = .ok (.iconst 0, 1) := dk_3 (dk_at dksX3_pass_0 8 rfl rfl)
theorem dX3_pass_9 : decode cX3_pass 9 = .ok (.invokevirtual 136, 3) := dk_182 0 136 (dk_at dksX3_pass_0 9 rfl rfl)
theorem dX3_pass_12 : decode cX3_pass 12 = .ok (.invokevirtual 58, 3) := dk_182 0 58 (dk_at dksX3_pass_0 12 rfl rfl)
theorem dX3_pass_15 : decode cX3_pass 15 = .ok (.ireturn, 1) := dk_172 (dk_at dksX3_pass_0 15 rfl rfl)
abbrev cX3_play : ByteArray := prog_8_method_40_code
def yX3_play : MethodName := ⟨RX3, "play", "(I)I"⟩
def dkwX3_play_0 : List UInt8 := [42, 182, 0, 55, 42, 42, 27, 182, 0, 153, 182, 0, 58, 172]
abbrev dktX3_play_0 : List UInt8 := dkwX3_play_0 ++ []
theorem dksX3_play_0 : cX3_play.data.toList.drop 0 = dktX3_play_0 := by decide +kernel
theorem dX3_play_0 : decode cX3_play 0 = .ok (.aload_n 0, 1) := dk_42 (dk_at dksX3_play_0 0 rfl rfl)
theorem dX3_play_1 : decode cX3_play 1 = .ok (.invokevirtual 55, 3) := dk_182 0 55 (dk_at dksX3_play_0 1 rfl rfl)
theorem dX3_play_4 : decode cX3_play 4 = .ok (.aload_n 0, 1) := dk_42 (dk_at dksX3_play_0 4 rfl rfl)
theorem dX3_play_5 : decode cX3_play 5 = .ok (.aload_n 0, 1) := dk_42 (dk_at dksX3_play_0 5 rfl rfl)
theorem dX3_play_6 : decode cX3_play 6 = .ok (.iload_n 1, 1) := dk_27 (dk_at dksX3_play_0 6 rfl rfl)
theorem dX3_play_7 : decode cX3_play 7 = .ok (.invokevirtual 153, 3) := dk_182 0 153 (dk_at dksX3_play_0 7 rfl rfl)
theorem dX3_play_10 : decode cX3_play 10 = .ok (.invokevirtual 58, 3) := dk_182 0 58 (dk_at dksX3_play_0 10 rfl rfl)
theorem dX3_play_13 : decode cX3_play 13 = .ok (.ireturn, 1) := dk_172 (dk_at dksX3_play_0 13 rfl rfl)
abbrev cX3_plays : ByteArray := prog_8_method_34_code
def yX3_plays : MethodName := ⟨RX3, "plays", "(I)I"⟩
def dkwX3_plays_2 : List UInt8 := [132, 2, 1, 167, 255, 233, 28, 172]
abbrev dktX3_plays_2 : List UInt8 := dkwX3_plays_2 ++ []
def dkwX3_plays_1 : List UInt8 := [3, 61, 28, 27, 162, 0, 24, 42, 182, 0, 121, 154, 0, 17, 42, 42, 182, 0, 140, 182, 0, 133]
abbrev dktX3_plays_1 : List UInt8 := dkwX3_plays_1 ++ dktX3_plays_2
def dkwX3_plays_0 : List UInt8 := [27, 133, 4, 16, 60, 184, 0, 51, 154, 0, 6, 16, 254, 172, 42, 182, 0, 121, 153, 0, 6, 16, 251, 172]
abbrev dktX3_plays_0 : List UInt8 := dkwX3_plays_0 ++ dktX3_plays_1
theorem dksX3_plays_0 : cX3_plays.data.toList.drop 0 = dktX3_plays_0 := by decide +kernel
theorem dksX3_plays_1 : cX3_plays.data.toList.drop 24 = dktX3_plays_1 := dk_seg dksX3_plays_0 24 rfl rfl
theorem dksX3_plays_2 : cX3_plays.data.toList.drop 46 = dktX3_plays_2 := dk_seg dksX3_plays_1 22 rfl rfl
theorem dX3_plays_0 : decode cX3_plays 0 = .ok (.iload_n 1, 1) := dk_27 (dk_at dksX3_plays_0 0 rfl rfl)
theorem dX3_plays_1 : decode cX3_plays 1 = .ok (.i2l, 1) := dk_133 (dk_at dksX3_plays_0 1 rfl rfl)
theorem dX3_plays_2 : decode cX3_plays 2 = .ok (.iconst 1, 1) := dk_4 (dk_at dksX3_plays_0 2 rfl rfl)
theorem dX3_plays_3 : decode cX3_plays 3 = .ok (.bipush 60, 2) := dk_16 60 (dk_at dksX3_plays_0 3 rfl rfl)
theorem dX3_plays_5 : decode cX3_plays 5 = .ok (.invokestatic 51, 3) := dk_184 0 51 (dk_at dksX3_plays_0 5 rfl rfl)
theorem dX3_plays_8 : decode cX3_plays 8 = .ok (.ifCond .ne 6, 3) := dk_154 0 6 (dk_at dksX3_plays_0 8 rfl rfl)
theorem dX3_plays_11 : decode cX3_plays 11 = .ok (.bipush (-2), 2) := dk_16 254 (dk_at dksX3_plays_0 11 rfl rfl)
theorem dX3_plays_13 : decode cX3_plays 13 = .ok (.ireturn, 1) := dk_172 (dk_at dksX3_plays_0 13 rfl rfl)
theorem dX3_plays_14 : decode cX3_plays 14 = .ok (.aload_n 0, 1) := dk_42 (dk_at dksX3_plays_0 14 rfl rfl)
theorem dX3_plays_15 : decode cX3_plays 15 = .ok (.invokevirtual 121, 3) := dk_182 0 121 (dk_at dksX3_plays_0 15 rfl rfl)
theorem dX3_plays_18 : decode cX3_plays 18 = .ok (.ifCond .eq 6, 3) := dk_153 0 6 (dk_at dksX3_plays_0 18 rfl rfl)
theorem dX3_plays_21 : decode cX3_plays 21 = .ok (.bipush (-5), 2) := dk_16 251 (dk_at dksX3_plays_0 21 rfl rfl)
theorem dX3_plays_23 : decode cX3_plays 23 = .ok (.ireturn, 1) := dk_172 (dk_at dksX3_plays_0 23 rfl rfl)
theorem dX3_plays_24 : decode cX3_plays 24 = .ok (.iconst 0, 1) := dk_3 (dk_at dksX3_plays_1 0 rfl rfl)
theorem dX3_plays_25 : decode cX3_plays 25 = .ok (.istore_n 2, 1) := dk_61 (dk_at dksX3_plays_1 1 rfl rfl)
theorem dX3_plays_26 : decode cX3_plays 26 = .ok (.iload_n 2, 1) := dk_28 (dk_at dksX3_plays_1 2 rfl rfl)
theorem dX3_plays_27 : decode cX3_plays 27 = .ok (.iload_n 1, 1) := dk_27 (dk_at dksX3_plays_1 3 rfl rfl)
theorem dX3_plays_28 : decode cX3_plays 28 = .ok (.if_icmp .ge 24, 3) := dk_162 0 24 (dk_at dksX3_plays_1 4 rfl rfl)
theorem dX3_plays_31 : decode cX3_plays 31 = .ok (.aload_n 0, 1) := dk_42 (dk_at dksX3_plays_1 7 rfl rfl)
theorem dX3_plays_32 : decode cX3_plays 32 = .ok (.invokevirtual 121, 3) := dk_182 0 121 (dk_at dksX3_plays_1 8 rfl rfl)
theorem dX3_plays_35 : decode cX3_plays 35 = .ok (.ifCond .ne 17, 3) := dk_154 0 17 (dk_at dksX3_plays_1 11 rfl rfl)
theorem dX3_plays_38 : decode cX3_plays 38 = .ok (.aload_n 0, 1) := dk_42 (dk_at dksX3_plays_1 14 rfl rfl)
theorem dX3_plays_39 : decode cX3_plays 39 = .ok (.aload_n 0, 1) := dk_42 (dk_at dksX3_plays_1 15 rfl rfl)
theorem dX3_plays_40 : decode cX3_plays 40 = .ok (.invokevirtual 140, 3) := dk_182 0 140 (dk_at dksX3_plays_1 16 rfl rfl)
theorem dX3_plays_43 : decode cX3_plays 43 = .ok (.invokevirtual 133, 3) := dk_182 0 133 (dk_at dksX3_plays_1 19 rfl rfl)
theorem dX3_plays_46 : decode cX3_plays 46 = .ok (.iinc 2 1, 3) := dk_132 2 1 (dk_at dksX3_plays_2 0 rfl rfl)
theorem dX3_plays_49 : decode cX3_plays 49 = .ok (.goto (-23), 3) := dk_167 255 233 (dk_at dksX3_plays_2 3 rfl rfl)
theorem dX3_plays_52 : decode cX3_plays 52 = .ok (.iload_n 2, 1) := dk_28 (dk_at dksX3_plays_2 6 rfl rfl)
theorem dX3_plays_53 : decode cX3_plays 53 = .ok (.ireturn, 1) := dk_172 (dk_at dksX3_plays_2 7 rfl rfl)
abbrev cX3_bestMove : ByteArray := prog_8_method_29_code
def yX3_bestMove : MethodName := ⟨RX3, "bestMove", "()I"⟩
def dkwX3_bestMove_3 : List UInt8 := [180, 0, 36, 29, 46, 172, 132, 3, 1, 167, 255, 214, 16, 251, 172]
abbrev dktX3_bestMove_3 : List UInt8 := dkwX3_bestMove_3 ++ []
def dkwX3_bestMove_2 : List UInt8 := [180, 0, 40, 42, 182, 0, 109, 42, 42, 180, 0, 36, 29, 46, 182, 0, 106, 96, 46, 28, 160, 0, 10, 42]
abbrev dktX3_bestMove_2 : List UInt8 := dkwX3_bestMove_2 ++ dktX3_bestMove_3
def dkwX3_bestMove_1 : List UInt8 := [167, 0, 7, 16, 254, 27, 100, 61, 42, 182, 0, 124, 3, 62, 29, 42, 180, 0, 76, 162, 0, 40, 42]
abbrev dktX3_bestMove_1 : List UInt8 := dkwX3_bestMove_1 ++ dktX3_bestMove_2
def dkwX3_bestMove_0 : List UInt8 := [42, 42, 182, 0, 112, 182, 0, 127, 60, 27, 154, 0, 7, 3, 167, 0, 16, 27, 158, 0, 8, 27, 116]
abbrev dktX3_bestMove_0 : List UInt8 := dkwX3_bestMove_0 ++ dktX3_bestMove_1
theorem dksX3_bestMove_0 : cX3_bestMove.data.toList.drop 0 = dktX3_bestMove_0 := by decide +kernel
theorem dksX3_bestMove_1 : cX3_bestMove.data.toList.drop 23 = dktX3_bestMove_1 := dk_seg dksX3_bestMove_0 23 rfl rfl
theorem dksX3_bestMove_2 : cX3_bestMove.data.toList.drop 46 = dktX3_bestMove_2 := dk_seg dksX3_bestMove_1 23 rfl rfl
theorem dksX3_bestMove_3 : cX3_bestMove.data.toList.drop 70 = dktX3_bestMove_3 := dk_seg dksX3_bestMove_2 24 rfl rfl
theorem dX3_bestMove_0 : decode cX3_bestMove 0 = .ok (.aload_n 0, 1) := dk_42 (dk_at dksX3_bestMove_0 0 rfl rfl)
theorem dX3_bestMove_1 : decode cX3_bestMove 1 = .ok (.aload_n 0, 1) := dk_42 (dk_at dksX3_bestMove_0 1 rfl rfl)
theorem dX3_bestMove_2 : decode cX3_bestMove 2 = .ok (.invokevirtual 112, 3) := dk_182 0 112 (dk_at dksX3_bestMove_0 2 rfl rfl)
theorem dX3_bestMove_5 : decode cX3_bestMove 5 = .ok (.invokevirtual 127, 3) := dk_182 0 127 (dk_at dksX3_bestMove_0 5 rfl rfl)
theorem dX3_bestMove_8 : decode cX3_bestMove 8 = .ok (.istore_n 1, 1) := dk_60 (dk_at dksX3_bestMove_0 8 rfl rfl)
theorem dX3_bestMove_9 : decode cX3_bestMove 9 = .ok (.iload_n 1, 1) := dk_27 (dk_at dksX3_bestMove_0 9 rfl rfl)
theorem dX3_bestMove_10 : decode cX3_bestMove 10 = .ok (.ifCond .ne 7, 3) := dk_154 0 7 (dk_at dksX3_bestMove_0 10 rfl rfl)
theorem dX3_bestMove_13 : decode cX3_bestMove 13 = .ok (.iconst 0, 1) := dk_3 (dk_at dksX3_bestMove_0 13 rfl rfl)
theorem dX3_bestMove_14 : decode cX3_bestMove 14 = .ok (.goto 16, 3) := dk_167 0 16 (dk_at dksX3_bestMove_0 14 rfl rfl)
theorem dX3_bestMove_17 : decode cX3_bestMove 17 = .ok (.iload_n 1, 1) := dk_27 (dk_at dksX3_bestMove_0 17 rfl rfl)
theorem dX3_bestMove_18 : decode cX3_bestMove 18 = .ok (.ifCond .le 8, 3) := dk_158 0 8 (dk_at dksX3_bestMove_0 18 rfl rfl)
theorem dX3_bestMove_21 : decode cX3_bestMove 21 = .ok (.iload_n 1, 1) := dk_27 (dk_at dksX3_bestMove_0 21 rfl rfl)
theorem dX3_bestMove_22 : decode cX3_bestMove 22 = .ok (.ineg, 1) := dk_116 (dk_at dksX3_bestMove_0 22 rfl rfl)
theorem dX3_bestMove_23 : decode cX3_bestMove 23 = .ok (.goto 7, 3) := dk_167 0 7 (dk_at dksX3_bestMove_1 0 rfl rfl)
theorem dX3_bestMove_26 : decode cX3_bestMove 26 = .ok (.bipush (-2), 2) := dk_16 254 (dk_at dksX3_bestMove_1 3 rfl rfl)
theorem dX3_bestMove_28 : decode cX3_bestMove 28 = .ok (.iload_n 1, 1) := dk_27 (dk_at dksX3_bestMove_1 5 rfl rfl)
theorem dX3_bestMove_29 : decode cX3_bestMove 29 = .ok (.isub, 1) := dk_100 (dk_at dksX3_bestMove_1 6 rfl rfl)
theorem dX3_bestMove_30 : decode cX3_bestMove 30 = .ok (.istore_n 2, 1) := dk_61 (dk_at dksX3_bestMove_1 7 rfl rfl)
theorem dX3_bestMove_31 : decode cX3_bestMove 31 = .ok (.aload_n 0, 1) := dk_42 (dk_at dksX3_bestMove_1 8 rfl rfl)
theorem dX3_bestMove_32 : decode cX3_bestMove 32 = .ok (.invokevirtual 124, 3) := dk_182 0 124 (dk_at dksX3_bestMove_1 9 rfl rfl)
theorem dX3_bestMove_35 : decode cX3_bestMove 35 = .ok (.iconst 0, 1) := dk_3 (dk_at dksX3_bestMove_1 12 rfl rfl)
theorem dX3_bestMove_36 : decode cX3_bestMove 36 = .ok (.istore_n 3, 1) := dk_62 (dk_at dksX3_bestMove_1 13 rfl rfl)
theorem dX3_bestMove_37 : decode cX3_bestMove 37 = .ok (.iload_n 3, 1) := dk_29 (dk_at dksX3_bestMove_1 14 rfl rfl)
theorem dX3_bestMove_38 : decode cX3_bestMove 38 = .ok (.aload_n 0, 1) := dk_42 (dk_at dksX3_bestMove_1 15 rfl rfl)
theorem dX3_bestMove_39 : decode cX3_bestMove 39 = .ok (.getfield 76, 3) := dk_180 0 76 (dk_at dksX3_bestMove_1 16 rfl rfl)
theorem dX3_bestMove_42 : decode cX3_bestMove 42 = .ok (.if_icmp .ge 40, 3) := dk_162 0 40 (dk_at dksX3_bestMove_1 19 rfl rfl)
theorem dX3_bestMove_45 : decode cX3_bestMove 45 = .ok (.aload_n 0, 1) := dk_42 (dk_at dksX3_bestMove_1 22 rfl rfl)
theorem dX3_bestMove_46 : decode cX3_bestMove 46 = .ok (.getfield 40, 3) := dk_180 0 40 (dk_at dksX3_bestMove_2 0 rfl rfl)
theorem dX3_bestMove_49 : decode cX3_bestMove 49 = .ok (.aload_n 0, 1) := dk_42 (dk_at dksX3_bestMove_2 3 rfl rfl)
theorem dX3_bestMove_50 : decode cX3_bestMove 50 = .ok (.invokevirtual 109, 3) := dk_182 0 109 (dk_at dksX3_bestMove_2 4 rfl rfl)
theorem dX3_bestMove_53 : decode cX3_bestMove 53 = .ok (.aload_n 0, 1) := dk_42 (dk_at dksX3_bestMove_2 7 rfl rfl)
theorem dX3_bestMove_54 : decode cX3_bestMove 54 = .ok (.aload_n 0, 1) := dk_42 (dk_at dksX3_bestMove_2 8 rfl rfl)
theorem dX3_bestMove_55 : decode cX3_bestMove 55 = .ok (.getfield 36, 3) := dk_180 0 36 (dk_at dksX3_bestMove_2 9 rfl rfl)
theorem dX3_bestMove_58 : decode cX3_bestMove 58 = .ok (.iload_n 3, 1) := dk_29 (dk_at dksX3_bestMove_2 12 rfl rfl)
theorem dX3_bestMove_59 : decode cX3_bestMove 59 = .ok (.iaload, 1) := dk_46 (dk_at dksX3_bestMove_2 13 rfl rfl)
theorem dX3_bestMove_60 : decode cX3_bestMove 60 = .ok (.invokevirtual 106, 3) := dk_182 0 106 (dk_at dksX3_bestMove_2 14 rfl rfl)
theorem dX3_bestMove_63 : decode cX3_bestMove 63 = .ok (.iadd, 1) := dk_96 (dk_at dksX3_bestMove_2 17 rfl rfl)
theorem dX3_bestMove_64 : decode cX3_bestMove 64 = .ok (.iaload, 1) := dk_46 (dk_at dksX3_bestMove_2 18 rfl rfl)
theorem dX3_bestMove_65 : decode cX3_bestMove 65 = .ok (.iload_n 2, 1) := dk_28 (dk_at dksX3_bestMove_2 19 rfl rfl)
theorem dX3_bestMove_66 : decode cX3_bestMove 66 = .ok (.if_icmp .ne 10, 3) := dk_160 0 10 (dk_at dksX3_bestMove_2 20 rfl rfl)
theorem dX3_bestMove_69 : decode cX3_bestMove 69 = .ok (.aload_n 0, 1) := dk_42 (dk_at dksX3_bestMove_2 23 rfl rfl)
theorem dX3_bestMove_70 : decode cX3_bestMove 70 = .ok (.getfield 36, 3) := dk_180 0 36 (dk_at dksX3_bestMove_3 0 rfl rfl)
theorem dX3_bestMove_73 : decode cX3_bestMove 73 = .ok (.iload_n 3, 1) := dk_29 (dk_at dksX3_bestMove_3 3 rfl rfl)
theorem dX3_bestMove_74 : decode cX3_bestMove 74 = .ok (.iaload, 1) := dk_46 (dk_at dksX3_bestMove_3 4 rfl rfl)
theorem dX3_bestMove_75 : decode cX3_bestMove 75 = .ok (.ireturn, 1) := dk_172 (dk_at dksX3_bestMove_3 5 rfl rfl)
theorem dX3_bestMove_76 : decode cX3_bestMove 76 = .ok (.iinc 3 1, 3) := dk_132 3 1 (dk_at dksX3_bestMove_3 6 rfl rfl)
theorem dX3_bestMove_79 : decode cX3_bestMove 79 = .ok (.goto (-42), 3) := dk_167 255 214 (dk_at dksX3_bestMove_3 9 rfl rfl)
theorem dX3_bestMove_82 : decode cX3_bestMove 82 = .ok (.bipush (-5), 2) := dk_16 251 (dk_at dksX3_bestMove_3 12 rfl rfl)
theorem dX3_bestMove_84 : decode cX3_bestMove 84 = .ok (.ireturn, 1) := dk_172 (dk_at dksX3_bestMove_3 14 rfl rfl)
abbrev cX3_worthAt : ByteArray := prog_8_method_21_code
def yX3_worthAt : MethodName := ⟨RX3, "worthAt", "(I)I"⟩
def dkwX3_worthAt_0 : List UInt8 := [42, 180, 0, 40, 42, 182, 0, 109, 27, 96, 46, 172]
abbrev dktX3_worthAt_0 : List UInt8 := dkwX3_worthAt_0 ++ []
theorem dksX3_worthAt_0 : cX3_worthAt.data.toList.drop 0 = dktX3_worthAt_0 := by decide +kernel
theorem dX3_worthAt_0 : decode cX3_worthAt 0 = .ok (.aload_n 0, 1) := dk_42 (dk_at dksX3_worthAt_0 0 rfl rfl)
theorem dX3_worthAt_1 : decode cX3_worthAt 1 = .ok (.getfield 40, 3) := dk_180 0 40 (dk_at dksX3_worthAt_0 1 rfl rfl)
theorem dX3_worthAt_4 : decode cX3_worthAt 4 = .ok (.aload_n 0, 1) := dk_42 (dk_at dksX3_worthAt_0 4 rfl rfl)
theorem dX3_worthAt_5 : decode cX3_worthAt 5 = .ok (.invokevirtual 109, 3) := dk_182 0 109 (dk_at dksX3_worthAt_0 5 rfl rfl)
theorem dX3_worthAt_8 : decode cX3_worthAt 8 = .ok (.iload_n 1, 1) := dk_27 (dk_at dksX3_worthAt_0 8 rfl rfl)
theorem dX3_worthAt_9 : decode cX3_worthAt 9 = .ok (.iadd, 1) := dk_96 (dk_at dksX3_worthAt_0 9 rfl rfl)
theorem dX3_worthAt_10 : decode cX3_worthAt 10 = .ok (.iaload, 1) := dk_46 (dk_at dksX3_worthAt_0 10 rfl rfl)
theorem dX3_worthAt_11 : decode cX3_worthAt 11 = .ok (.ireturn, 1) := dk_172 (dk_at dksX3_worthAt_0 11 rfl rfl)
abbrev cX3_table : ByteArray := prog_8_method_18_code
def yX3_table : MethodName := ⟨RX3, "table", "()I"⟩
def dkwX3_table_1 : List UInt8 := [180, 0, 43, 27, 51, 154, 0, 15, 42, 180, 0, 43, 27, 4, 84, 42, 28, 182, 0, 92, 28, 172]
abbrev dktX3_table_1 : List UInt8 := dkwX3_table_1 ++ []
def dkwX3_table_0 : List UInt8 := [5, 42, 180, 0, 7, 3, 46, 104, 42, 180, 0, 7, 4, 46, 96, 60, 18, 91, 27, 104, 61, 42]
abbrev dktX3_table_0 : List UInt8 := dkwX3_table_0 ++ dktX3_table_1
theorem dksX3_table_0 : cX3_table.data.toList.drop 0 = dktX3_table_0 := by decide +kernel
theorem dksX3_table_1 : cX3_table.data.toList.drop 22 = dktX3_table_1 := dk_seg dksX3_table_0 22 rfl rfl
theorem dX3_table_0 : decode cX3_table 0 = .ok (.iconst 2, 1) := dk_5 (dk_at dksX3_table_0 0 rfl rfl)
theorem dX3_table_1 : decode cX3_table 1 = .ok (.aload_n 0, 1) := dk_42 (dk_at dksX3_table_0 1 rfl rfl)
theorem dX3_table_2 : decode cX3_table 2 = .ok (.getfield 7, 3) := dk_180 0 7 (dk_at dksX3_table_0 2 rfl rfl)
theorem dX3_table_5 : decode cX3_table 5 = .ok (.iconst 0, 1) := dk_3 (dk_at dksX3_table_0 5 rfl rfl)
theorem dX3_table_6 : decode cX3_table 6 = .ok (.iaload, 1) := dk_46 (dk_at dksX3_table_0 6 rfl rfl)
theorem dX3_table_7 : decode cX3_table 7 = .ok (.imul, 1) := dk_104 (dk_at dksX3_table_0 7 rfl rfl)
theorem dX3_table_8 : decode cX3_table 8 = .ok (.aload_n 0, 1) := dk_42 (dk_at dksX3_table_0 8 rfl rfl)
theorem dX3_table_9 : decode cX3_table 9 = .ok (.getfield 7, 3) := dk_180 0 7 (dk_at dksX3_table_0 9 rfl rfl)
theorem dX3_table_12 : decode cX3_table 12 = .ok (.iconst 1, 1) := dk_4 (dk_at dksX3_table_0 12 rfl rfl)
theorem dX3_table_13 : decode cX3_table 13 = .ok (.iaload, 1) := dk_46 (dk_at dksX3_table_0 13 rfl rfl)
theorem dX3_table_14 : decode cX3_table 14 = .ok (.iadd, 1) := dk_96 (dk_at dksX3_table_0 14 rfl rfl)
theorem dX3_table_15 : decode cX3_table 15 = .ok (.istore_n 1, 1) := dk_60 (dk_at dksX3_table_0 15 rfl rfl)
theorem dX3_table_16 : decode cX3_table 16 = .ok (.ldc 91, 2) := dk_18 91 (dk_at dksX3_table_0 16 rfl rfl)
theorem dX3_table_18 : decode cX3_table 18 = .ok (.iload_n 1, 1) := dk_27 (dk_at dksX3_table_0 18 rfl rfl)
theorem dX3_table_19 : decode cX3_table 19 = .ok (.imul, 1) := dk_104 (dk_at dksX3_table_0 19 rfl rfl)
theorem dX3_table_20 : decode cX3_table 20 = .ok (.istore_n 2, 1) := dk_61 (dk_at dksX3_table_0 20 rfl rfl)
theorem dX3_table_21 : decode cX3_table 21 = .ok (.aload_n 0, 1) := dk_42 (dk_at dksX3_table_0 21 rfl rfl)
theorem dX3_table_22 : decode cX3_table 22 = .ok (.getfield 43, 3) := dk_180 0 43 (dk_at dksX3_table_1 0 rfl rfl)
theorem dX3_table_25 : decode cX3_table 25 = .ok (.iload_n 1, 1) := dk_27 (dk_at dksX3_table_1 3 rfl rfl)
theorem dX3_table_26 : decode cX3_table 26 = .ok (.baload, 1) := dk_51 (dk_at dksX3_table_1 4 rfl rfl)
theorem dX3_table_27 : decode cX3_table 27 = .ok (.ifCond .ne 15, 3) := dk_154 0 15 (dk_at dksX3_table_1 5 rfl rfl)
theorem dX3_table_30 : decode cX3_table 30 = .ok (.aload_n 0, 1) := dk_42 (dk_at dksX3_table_1 8 rfl rfl)
theorem dX3_table_31 : decode cX3_table 31 = .ok (.getfield 43, 3) := dk_180 0 43 (dk_at dksX3_table_1 9 rfl rfl)
theorem dX3_table_34 : decode cX3_table 34 = .ok (.iload_n 1, 1) := dk_27 (dk_at dksX3_table_1 12 rfl rfl)
theorem dX3_table_35 : decode cX3_table 35 = .ok (.iconst 1, 1) := dk_4 (dk_at dksX3_table_1 13 rfl rfl)
theorem dX3_table_36 : decode cX3_table 36 = .ok (.bastore, 1) := dk_84 (dk_at dksX3_table_1 14 rfl rfl)
theorem dX3_table_37 : decode cX3_table 37 = .ok (.aload_n 0, 1) := dk_42 (dk_at dksX3_table_1 15 rfl rfl)
theorem dX3_table_38 : decode cX3_table 38 = .ok (.iload_n 2, 1) := dk_28 (dk_at dksX3_table_1 16 rfl rfl)
theorem dX3_table_39 : decode cX3_table 39 = .ok (.invokevirtual 92, 3) := dk_182 0 92 (dk_at dksX3_table_1 17 rfl rfl)
theorem dX3_table_42 : decode cX3_table 42 = .ok (.iload_n 2, 1) := dk_28 (dk_at dksX3_table_1 20 rfl rfl)
theorem dX3_table_43 : decode cX3_table 43 = .ok (.ireturn, 1) := dk_172 (dk_at dksX3_table_1 21 rfl rfl)
abbrev cX3_make : ByteArray := prog_8_method_19_code
def yX3_make : MethodName := ⟨RX3, "make", "(I)V"⟩
def dkwX3_make_11 : List UInt8 := [29, 46, 79, 132, 3, 1, 167, 255, 217, 177]
abbrev dktX3_make_11 : List UInt8 := dkwX3_make_11 ++ []
def dkwX3_make_10 : List UInt8 := [180, 0, 40, 29, 42, 180, 0, 40, 29, 46, 17, 3, 232, 160, 0, 7, 3, 167, 0, 9, 42, 180, 0, 40]
abbrev dktX3_make_10 : List UInt8 := dkwX3_make_10 ++ dktX3_make_11
def dkwX3_make_9 : List UInt8 := [79, 132, 4, 1, 167, 255, 195, 132, 3, 1, 167, 255, 97, 27, 62, 29, 27, 18, 91, 96, 162, 0, 37, 42]
abbrev dktX3_make_9 : List UInt8 := dkwX3_make_9 ++ dktX3_make_10
def dkwX3_make_8 : List UInt8 := [167, 0, 23, 42, 180, 0, 40, 21, 4, 46, 17, 236, 120, 162, 0, 9, 17, 39, 16, 167, 0, 4, 3, 96]
abbrev dktX3_make_8 : List UInt8 := dkwX3_make_8 ++ dktX3_make_9
def dkwX3_make_7 : List UInt8 := [180, 0, 40, 21, 4, 92, 46, 42, 180, 0, 40, 21, 4, 46, 17, 19, 136, 164, 0, 9, 17, 216, 240]
abbrev dktX3_make_7 : List UInt8 := dkwX3_make_7 ++ dktX3_make_8
def dkwX3_make_6 : List UInt8 := [96, 79, 4, 61, 132, 4, 1, 167, 255, 179, 27, 54, 4, 21, 4, 27, 18, 91, 96, 162, 0, 58, 42]
abbrev dktX3_make_6 : List UInt8 := dkwX3_make_6 ++ dktX3_make_7
def dkwX3_make_5 : List UInt8 := [42, 180, 0, 40, 27, 21, 4, 96, 21, 5, 21, 5, 158, 0, 9, 17, 39, 16, 167, 0, 6, 17, 216, 240]
abbrev dktX3_make_5 : List UInt8 := dkwX3_make_5 ++ dktX3_make_6
def dkwX3_make_4 : List UInt8 := [42, 27, 21, 4, 29, 182, 0, 102, 167, 0, 6, 17, 3, 232, 54, 5, 21, 5, 17, 3, 232, 159, 0, 31]
abbrev dktX3_make_4 : List UInt8 := dkwX3_make_4 ++ dktX3_make_5
def dkwX3_make_3 : List UInt8 := [54, 4, 21, 4, 18, 91, 162, 0, 76, 42, 180, 0, 40, 27, 21, 4, 96, 46, 17, 3, 232, 160, 0, 14]
abbrev dktX3_make_3 : List UInt8 := dkwX3_make_3 ++ dktX3_make_4
def dkwX3_make_2 : List UInt8 := [167, 0, 6, 17, 3, 232, 79, 132, 2, 1, 167, 255, 201, 4, 61, 4, 62, 28, 153, 0, 161, 3, 61, 3]
abbrev dktX3_make_2 : List UInt8 := dkwX3_make_2 ++ dktX3_make_3
def dkwX3_make_1 : List UInt8 := [180, 0, 40, 27, 28, 96, 29, 154, 0, 9, 17, 7, 208, 167, 0, 17, 42, 180, 0, 76, 154, 0, 7, 2]
abbrev dktX3_make_1 : List UInt8 := dkwX3_make_1 ++ dktX3_make_2
def dkwX3_make_0 : List UInt8 := [3, 61, 28, 18, 91, 162, 0, 55, 42, 28, 182, 0, 87, 42, 182, 0, 95, 62, 42, 182, 0, 99, 42]
abbrev dktX3_make_0 : List UInt8 := dkwX3_make_0 ++ dktX3_make_1
theorem dksX3_make_0 : cX3_make.data.toList.drop 0 = dktX3_make_0 := by decide +kernel
theorem dksX3_make_1 : cX3_make.data.toList.drop 23 = dktX3_make_1 := dk_seg dksX3_make_0 23 rfl rfl
theorem dksX3_make_2 : cX3_make.data.toList.drop 47 = dktX3_make_2 := dk_seg dksX3_make_1 24 rfl rfl
theorem dksX3_make_3 : cX3_make.data.toList.drop 71 = dktX3_make_3 := dk_seg dksX3_make_2 24 rfl rfl
theorem dksX3_make_4 : cX3_make.data.toList.drop 95 = dktX3_make_4 := dk_seg dksX3_make_3 24 rfl rfl
theorem dksX3_make_5 : cX3_make.data.toList.drop 119 = dktX3_make_5 := dk_seg dksX3_make_4 24 rfl rfl
theorem dksX3_make_6 : cX3_make.data.toList.drop 143 = dktX3_make_6 := dk_seg dksX3_make_5 24 rfl rfl
theorem dksX3_make_7 : cX3_make.data.toList.drop 166 = dktX3_make_7 := dk_seg dksX3_make_6 23 rfl rfl
theorem dksX3_make_8 : cX3_make.data.toList.drop 189 = dktX3_make_8 := dk_seg dksX3_make_7 23 rfl rfl
theorem dksX3_make_9 : cX3_make.data.toList.drop 213 = dktX3_make_9 := dk_seg dksX3_make_8 24 rfl rfl
theorem dksX3_make_10 : cX3_make.data.toList.drop 237 = dktX3_make_10 := dk_seg dksX3_make_9 24 rfl rfl
theorem dksX3_make_11 : cX3_make.data.toList.drop 261 = dktX3_make_11 := dk_seg dksX3_make_10 24 rfl rfl
theorem dX3_make_0 : decode cX3_make 0 = .ok (.iconst 0, 1) := dk_3 (dk_at dksX3_make_0 0 rfl rfl)
theorem dX3_make_1 : decode cX3_make 1 = .ok (.istore_n 2, 1) := dk_61 (dk_at dksX3_make_0 1 rfl rfl)
theorem dX3_make_2 : decode cX3_make 2 = .ok (.iload_n 2, 1) := dk_28 (dk_at dksX3_make_0 2 rfl rfl)
theorem dX3_make_3 : decode cX3_make 3 = .ok (.ldc 91, 2) := dk_18 91 (dk_at dksX3_make_0 3 rfl rfl)
theorem dX3_make_5 : decode cX3_make 5 = .ok (.if_icmp .ge 55, 3) := dk_162 0 55 (dk_at dksX3_make_0 5 rfl rfl)
theorem dX3_make_8 : decode cX3_make 8 = .ok (.aload_n 0, 1) := dk_42 (dk_at dksX3_make_0 8 rfl rfl)
theorem dX3_make_9 : decode cX3_make 9 = .ok (.iload_n 2, 1) := dk_28 (dk_at dksX3_make_0 9 rfl rfl)
theorem dX3_make_10 : decode cX3_make 10 = .ok (.invokevirtual 87, 3) := dk_182 0 87 (dk_at dksX3_make_0 10 rfl rfl)
theorem dX3_make_13 : decode cX3_make 13 = .ok (.aload_n 0, 1) := dk_42 (dk_at dksX3_make_0 13 rfl rfl)
theorem dX3_make_14 : decode cX3_make 14 = .ok (.invokevirtual 95, 3) := dk_182 0 95 (dk_at dksX3_make_0 14 rfl rfl)
theorem dX3_make_17 : decode cX3_make 17 = .ok (.istore_n 3, 1) := dk_62 (dk_at dksX3_make_0 17 rfl rfl)
theorem dX3_make_18 : decode cX3_make 18 = .ok (.aload_n 0, 1) := dk_42 (dk_at dksX3_make_0 18 rfl rfl)
theorem dX3_make_19 : decode cX3_make 19 = .ok (.invokevirtual 99, 3) := dk_182 0 99 (dk_at dksX3_make_0 19 rfl rfl)
theorem dX3_make_22 : decode cX3_make 22 = .ok (.aload_n 0, 1) := dk_42 (dk_at dksX3_make_0 22 rfl rfl)
theorem dX3_make_23 : decode cX3_make 23 = .ok (.getfield 40, 3) := dk_180 0 40 (dk_at dksX3_make_1 0 rfl rfl)
theorem dX3_make_26 : decode cX3_make 26 = .ok (.iload_n 1, 1) := dk_27 (dk_at dksX3_make_1 3 rfl rfl)
theorem dX3_make_27 : decode cX3_make 27 = .ok (.iload_n 2, 1) := dk_28 (dk_at dksX3_make_1 4 rfl rfl)
theorem dX3_make_28 : decode cX3_make 28 = .ok (.iadd, 1) := dk_96 (dk_at dksX3_make_1 5 rfl rfl)
theorem dX3_make_29 : decode cX3_make 29 = .ok (.iload_n 3, 1) := dk_29 (dk_at dksX3_make_1 6 rfl rfl)
theorem dX3_make_30 : decode cX3_make 30 = .ok (.ifCond .ne 9, 3) := dk_154 0 9 (dk_at dksX3_make_1 7 rfl rfl)
theorem dX3_make_33 : decode cX3_make 33 = .ok (.sipush 2000, 3) := dk_17 7 208 (dk_at dksX3_make_1 10 rfl rfl)
theorem dX3_make_36 : decode cX3_make 36 = .ok (.goto 17, 3) := dk_167 0 17 (dk_at dksX3_make_1 13 rfl rfl)
theorem dX3_make_39 : decode cX3_make 39 = .ok (.aload_n 0, 1) := dk_42 (dk_at dksX3_make_1 16 rfl rfl)
theorem dX3_make_40 : decode cX3_make 40 = .ok (.getfield 76, 3) := dk_180 0 76 (dk_at dksX3_make_1 17 rfl rfl)
theorem dX3_make_43 : decode cX3_make 43 = .ok (.ifCond .ne 7, 3) := dk_154 0 7 (dk_at dksX3_make_1 20 rfl rfl)
theorem dX3_make_46 : decode cX3_make 46 = .ok (.iconst (-1), 1) := dk_2 (dk_at dksX3_make_1 23 rfl rfl)
theorem dX3_make_47 : decode cX3_make 47 = .ok (.goto 6, 3) := dk_167 0 6 (dk_at dksX3_make_2 0 rfl rfl)
theorem dX3_make_50 : decode cX3_make 50 = .ok (.sipush 1000, 3) := dk_17 3 232 (dk_at dksX3_make_2 3 rfl rfl)
theorem dX3_make_53 : decode cX3_make 53 = .ok (.iastore, 1) := dk_79 (dk_at dksX3_make_2 6 rfl rfl)
theorem dX3_make_54 : decode cX3_make 54 = .ok (.iinc 2 1, 3) := dk_132 2 1 (dk_at dksX3_make_2 7 rfl rfl)
theorem dX3_make_57 : decode cX3_make 57 = .ok (.goto (-55), 3) := dk_167 255 201 (dk_at dksX3_make_2 10 rfl rfl)
theorem dX3_make_60 : decode cX3_make 60 = .ok (.iconst 1, 1) := dk_4 (dk_at dksX3_make_2 13 rfl rfl)
theorem dX3_make_61 : decode cX3_make 61 = .ok (.istore_n 2, 1) := dk_61 (dk_at dksX3_make_2 14 rfl rfl)
theorem dX3_make_62 : decode cX3_make 62 = .ok (.iconst 1, 1) := dk_4 (dk_at dksX3_make_2 15 rfl rfl)
theorem dX3_make_63 : decode cX3_make 63 = .ok (.istore_n 3, 1) := dk_62 (dk_at dksX3_make_2 16 rfl rfl)
theorem dX3_make_64 : decode cX3_make 64 = .ok (.iload_n 2, 1) := dk_28 (dk_at dksX3_make_2 17 rfl rfl)
theorem dX3_make_65 : decode cX3_make 65 = .ok (.ifCond .eq 161, 3) := dk_153 0 161 (dk_at dksX3_make_2 18 rfl rfl)
theorem dX3_make_68 : decode cX3_make 68 = .ok (.iconst 0, 1) := dk_3 (dk_at dksX3_make_2 21 rfl rfl)
theorem dX3_make_69 : decode cX3_make 69 = .ok (.istore_n 2, 1) := dk_61 (dk_at dksX3_make_2 22 rfl rfl)
theorem dX3_make_70 : decode cX3_make 70 = .ok (.iconst 0, 1) := dk_3 (dk_at dksX3_make_2 23 rfl rfl)
theorem dX3_make_71 : decode cX3_make 71 = .ok (.istore 4, 2) := dk_54 4 (dk_at dksX3_make_3 0 rfl rfl)
theorem dX3_make_73 : decode cX3_make 73 = .ok (.iload 4, 2) := dk_21 4 (dk_at dksX3_make_3 2 rfl rfl)
theorem dX3_make_75 : decode cX3_make 75 = .ok (.ldc 91, 2) := dk_18 91 (dk_at dksX3_make_3 4 rfl rfl)
theorem dX3_make_77 : decode cX3_make 77 = .ok (.if_icmp .ge 76, 3) := dk_162 0 76 (dk_at dksX3_make_3 6 rfl rfl)
theorem dX3_make_80 : decode cX3_make 80 = .ok (.aload_n 0, 1) := dk_42 (dk_at dksX3_make_3 9 rfl rfl)
theorem dX3_make_81 : decode cX3_make 81 = .ok (.getfield 40, 3) := dk_180 0 40 (dk_at dksX3_make_3 10 rfl rfl)
theorem dX3_make_84 : decode cX3_make 84 = .ok (.iload_n 1, 1) := dk_27 (dk_at dksX3_make_3 13 rfl rfl)
theorem dX3_make_85 : decode cX3_make 85 = .ok (.iload 4, 2) := dk_21 4 (dk_at dksX3_make_3 14 rfl rfl)
theorem dX3_make_87 : decode cX3_make 87 = .ok (.iadd, 1) := dk_96 (dk_at dksX3_make_3 16 rfl rfl)
theorem dX3_make_88 : decode cX3_make 88 = .ok (.iaload, 1) := dk_46 (dk_at dksX3_make_3 17 rfl rfl)
theorem dX3_make_89 : decode cX3_make 89 = .ok (.sipush 1000, 3) := dk_17 3 232 (dk_at dksX3_make_3 18 rfl rfl)
theorem dX3_make_92 : decode cX3_make 92 = .ok (.if_icmp .ne 14, 3) := dk_160 0 14 (dk_at dksX3_make_3 21 rfl rfl)
theorem dX3_make_95 : decode cX3_make 95 = .ok (.aload_n 0, 1) := dk_42 (dk_at dksX3_make_4 0 rfl rfl)
theorem dX3_make_96 : decode cX3_make 96 = .ok (.iload_n 1, 1) := dk_27 (dk_at dksX3_make_4 1 rfl rfl)
theorem dX3_make_97 : decode cX3_make 97 = .ok (.iload 4, 2) := dk_21 4 (dk_at dksX3_make_4 2 rfl rfl)
theorem dX3_make_99 : decode cX3_make 99 = .ok (.iload_n 3, 1) := dk_29 (dk_at dksX3_make_4 4 rfl rfl)
theorem dX3_make_100 : decode cX3_make 100 = .ok (.invokevirtual 102, 3) := dk_182 0 102 (dk_at dksX3_make_4 5 rfl rfl)
theorem dX3_make_103 : decode cX3_make 103 = .ok (.goto 6, 3) := dk_167 0 6 (dk_at dksX3_make_4 8 rfl rfl)
theorem dX3_make_106 : decode cX3_make 106 = .ok (.sipush 1000, 3) := dk_17 3 232 (dk_at dksX3_make_4 11 rfl rfl)
theorem dX3_make_109 : decode cX3_make 109 = .ok (.istore 5, 2) := dk_54 5 (dk_at dksX3_make_4 14 rfl rfl)
theorem dX3_make_111 : decode cX3_make 111 = .ok (.iload 5, 2) := dk_21 5 (dk_at dksX3_make_4 16 rfl rfl)
theorem dX3_make_113 : decode cX3_make 113 = .ok (.sipush 1000, 3) := dk_17 3 232 (dk_at dksX3_make_4 18 rfl rfl)
theorem dX3_make_116 : decode cX3_make 116 = .ok (.if_icmp .eq 31, 3) := dk_159 0 31 (dk_at dksX3_make_4 21 rfl rfl)
theorem dX3_make_119 : decode cX3_make 119 = .ok (.aload_n 0, 1) := dk_42 (dk_at dksX3_make_5 0 rfl rfl)
theorem dX3_make_120 : decode cX3_make 120 = .ok (.getfield 40, 3) := dk_180 0 40 (dk_at dksX3_make_5 1 rfl rfl)
theorem dX3_make_123 : decode cX3_make 123 = .ok (.iload_n 1, 1) := dk_27 (dk_at dksX3_make_5 4 rfl rfl)
theorem dX3_make_124 : decode cX3_make 124 = .ok (.iload 4, 2) := dk_21 4 (dk_at dksX3_make_5 5 rfl rfl)
theorem dX3_make_126 : decode cX3_make 126 = .ok (.iadd, 1) := dk_96 (dk_at dksX3_make_5 7 rfl rfl)
theorem dX3_make_127 : decode cX3_make 127 = .ok (.iload 5, 2) := dk_21 5 (dk_at dksX3_make_5 8 rfl rfl)
theorem dX3_make_129 : decode cX3_make 129 = .ok (.iload 5, 2) := dk_21 5 (dk_at dksX3_make_5 10 rfl rfl)
theorem dX3_make_131 : decode cX3_make 131 = .ok (.ifCond .le 9, 3) := dk_158 0 9 (dk_at dksX3_make_5 12 rfl rfl)
theorem dX3_make_134 : decode cX3_make 134 = .ok (.sipush 10000, 3) := dk_17 39 16 (dk_at dksX3_make_5 15 rfl rfl)
theorem dX3_make_137 : decode cX3_make 137 = .ok (.goto 6, 3) := dk_167 0 6 (dk_at dksX3_make_5 18 rfl rfl)
theorem dX3_make_140 : decode cX3_make 140 = .ok (.sipush (-10000), 3) := dk_17 216 240 (dk_at dksX3_make_5 21 rfl rfl)
theorem dX3_make_143 : decode cX3_make 143 = .ok (.iadd, 1) := dk_96 (dk_at dksX3_make_6 0 rfl rfl)
theorem dX3_make_144 : decode cX3_make 144 = .ok (.iastore, 1) := dk_79 (dk_at dksX3_make_6 1 rfl rfl)
theorem dX3_make_145 : decode cX3_make 145 = .ok (.iconst 1, 1) := dk_4 (dk_at dksX3_make_6 2 rfl rfl)
theorem dX3_make_146 : decode cX3_make 146 = .ok (.istore_n 2, 1) := dk_61 (dk_at dksX3_make_6 3 rfl rfl)
theorem dX3_make_147 : decode cX3_make 147 = .ok (.iinc 4 1, 3) := dk_132 4 1 (dk_at dksX3_make_6 4 rfl rfl)
theorem dX3_make_150 : decode cX3_make 150 = .ok (.goto (-77), 3) := dk_167 255 179 (dk_at dksX3_make_6 7 rfl rfl)
theorem dX3_make_153 : decode cX3_make 153 = .ok (.iload_n 1, 1) := dk_27 (dk_at dksX3_make_6 10 rfl rfl)
theorem dX3_make_154 : decode cX3_make 154 = .ok (.istore 4, 2) := dk_54 4 (dk_at dksX3_make_6 11 rfl rfl)
theorem dX3_make_156 : decode cX3_make 156 = .ok (.iload 4, 2) := dk_21 4 (dk_at dksX3_make_6 13 rfl rfl)
theorem dX3_make_158 : decode cX3_make 158 = .ok (.iload_n 1, 1) := dk_27 (dk_at dksX3_make_6 15 rfl rfl)
theorem dX3_make_159 : decode cX3_make 159 = .ok (.ldc 91, 2) := dk_18 91 (dk_at dksX3_make_6 16 rfl rfl)
theorem dX3_make_161 : decode cX3_make 161 = .ok (.iadd, 1) := dk_96 (dk_at dksX3_make_6 18 rfl rfl)
theorem dX3_make_162 : decode cX3_make 162 = .ok (.if_icmp .ge 58, 3) := dk_162 0 58 (dk_at dksX3_make_6 19 rfl rfl)
theorem dX3_make_165 : decode cX3_make 165 = .ok (.aload_n 0, 1) := dk_42 (dk_at dksX3_make_6 22 rfl rfl)
theorem dX3_make_166 : decode cX3_make 166 = .ok (.getfield 40, 3) := dk_180 0 40 (dk_at dksX3_make_7 0 rfl rfl)
theorem dX3_make_169 : decode cX3_make 169 = .ok (.iload 4, 2) := dk_21 4 (dk_at dksX3_make_7 3 rfl rfl)
theorem dX3_make_171 : decode cX3_make 171 = .ok (.dup2, 1) := dk_92 (dk_at dksX3_make_7 5 rfl rfl)
theorem dX3_make_172 : decode cX3_make 172 = .ok (.iaload, 1) := dk_46 (dk_at dksX3_make_7 6 rfl rfl)
theorem dX3_make_173 : decode cX3_make 173 = .ok (.aload_n 0, 1) := dk_42 (dk_at dksX3_make_7 7 rfl rfl)
theorem dX3_make_174 : decode cX3_make 174 = .ok (.getfield 40, 3) := dk_180 0 40 (dk_at dksX3_make_7 8 rfl rfl)
theorem dX3_make_177 : decode cX3_make 177 = .ok (.iload 4, 2) := dk_21 4 (dk_at dksX3_make_7 11 rfl rfl)
theorem dX3_make_179 : decode cX3_make 179 = .ok (.iaload, 1) := dk_46 (dk_at dksX3_make_7 13 rfl rfl)
theorem dX3_make_180 : decode cX3_make 180 = .ok (.sipush 5000, 3) := dk_17 19 136 (dk_at dksX3_make_7 14 rfl rfl)
theorem dX3_make_183 : decode cX3_make 183 = .ok (.if_icmp .le 9, 3) := dk_164 0 9 (dk_at dksX3_make_7 17 rfl rfl)
theorem dX3_make_186 : decode cX3_make 186 = .ok (.sipush (-10000), 3) := dk_17 216 240 (dk_at dksX3_make_7 20 rfl rfl)
theorem dX3_make_189 : decode cX3_make 189 = .ok (.goto 23, 3) := dk_167 0 23 (dk_at dksX3_make_8 0 rfl rfl)
theorem dX3_make_192 : decode cX3_make 192 = .ok (.aload_n 0, 1) := dk_42 (dk_at dksX3_make_8 3 rfl rfl)
theorem dX3_make_193 : decode cX3_make 193 = .ok (.getfield 40, 3) := dk_180 0 40 (dk_at dksX3_make_8 4 rfl rfl)
theorem dX3_make_196 : decode cX3_make 196 = .ok (.iload 4, 2) := dk_21 4 (dk_at dksX3_make_8 7 rfl rfl)
theorem dX3_make_198 : decode cX3_make 198 = .ok (.iaload, 1) := dk_46 (dk_at dksX3_make_8 9 rfl rfl)
theorem dX3_make_199 : decode cX3_make 199 = .ok (.sipush (-5000), 3) := dk_17 236 120 (dk_at dksX3_make_8 10 rfl rfl)
theorem dX3_make_202 : decode cX3_make 202 = .ok (.if_icmp .ge 9, 3) := dk_162 0 9 (dk_at dksX3_make_8 13 rfl rfl)
theorem dX3_make_205 : decode cX3_make 205 = .ok (.sipush 10000, 3) := dk_17 39 16 (dk_at dksX3_make_8 16 rfl rfl)
theorem dX3_make_208 : decode cX3_make 208 = .ok (.goto 4, 3) := dk_167 0 4 (dk_at dksX3_make_8 19 rfl rfl)
theorem dX3_make_211 : decode cX3_make 211 = .ok (.iconst 0, 1) := dk_3 (dk_at dksX3_make_8 22 rfl rfl)
theorem dX3_make_212 : decode cX3_make 212 = .ok (.iadd, 1) := dk_96 (dk_at dksX3_make_8 23 rfl rfl)
theorem dX3_make_213 : decode cX3_make 213 = .ok (.iastore, 1) := dk_79 (dk_at dksX3_make_9 0 rfl rfl)
theorem dX3_make_214 : decode cX3_make 214 = .ok (.iinc 4 1, 3) := dk_132 4 1 (dk_at dksX3_make_9 1 rfl rfl)
theorem dX3_make_217 : decode cX3_make 217 = .ok (.goto (-61), 3) := dk_167 255 195 (dk_at dksX3_make_9 4 rfl rfl)
theorem dX3_make_220 : decode cX3_make 220 = .ok (.iinc 3 1, 3) := dk_132 3 1 (dk_at dksX3_make_9 7 rfl rfl)
theorem dX3_make_223 : decode cX3_make 223 = .ok (.goto (-159), 3) := dk_167 255 97 (dk_at dksX3_make_9 10 rfl rfl)
theorem dX3_make_226 : decode cX3_make 226 = .ok (.iload_n 1, 1) := dk_27 (dk_at dksX3_make_9 13 rfl rfl)
theorem dX3_make_227 : decode cX3_make 227 = .ok (.istore_n 3, 1) := dk_62 (dk_at dksX3_make_9 14 rfl rfl)
theorem dX3_make_228 : decode cX3_make 228 = .ok (.iload_n 3, 1) := dk_29 (dk_at dksX3_make_9 15 rfl rfl)
theorem dX3_make_229 : decode cX3_make 229 = .ok (.iload_n 1, 1) := dk_27 (dk_at dksX3_make_9 16 rfl rfl)
theorem dX3_make_230 : decode cX3_make 230 = .ok (.ldc 91, 2) := dk_18 91 (dk_at dksX3_make_9 17 rfl rfl)
theorem dX3_make_232 : decode cX3_make 232 = .ok (.iadd, 1) := dk_96 (dk_at dksX3_make_9 19 rfl rfl)
theorem dX3_make_233 : decode cX3_make 233 = .ok (.if_icmp .ge 37, 3) := dk_162 0 37 (dk_at dksX3_make_9 20 rfl rfl)
theorem dX3_make_236 : decode cX3_make 236 = .ok (.aload_n 0, 1) := dk_42 (dk_at dksX3_make_9 23 rfl rfl)
theorem dX3_make_237 : decode cX3_make 237 = .ok (.getfield 40, 3) := dk_180 0 40 (dk_at dksX3_make_10 0 rfl rfl)
theorem dX3_make_240 : decode cX3_make 240 = .ok (.iload_n 3, 1) := dk_29 (dk_at dksX3_make_10 3 rfl rfl)
theorem dX3_make_241 : decode cX3_make 241 = .ok (.aload_n 0, 1) := dk_42 (dk_at dksX3_make_10 4 rfl rfl)
theorem dX3_make_242 : decode cX3_make 242 = .ok (.getfield 40, 3) := dk_180 0 40 (dk_at dksX3_make_10 5 rfl rfl)
theorem dX3_make_245 : decode cX3_make 245 = .ok (.iload_n 3, 1) := dk_29 (dk_at dksX3_make_10 8 rfl rfl)
theorem dX3_make_246 : decode cX3_make 246 = .ok (.iaload, 1) := dk_46 (dk_at dksX3_make_10 9 rfl rfl)
theorem dX3_make_247 : decode cX3_make 247 = .ok (.sipush 1000, 3) := dk_17 3 232 (dk_at dksX3_make_10 10 rfl rfl)
theorem dX3_make_250 : decode cX3_make 250 = .ok (.if_icmp .ne 7, 3) := dk_160 0 7 (dk_at dksX3_make_10 13 rfl rfl)
theorem dX3_make_253 : decode cX3_make 253 = .ok (.iconst 0, 1) := dk_3 (dk_at dksX3_make_10 16 rfl rfl)
theorem dX3_make_254 : decode cX3_make 254 = .ok (.goto 9, 3) := dk_167 0 9 (dk_at dksX3_make_10 17 rfl rfl)
theorem dX3_make_257 : decode cX3_make 257 = .ok (.aload_n 0, 1) := dk_42 (dk_at dksX3_make_10 20 rfl rfl)
theorem dX3_make_258 : decode cX3_make 258 = .ok (.getfield 40, 3) := dk_180 0 40 (dk_at dksX3_make_10 21 rfl rfl)
theorem dX3_make_261 : decode cX3_make 261 = .ok (.iload_n 3, 1) := dk_29 (dk_at dksX3_make_11 0 rfl rfl)
theorem dX3_make_262 : decode cX3_make 262 = .ok (.iaload, 1) := dk_46 (dk_at dksX3_make_11 1 rfl rfl)
theorem dX3_make_263 : decode cX3_make 263 = .ok (.iastore, 1) := dk_79 (dk_at dksX3_make_11 2 rfl rfl)
theorem dX3_make_264 : decode cX3_make 264 = .ok (.iinc 3 1, 3) := dk_132 3 1 (dk_at dksX3_make_11 3 rfl rfl)
theorem dX3_make_267 : decode cX3_make 267 = .ok (.goto (-39), 3) := dk_167 255 217 (dk_at dksX3_make_11 6 rfl rfl)
theorem dX3_make_270 : decode cX3_make 270 = .ok (.return_, 1) := dk_177 (dk_at dksX3_make_11 9 rfl rfl)
abbrev cX3_isLegal : ByteArray := prog_8_method_15_code
def yX3_isLegal : MethodName := ⟨RX3, "isLegal", "()Z"⟩
def dkwX3_isLegal_3 : List UInt8 := [42, 180, 0, 62, 182, 0, 72, 154, 0, 7, 4, 167, 0, 4, 3, 172]
abbrev dktX3_isLegal_3 : List UInt8 := dkwX3_isLegal_3 ++ []
def dkwX3_isLegal_2 : List UInt8 := [159, 0, 13, 27, 6, 160, 0, 12, 28, 6, 160, 0, 7, 4, 167, 0, 4, 3, 62, 29, 153, 0, 18, 42]
abbrev dktX3_isLegal_2 : List UInt8 := dkwX3_isLegal_2 ++ dktX3_isLegal_3
def dkwX3_isLegal_1 : List UInt8 := [180, 0, 62, 153, 0, 33, 27, 28, 4, 96, 160, 0, 16, 27, 6, 163, 0, 11, 42, 180, 0, 62, 4]
abbrev dktX3_isLegal_1 : List UInt8 := dkwX3_isLegal_1 ++ dktX3_isLegal_2
def dkwX3_isLegal_0 : List UInt8 := [42, 3, 182, 0, 69, 60, 42, 4, 182, 0, 69, 61, 27, 28, 160, 0, 15, 27, 6, 162, 0, 10, 42]
abbrev dktX3_isLegal_0 : List UInt8 := dkwX3_isLegal_0 ++ dktX3_isLegal_1
theorem dksX3_isLegal_0 : cX3_isLegal.data.toList.drop 0 = dktX3_isLegal_0 := by decide +kernel
theorem dksX3_isLegal_1 : cX3_isLegal.data.toList.drop 23 = dktX3_isLegal_1 := dk_seg dksX3_isLegal_0 23 rfl rfl
theorem dksX3_isLegal_2 : cX3_isLegal.data.toList.drop 46 = dktX3_isLegal_2 := dk_seg dksX3_isLegal_1 23 rfl rfl
theorem dksX3_isLegal_3 : cX3_isLegal.data.toList.drop 70 = dktX3_isLegal_3 := dk_seg dksX3_isLegal_2 24 rfl rfl
theorem dX3_isLegal_0 : decode cX3_isLegal 0 = .ok (.aload_n 0, 1) := dk_42 (dk_at dksX3_isLegal_0 0 rfl rfl)
theorem dX3_isLegal_1 : decode cX3_isLegal 1 = .ok (.iconst 0, 1) := dk_3 (dk_at dksX3_isLegal_0 1 rfl rfl)
theorem dX3_isLegal_2 : decode cX3_isLegal 2 = .ok (.invokevirtual 69, 3) := dk_182 0 69 (dk_at dksX3_isLegal_0 2 rfl rfl)
theorem dX3_isLegal_5 : decode cX3_isLegal 5 = .ok (.istore_n 1, 1) := dk_60 (dk_at dksX3_isLegal_0 5 rfl rfl)
theorem dX3_isLegal_6 : decode cX3_isLegal 6 = .ok (.aload_n 0, 1) := dk_42 (dk_at dksX3_isLegal_0 6 rfl rfl)
theorem dX3_isLegal_7 : decode cX3_isLegal 7 = .ok (.iconst 1, 1) := dk_4 (dk_at dksX3_isLegal_0 7 rfl rfl)
theorem dX3_isLegal_8 : decode cX3_isLegal 8 = .ok (.invokevirtual 69, 3) := dk_182 0 69 (dk_at dksX3_isLegal_0 8 rfl rfl)
theorem dX3_isLegal_11 : decode cX3_isLegal 11 = .ok (.istore_n 2, 1) := dk_61 (dk_at dksX3_isLegal_0 11 rfl rfl)
theorem dX3_isLegal_12 : decode cX3_isLegal 12 = .ok (.iload_n 1, 1) := dk_27 (dk_at dksX3_isLegal_0 12 rfl rfl)
theorem dX3_isLegal_13 : decode cX3_isLegal 13 = .ok (.iload_n 2, 1) := dk_28 (dk_at dksX3_isLegal_0 13 rfl rfl)
theorem dX3_isLegal_14 : decode cX3_isLegal 14 = .ok (.if_icmp .ne 15, 3) := dk_160 0 15 (dk_at dksX3_isLegal_0 14 rfl rfl)
theorem dX3_isLegal_17 : decode cX3_isLegal 17 = .ok (.iload_n 1, 1) := dk_27 (dk_at dksX3_isLegal_0 17 rfl rfl)
theorem dX3_isLegal_18 : decode cX3_isLegal 18 = .ok (.iconst 3, 1) := dk_6 (dk_at dksX3_isLegal_0 18 rfl rfl)
theorem dX3_isLegal_19 : decode cX3_isLegal 19 = .ok (.if_icmp .ge 10, 3) := dk_162 0 10 (dk_at dksX3_isLegal_0 19 rfl rfl)
theorem dX3_isLegal_22 : decode cX3_isLegal 22 = .ok (.aload_n 0, 1) := dk_42 (dk_at dksX3_isLegal_0 22 rfl rfl)
theorem dX3_isLegal_23 : decode cX3_isLegal 23 = .ok (.getfield 62, 3) := dk_180 0 62 (dk_at dksX3_isLegal_1 0 rfl rfl)
theorem dX3_isLegal_26 : decode cX3_isLegal 26 = .ok (.ifCond .eq 33, 3) := dk_153 0 33 (dk_at dksX3_isLegal_1 3 rfl rfl)
theorem dX3_isLegal_29 : decode cX3_isLegal 29 = .ok (.iload_n 1, 1) := dk_27 (dk_at dksX3_isLegal_1 6 rfl rfl)
theorem dX3_isLegal_30 : decode cX3_isLegal 30 = .ok (.iload_n 2, 1) := dk_28 (dk_at dksX3_isLegal_1 7 rfl rfl)
theorem dX3_isLegal_31 : decode cX3_isLegal 31 = .ok (.iconst 1, 1) := dk_4 (dk_at dksX3_isLegal_1 8 rfl rfl)
theorem dX3_isLegal_32 : decode cX3_isLegal 32 = .ok (.iadd, 1) := dk_96 (dk_at dksX3_isLegal_1 9 rfl rfl)
theorem dX3_isLegal_33 : decode cX3_isLegal 33 = .ok (.if_icmp .ne 16, 3) := dk_160 0 16 (dk_at dksX3_isLegal_1 10 rfl rfl)
theorem dX3_isLegal_36 : decode cX3_isLegal 36 = .ok (.iload_n 1, 1) := dk_27 (dk_at dksX3_isLegal_1 13 rfl rfl)
theorem dX3_isLegal_37 : decode cX3_isLegal 37 = .ok (.iconst 3, 1) := dk_6 (dk_at dksX3_isLegal_1 14 rfl rfl)
theorem dX3_isLegal_38 : decode cX3_isLegal 38 = .ok (.if_icmp .gt 11, 3) := dk_163 0 11 (dk_at dksX3_isLegal_1 15 rfl rfl)
theorem dX3_isLegal_41 : decode cX3_isLegal 41 = .ok (.aload_n 0, 1) := dk_42 (dk_at dksX3_isLegal_1 18 rfl rfl)
theorem dX3_isLegal_42 : decode cX3_isLegal 42 = .ok (.getfield 62, 3) := dk_180 0 62 (dk_at dksX3_isLegal_1 19 rfl rfl)
theorem dX3_isLegal_45 : decode cX3_isLegal 45 = .ok (.iconst 1, 1) := dk_4 (dk_at dksX3_isLegal_1 22 rfl rfl)
theorem dX3_isLegal_46 : decode cX3_isLegal 46 = .ok (.if_icmp .eq 13, 3) := dk_159 0 13 (dk_at dksX3_isLegal_2 0 rfl rfl)
theorem dX3_isLegal_49 : decode cX3_isLegal 49 = .ok (.iload_n 1, 1) := dk_27 (dk_at dksX3_isLegal_2 3 rfl rfl)
theorem dX3_isLegal_50 : decode cX3_isLegal 50 = .ok (.iconst 3, 1) := dk_6 (dk_at dksX3_isLegal_2 4 rfl rfl)
theorem dX3_isLegal_51 : decode cX3_isLegal 51 = .ok (.if_icmp .ne 12, 3) := dk_160 0 12 (dk_at dksX3_isLegal_2 5 rfl rfl)
theorem dX3_isLegal_54 : decode cX3_isLegal 54 = .ok (.iload_n 2, 1) := dk_28 (dk_at dksX3_isLegal_2 8 rfl rfl)
theorem dX3_isLegal_55 : decode cX3_isLegal 55 = .ok (.iconst 3, 1) := dk_6 (dk_at dksX3_isLegal_2 9 rfl rfl)
theorem dX3_isLegal_56 : decode cX3_isLegal 56 = .ok (.if_icmp .ne 7, 3) := dk_160 0 7 (dk_at dksX3_isLegal_2 10 rfl rfl)
theorem dX3_isLegal_59 : decode cX3_isLegal 59 = .ok (.iconst 1, 1) := dk_4 (dk_at dksX3_isLegal_2 13 rfl rfl)
theorem dX3_isLegal_60 : decode cX3_isLegal 60 = .ok (.goto 4, 3) := dk_167 0 4 (dk_at dksX3_isLegal_2 14 rfl rfl)
theorem dX3_isLegal_63 : decode cX3_isLegal 63 = .ok (.iconst 0, 1) := dk_3 (dk_at dksX3_isLegal_2 17 rfl rfl)
theorem dX3_isLegal_64 : decode cX3_isLegal 64 = .ok (.istore_n 3, 1) := dk_62 (dk_at dksX3_isLegal_2 18 rfl rfl)
theorem dX3_isLegal_65 : decode cX3_isLegal 65 = .ok (.iload_n 3, 1) := dk_29 (dk_at dksX3_isLegal_2 19 rfl rfl)
theorem dX3_isLegal_66 : decode cX3_isLegal 66 = .ok (.ifCond .eq 18, 3) := dk_153 0 18 (dk_at dksX3_isLegal_2 20 rfl rfl)
theorem dX3_isLegal_69 : decode cX3_isLegal 69 = .ok (.aload_n 0, 1) := dk_42 (dk_at dksX3_isLegal_2 23 rfl rfl)
theorem dX3_isLegal_70 : decode cX3_isLegal 70 = .ok (.aload_n 0, 1) := dk_42 (dk_at dksX3_isLegal_3 0 rfl rfl)
theorem dX3_isLegal_71 : decode cX3_isLegal 71 = .ok (.getfield 62, 3) := dk_180 0 62 (dk_at dksX3_isLegal_3 1 rfl rfl)
theorem dX3_isLegal_74 : decode cX3_isLegal 74 = .ok (.invokevirtual 72, 3) := dk_182 0 72 (dk_at dksX3_isLegal_3 4 rfl rfl)
theorem dX3_isLegal_77 : decode cX3_isLegal 77 = .ok (.ifCond .ne 7, 3) := dk_154 0 7 (dk_at dksX3_isLegal_3 7 rfl rfl)
theorem dX3_isLegal_80 : decode cX3_isLegal 80 = .ok (.iconst 1, 1) := dk_4 (dk_at dksX3_isLegal_3 10 rfl rfl)
theorem dX3_isLegal_81 : decode cX3_isLegal 81 = .ok (.goto 4, 3) := dk_167 0 4 (dk_at dksX3_isLegal_3 11 rfl rfl)
theorem dX3_isLegal_84 : decode cX3_isLegal 84 = .ok (.iconst 0, 1) := dk_3 (dk_at dksX3_isLegal_3 14 rfl rfl)
theorem dX3_isLegal_85 : decode cX3_isLegal 85 = .ok (.ireturn, 1) := dk_172 (dk_at dksX3_isLegal_3 15 rfl rfl)
abbrev cX3_found : ByteArray := prog_8_method_20_code
def yX3_found : MethodName := ⟨RX3, "found", "(III)I"⟩
def dkwX3_found_4 : List UInt8 := [17, 3, 232, 172]
abbrev dktX3_found_4 : List UInt8 := dkwX3_found_4 ++ []
def dkwX3_found_3 : List UInt8 := [167, 0, 4, 3, 54, 4, 132, 5, 1, 167, 255, 192, 21, 4, 153, 0, 9, 2, 29, 100, 167, 0, 6]
abbrev dktX3_found_3 : List UInt8 := dkwX3_found_3 ++ dktX3_found_4
def dkwX3_found_2 : List UInt8 := [160, 0, 5, 29, 172, 21, 4, 153, 0, 18, 21, 6, 158, 0, 13, 21, 6, 29, 162, 0, 7, 4]
abbrev dktX3_found_2 : List UInt8 := dkwX3_found_2 ++ dktX3_found_3
def dkwX3_found_1 : List UInt8 := [42, 180, 0, 40, 27, 42, 42, 180, 0, 36, 21, 5, 46, 182, 0, 106, 96, 46, 54, 6, 21, 6, 29, 116]
abbrev dktX3_found_1 : List UInt8 := dkwX3_found_1 ++ dktX3_found_2
def dkwX3_found_0 : List UInt8 := [42, 28, 182, 0, 87, 42, 182, 0, 99, 4, 54, 4, 3, 54, 5, 21, 5, 42, 180, 0, 76, 162, 0, 61]
abbrev dktX3_found_0 : List UInt8 := dkwX3_found_0 ++ dktX3_found_1
theorem dksX3_found_0 : cX3_found.data.toList.drop 0 = dktX3_found_0 := by decide +kernel
theorem dksX3_found_1 : cX3_found.data.toList.drop 24 = dktX3_found_1 := dk_seg dksX3_found_0 24 rfl rfl
theorem dksX3_found_2 : cX3_found.data.toList.drop 48 = dktX3_found_2 := dk_seg dksX3_found_1 24 rfl rfl
theorem dksX3_found_3 : cX3_found.data.toList.drop 70 = dktX3_found_3 := dk_seg dksX3_found_2 22 rfl rfl
theorem dksX3_found_4 : cX3_found.data.toList.drop 93 = dktX3_found_4 := dk_seg dksX3_found_3 23 rfl rfl
theorem dX3_found_0 : decode cX3_found 0 = .ok (.aload_n 0, 1) := dk_42 (dk_at dksX3_found_0 0 rfl rfl)
theorem dX3_found_1 : decode cX3_found 1 = .ok (.iload_n 2, 1) := dk_28 (dk_at dksX3_found_0 1 rfl rfl)
theorem dX3_found_2 : decode cX3_found 2 = .ok (.invokevirtual 87, 3) := dk_182 0 87 (dk_at dksX3_found_0 2 rfl rfl)
theorem dX3_found_5 : decode cX3_found 5 = .ok (.aload_n 0, 1) := dk_42 (dk_at dksX3_found_0 5 rfl rfl)
theorem dX3_found_6 : decode cX3_found 6 = .ok (.invokevirtual 99, 3) := dk_182 0 99 (dk_at dksX3_found_0 6 rfl rfl)
theorem dX3_found_9 : decode cX3_found 9 = .ok (.iconst 1, 1) := dk_4 (dk_at dksX3_found_0 9 rfl rfl)
theorem dX3_found_10 : decode cX3_found 10 = .ok (.istore 4, 2) := dk_54 4 (dk_at dksX3_found_0 10 rfl rfl)
theorem dX3_found_12 : decode cX3_found 12 = .ok (.iconst 0, 1) := dk_3 (dk_at dksX3_found_0 12 rfl rfl)
theorem dX3_found_13 : decode cX3_found 13 = .ok (.istore 5, 2) := dk_54 5 (dk_at dksX3_found_0 13 rfl rfl)
theorem dX3_found_15 : decode cX3_found 15 = .ok (.iload 5, 2) := dk_21 5 (dk_at dksX3_found_0 15 rfl rfl)
theorem dX3_found_17 : decode cX3_found 17 = .ok (.aload_n 0, 1) := dk_42 (dk_at dksX3_found_0 17 rfl rfl)
theorem dX3_found_18 : decode cX3_found 18 = .ok (.getfield 76, 3) := dk_180 0 76 (dk_at dksX3_found_0 18 rfl rfl)
theorem dX3_found_21 : decode cX3_found 21 = .ok (.if_icmp .ge 61, 3) := dk_162 0 61 (dk_at dksX3_found_0 21 rfl rfl)
theorem dX3_found_24 : decode cX3_found 24 = .ok (.aload_n 0, 1) := dk_42 (dk_at dksX3_found_1 0 rfl rfl)
theorem dX3_found_25 : decode cX3_found 25 = .ok (.getfield 40, 3) := dk_180 0 40 (dk_at dksX3_found_1 1 rfl rfl)
theorem dX3_found_28 : decode cX3_found 28 = .ok (.iload_n 1, 1) := dk_27 (dk_at dksX3_found_1 4 rfl rfl)
theorem dX3_found_29 : decode cX3_found 29 = .ok (.aload_n 0, 1) := dk_42 (dk_at dksX3_found_1 5 rfl rfl)
theorem dX3_found_30 : decode cX3_found 30 = .ok (.aload_n 0, 1) := dk_42 (dk_at dksX3_found_1 6 rfl rfl)
theorem dX3_found_31 : decode cX3_found 31 = .ok (.getfield 36, 3) := dk_180 0 36 (dk_at dksX3_found_1 7 rfl rfl)
theorem dX3_found_34 : decode cX3_found 34 = .ok (.iload 5, 2) := dk_21 5 (dk_at dksX3_found_1 10 rfl rfl)
theorem dX3_found_36 : decode cX3_found 36 = .ok (.iaload, 1) := dk_46 (dk_at dksX3_found_1 12 rfl rfl)
theorem dX3_found_37 : decode cX3_found 37 = .ok (.invokevirtual 106, 3) := dk_182 0 106 (dk_at dksX3_found_1 13 rfl rfl)
theorem dX3_found_40 : decode cX3_found 40 = .ok (.iadd, 1) := dk_96 (dk_at dksX3_found_1 16 rfl rfl)
theorem dX3_found_41 : decode cX3_found 41 = .ok (.iaload, 1) := dk_46 (dk_at dksX3_found_1 17 rfl rfl)
theorem dX3_found_42 : decode cX3_found 42 = .ok (.istore 6, 2) := dk_54 6 (dk_at dksX3_found_1 18 rfl rfl)
theorem dX3_found_44 : decode cX3_found 44 = .ok (.iload 6, 2) := dk_21 6 (dk_at dksX3_found_1 20 rfl rfl)
theorem dX3_found_46 : decode cX3_found 46 = .ok (.iload_n 3, 1) := dk_29 (dk_at dksX3_found_1 22 rfl rfl)
theorem dX3_found_47 : decode cX3_found 47 = .ok (.ineg, 1) := dk_116 (dk_at dksX3_found_1 23 rfl rfl)
theorem dX3_found_48 : decode cX3_found 48 = .ok (.if_icmp .ne 5, 3) := dk_160 0 5 (dk_at dksX3_found_2 0 rfl rfl)
theorem dX3_found_51 : decode cX3_found 51 = .ok (.iload_n 3, 1) := dk_29 (dk_at dksX3_found_2 3 rfl rfl)
theorem dX3_found_52 : decode cX3_found 52 = .ok (.ireturn, 1) := dk_172 (dk_at dksX3_found_2 4 rfl rfl)
theorem dX3_found_53 : decode cX3_found 53 = .ok (.iload 4, 2) := dk_21 4 (dk_at dksX3_found_2 5 rfl rfl)
theorem dX3_found_55 : decode cX3_found 55 = .ok (.ifCond .eq 18, 3) := dk_153 0 18 (dk_at dksX3_found_2 7 rfl rfl)
theorem dX3_found_58 : decode cX3_found 58 = .ok (.iload 6, 2) := dk_21 6 (dk_at dksX3_found_2 10 rfl rfl)
theorem dX3_found_60 : decode cX3_found 60 = .ok (.ifCond .le 13, 3) := dk_158 0 13 (dk_at dksX3_found_2 12 rfl rfl)
theorem dX3_found_63 : decode cX3_found 63 = .ok (.iload 6, 2) := dk_21 6 (dk_at dksX3_found_2 15 rfl rfl)
theorem dX3_found_65 : decode cX3_found 65 = .ok (.iload_n 3, 1) := dk_29 (dk_at dksX3_found_2 17 rfl rfl)
theorem dX3_found_66 : decode cX3_found 66 = .ok (.if_icmp .ge 7, 3) := dk_162 0 7 (dk_at dksX3_found_2 18 rfl rfl)
theorem dX3_found_69 : decode cX3_found 69 = .ok (.iconst 1, 1) := dk_4 (dk_at dksX3_found_2 21 rfl rfl)
theorem dX3_found_70 : decode cX3_found 70 = .ok (.goto 4, 3) := dk_167 0 4 (dk_at dksX3_found_3 0 rfl rfl)
theorem dX3_found_73 : decode cX3_found 73 = .ok (.iconst 0, 1) := dk_3 (dk_at dksX3_found_3 3 rfl rfl)
theorem dX3_found_74 : decode cX3_found 74 = .ok (.istore 4, 2) := dk_54 4 (dk_at dksX3_found_3 4 rfl rfl)
theorem dX3_found_76 : decode cX3_found 76 = .ok (.iinc 5 1, 3) := dk_132 5 1 (dk_at dksX3_found_3 6 rfl rfl)
theorem dX3_found_79 : decode cX3_found 79 = .ok (.goto (-64), 3) := dk_167 255 192 (dk_at dksX3_found_3 9 rfl rfl)
theorem dX3_found_82 : decode cX3_found 82 = .ok (.iload 4, 2) := dk_21 4 (dk_at dksX3_found_3 12 rfl rfl)
theorem dX3_found_84 : decode cX3_found 84 = .ok (.ifCond .eq 9, 3) := dk_153 0 9 (dk_at dksX3_found_3 14 rfl rfl)
theorem dX3_found_87 : decode cX3_found 87 = .ok (.iconst (-1), 1) := dk_2 (dk_at dksX3_found_3 17 rfl rfl)
theorem dX3_found_88 : decode cX3_found 88 = .ok (.iload_n 3, 1) := dk_29 (dk_at dksX3_found_3 18 rfl rfl)
theorem dX3_found_89 : decode cX3_found 89 = .ok (.isub, 1) := dk_100 (dk_at dksX3_found_3 19 rfl rfl)
theorem dX3_found_90 : decode cX3_found 90 = .ok (.goto 6, 3) := dk_167 0 6 (dk_at dksX3_found_3 20 rfl rfl)
theorem dX3_found_93 : decode cX3_found 93 = .ok (.sipush 1000, 3) := dk_17 3 232 (dk_at dksX3_found_4 0 rfl rfl)
theorem dX3_found_96 : decode cX3_found 96 = .ok (.ireturn, 1) := dk_172 (dk_at dksX3_found_4 3 rfl rfl)
abbrev cX3_at : ByteArray := prog_8_method_41_code
def yX3_at : MethodName := ⟨RX3, "at", "(I)I"⟩
def dkwX3_at_1 : List UInt8 := [180, 0, 33, 27, 46, 154, 0, 8, 16, 250, 167, 0, 11, 42, 180, 0, 33, 27, 46, 4, 100, 172]
abbrev dktX3_at_1 : List UInt8 := dkwX3_at_1 ++ []
def dkwX3_at_0 : List UInt8 := [27, 133, 3, 16, 8, 184, 0, 51, 154, 0, 5, 2, 172, 42, 42, 182, 0, 112, 182, 0, 87, 42]
abbrev dktX3_at_0 : List UInt8 := dkwX3_at_0 ++ dktX3_at_1
theorem dksX3_at_0 : cX3_at.data.toList.drop 0 = dktX3_at_0 := by decide +kernel
theorem dksX3_at_1 : cX3_at.data.toList.drop 22 = dktX3_at_1 := dk_seg dksX3_at_0 22 rfl rfl
theorem dX3_at_0 : decode cX3_at 0 = .ok (.iload_n 1, 1) := dk_27 (dk_at dksX3_at_0 0 rfl rfl)
theorem dX3_at_1 : decode cX3_at 1 = .ok (.i2l, 1) := dk_133 (dk_at dksX3_at_0 1 rfl rfl)
theorem dX3_at_2 : decode cX3_at 2 = .ok (.iconst 0, 1) := dk_3 (dk_at dksX3_at_0 2 rfl rfl)
theorem dX3_at_3 : decode cX3_at 3 = .ok (.bipush 8, 2) := dk_16 8 (dk_at dksX3_at_0 3 rfl rfl)
theorem dX3_at_5 : decode cX3_at 5 = .ok (.invokestatic 51, 3) := dk_184 0 51 (dk_at dksX3_at_0 5 rfl rfl)
theorem dX3_at_8 : decode cX3_at 8 = .ok (.ifCond .ne 5, 3) := dk_154 0 5 (dk_at dksX3_at_0 8 rfl rfl)
theorem dX3_at_11 : decode cX3_at 11 = .ok (.iconst (-1), 1) := dk_2 (dk_at dksX3_at_0 11 rfl rfl)
theorem dX3_at_12 : decode cX3_at 12 = .ok (.ireturn, 1) := dk_172 (dk_at dksX3_at_0 12 rfl rfl)
theorem dX3_at_13 : decode cX3_at 13 = .ok (.aload_n 0, 1) := dk_42 (dk_at dksX3_at_0 13 rfl rfl)
theorem dX3_at_14 : decode cX3_at 14 = .ok (.aload_n 0, 1) := dk_42 (dk_at dksX3_at_0 14 rfl rfl)
theorem dX3_at_15 : decode cX3_at 15 = .ok (.invokevirtual 112, 3) := dk_182 0 112 (dk_at dksX3_at_0 15 rfl rfl)
theorem dX3_at_18 : decode cX3_at 18 = .ok (.invokevirtual 87, 3) := dk_182 0 87 (dk_at dksX3_at_0 18 rfl rfl)
theorem dX3_at_21 : decode cX3_at 21 = .ok (.aload_n 0, 1) := dk_42 (dk_at dksX3_at_0 21 rfl rfl)
theorem dX3_at_22 : decode cX3_at 22 = .ok (.getfield 33, 3) := dk_180 0 33 (dk_at dksX3_at_1 0 rfl rfl)
theorem dX3_at_25 : decode cX3_at 25 = .ok (.iload_n 1, 1) := dk_27 (dk_at dksX3_at_1 3 rfl rfl)
theorem dX3_at_26 : decode cX3_at 26 = .ok (.iaload, 1) := dk_46 (dk_at dksX3_at_1 4 rfl rfl)
theorem dX3_at_27 : decode cX3_at 27 = .ok (.ifCond .ne 8, 3) := dk_154 0 8 (dk_at dksX3_at_1 5 rfl rfl)
theorem dX3_at_30 : decode cX3_at 30 = .ok (.bipush (-6), 2) := dk_16 250 (dk_at dksX3_at_1 8 rfl rfl)
theorem dX3_at_32 : decode cX3_at 32 = .ok (.goto 11, 3) := dk_167 0 11 (dk_at dksX3_at_1 10 rfl rfl)
theorem dX3_at_35 : decode cX3_at 35 = .ok (.aload_n 0, 1) := dk_42 (dk_at dksX3_at_1 13 rfl rfl)
theorem dX3_at_36 : decode cX3_at 36 = .ok (.getfield 33, 3) := dk_180 0 33 (dk_at dksX3_at_1 14 rfl rfl)
theorem dX3_at_39 : decode cX3_at 39 = .ok (.iload_n 1, 1) := dk_27 (dk_at dksX3_at_1 17 rfl rfl)
theorem dX3_at_40 : decode cX3_at 40 = .ok (.iaload, 1) := dk_46 (dk_at dksX3_at_1 18 rfl rfl)
theorem dX3_at_41 : decode cX3_at 41 = .ok (.iconst 1, 1) := dk_4 (dk_at dksX3_at_1 19 rfl rfl)
theorem dX3_at_42 : decode cX3_at 42 = .ok (.isub, 1) := dk_100 (dk_at dksX3_at_1 20 rfl rfl)
theorem dX3_at_43 : decode cX3_at 43 = .ok (.ireturn, 1) := dk_172 (dk_at dksX3_at_1 21 rfl rfl)
abbrev cX3_count : ByteArray := prog_8_method_42_code
def yX3_count : MethodName := ⟨RX3, "count", "(I)I"⟩
def dkwX3_count_5 : List UInt8 := [42, 180, 0, 7, 27, 16, 8, 100, 46, 172, 42, 180, 0, 159, 172, 42, 180, 0, 46, 172, 16, 254, 172]
abbrev dktX3_count_5 : List UInt8 := dkwX3_count_5 ++ []
def dkwX3_count_4 : List UInt8 := [167, 0, 5, 16, 250, 172, 42, 182, 0, 156, 153, 0, 7, 4, 167, 0, 4, 3, 172, 42, 182, 0, 115, 172]
abbrev dktX3_count_4 : List UInt8 := dkwX3_count_4 ++ dktX3_count_5
def dkwX3_count_3 : List UInt8 := [153, 0, 7, 4, 167, 0, 4, 3, 172, 42, 182, 0, 118, 153, 0, 12, 4, 42, 180, 0, 62, 100]
abbrev dktX3_count_3 : List UInt8 := dkwX3_count_3 ++ dktX3_count_4
def dkwX3_count_2 : List UInt8 := [42, 180, 0, 62, 172, 42, 180, 0, 7, 5, 46, 172, 42, 27, 5, 100, 182, 0, 69, 172, 42, 182, 0, 121]
abbrev dktX3_count_2 : List UInt8 := dkwX3_count_2 ++ dktX3_count_3
def dkwX3_count_1 : List UInt8 := [170, 0, 0, 0, 0, 0, 153, 0, 0, 0, 0, 0, 0, 0, 11, 0, 0, 0, 63, 0, 0, 0, 68, 0, 0, 0, 75, 0, 0, 0, 75, 0, 0, 0, 83, 0, 0, 0, 96, 0, 0, 0, 115, 0, 0, 0, 128, 0, 0, 0, 133, 0, 0, 0, 133, 0, 0, 0, 143, 0, 0, 0, 148]
abbrev dktX3_count_1 : List UInt8 := dkwX3_count_1 ++ dktX3_count_2
def dkwX3_count_0 : List UInt8 := [42, 42, 182, 0, 112, 182, 0, 87, 27]
abbrev dktX3_count_0 : List UInt8 := dkwX3_count_0 ++ dktX3_count_1
theorem dksX3_count_0 : cX3_count.data.toList.drop 0 = dktX3_count_0 := by decide +kernel
theorem dksX3_count_1 : cX3_count.data.toList.drop 9 = dktX3_count_1 := dk_seg dksX3_count_0 9 rfl rfl
theorem dksX3_count_2 : cX3_count.data.toList.drop 72 = dktX3_count_2 := dk_seg dksX3_count_1 63 rfl rfl
theorem dksX3_count_3 : cX3_count.data.toList.drop 96 = dktX3_count_3 := dk_seg dksX3_count_2 24 rfl rfl
theorem dksX3_count_4 : cX3_count.data.toList.drop 118 = dktX3_count_4 := dk_seg dksX3_count_3 22 rfl rfl
theorem dksX3_count_5 : cX3_count.data.toList.drop 142 = dktX3_count_5 := dk_seg dksX3_count_4 24 rfl rfl
theorem dX3_count_0 : decode cX3_count 0 = .ok (.aload_n 0, 1) := dk_42 (dk_at dksX3_count_0 0 rfl rfl)
theorem dX3_count_1 : decode cX3_count 1 = .ok (.aload_n 0, 1) := dk_42 (dk_at dksX3_count_0 1 rfl rfl)
theorem dX3_count_2 : decode cX3_count 2 = .ok (.invokevirtual 112, 3) := dk_182 0 112 (dk_at dksX3_count_0 2 rfl rfl)
theorem dX3_count_5 : decode cX3_count 5 = .ok (.invokevirtual 87, 3) := dk_182 0 87 (dk_at dksX3_count_0 5 rfl rfl)
theorem dX3_count_8 : decode cX3_count 8 = .ok (.iload_n 1, 1) := dk_27 (dk_at dksX3_count_0 8 rfl rfl)
theorem dX3_count_9 : decode cX3_count 9 = .ok (.tableswitch 153 0 11 #[63, 68, 75, 75, 83, 96, 115, 128, 133, 133, 143, 148], 63) := by decide +kernel
theorem dX3_count_72 : decode cX3_count 72 = .ok (.aload_n 0, 1) := dk_42 (dk_at dksX3_count_2 0 rfl rfl)
theorem dX3_count_73 : decode cX3_count 73 = .ok (.getfield 62, 3) := dk_180 0 62 (dk_at dksX3_count_2 1 rfl rfl)
theorem dX3_count_76 : decode cX3_count 76 = .ok (.ireturn, 1) := dk_172 (dk_at dksX3_count_2 4 rfl rfl)
theorem dX3_count_77 : decode cX3_count 77 = .ok (.aload_n 0, 1) := dk_42 (dk_at dksX3_count_2 5 rfl rfl)
theorem dX3_count_78 : decode cX3_count 78 = .ok (.getfield 7, 3) := dk_180 0 7 (dk_at dksX3_count_2 6 rfl rfl)
theorem dX3_count_81 : decode cX3_count 81 = .ok (.iconst 2, 1) := dk_5 (dk_at dksX3_count_2 9 rfl rfl)
theorem dX3_count_82 : decode cX3_count 82 = .ok (.iaload, 1) := dk_46 (dk_at dksX3_count_2 10 rfl rfl)
theorem dX3_count_83 : decode cX3_count 83 = .ok (.ireturn, 1) := dk_172 (dk_at dksX3_count_2 11 rfl rfl)
theorem dX3_count_84 : decode cX3_count 84 = .ok (.aload_n 0, 1) := dk_42 (dk_at dksX3_count_2 12 rfl rfl)
theorem dX3_count_85 : decode cX3_count 85 = .ok (.iload_n 1, 1) := dk_27 (dk_at dksX3_count_2 13 rfl rfl)
theorem dX3_count_86 : decode cX3_count 86 = .ok (.iconst 2, 1) := dk_5 (dk_at dksX3_count_2 14 rfl rfl)
theorem dX3_count_87 : decode cX3_count 87 = .ok (.isub, 1) := dk_100 (dk_at dksX3_count_2 15 rfl rfl)
theorem dX3_count_88 : decode cX3_count 88 = .ok (.invokevirtual 69, 3) := dk_182 0 69 (dk_at dksX3_count_2 16 rfl rfl)
theorem dX3_count_91 : decode cX3_count 91 = .ok (.ireturn, 1) := dk_172 (dk_at dksX3_count_2 19 rfl rfl)
theorem dX3_count_92 : decode cX3_count 92 = .ok (.aload_n 0, 1) := dk_42 (dk_at dksX3_count_2 20 rfl rfl)
theorem dX3_count_93 : decode cX3_count 93 = .ok (.invokevirtual 121, 3) := dk_182 0 121 (dk_at dksX3_count_2 21 rfl rfl)
theorem dX3_count_96 : decode cX3_count 96 = .ok (.ifCond .eq 7, 3) := dk_153 0 7 (dk_at dksX3_count_3 0 rfl rfl)
theorem dX3_count_99 : decode cX3_count 99 = .ok (.iconst 1, 1) := dk_4 (dk_at dksX3_count_3 3 rfl rfl)
theorem dX3_count_100 : decode cX3_count 100 = .ok (.goto 4, 3) := dk_167 0 4 (dk_at dksX3_count_3 4 rfl rfl)
theorem dX3_count_103 : decode cX3_count 103 = .ok (.iconst 0, 1) := dk_3 (dk_at dksX3_count_3 7 rfl rfl)
theorem dX3_count_104 : decode cX3_count 104 = .ok (.ireturn, 1) := dk_172 (dk_at dksX3_count_3 8 rfl rfl)
theorem dX3_count_105 : decode cX3_count 105 = .ok (.aload_n 0, 1) := dk_42 (dk_at dksX3_count_3 9 rfl rfl)
theorem dX3_count_106 : decode cX3_count 106 = .ok (.invokevirtual 118, 3) := dk_182 0 118 (dk_at dksX3_count_3 10 rfl rfl)
theorem dX3_count_109 : decode cX3_count 109 = .ok (.ifCond .eq 12, 3) := dk_153 0 12 (dk_at dksX3_count_3 13 rfl rfl)
theorem dX3_count_112 : decode cX3_count 112 = .ok (.iconst 1, 1) := dk_4 (dk_at dksX3_count_3 16 rfl rfl)
theorem dX3_count_113 : decode cX3_count 113 = .ok (.aload_n 0, 1) := dk_42 (dk_at dksX3_count_3 17 rfl rfl)
theorem dX3_count_114 : decode cX3_count 114 = .ok (.getfield 62, 3) := dk_180 0 62 (dk_at dksX3_count_3 18 rfl rfl)
theorem dX3_count_117 : decode cX3_count 117 = .ok (.isub, 1) := dk_100 (dk_at dksX3_count_3 21 rfl rfl)
theorem dX3_count_118 : decode cX3_count 118 = .ok (.goto 5, 3) := dk_167 0 5 (dk_at dksX3_count_4 0 rfl rfl)
theorem dX3_count_121 : decode cX3_count 121 = .ok (.bipush (-6), 2) := dk_16 250 (dk_at dksX3_count_4 3 rfl rfl)
theorem dX3_count_123 : decode cX3_count 123 = .ok (.ireturn, 1) := dk_172 (dk_at dksX3_count_4 5 rfl rfl)
theorem dX3_count_124 : decode cX3_count 124 = .ok (.aload_n 0, 1) := dk_42 (dk_at dksX3_count_4 6 rfl rfl)
theorem dX3_count_125 : decode cX3_count 125 = .ok (.invokevirtual 156, 3) := dk_182 0 156 (dk_at dksX3_count_4 7 rfl rfl)
theorem dX3_count_128 : decode cX3_count 128 = .ok (.ifCond .eq 7, 3) := dk_153 0 7 (dk_at dksX3_count_4 10 rfl rfl)
theorem dX3_count_131 : decode cX3_count 131 = .ok (.iconst 1, 1) := dk_4 (dk_at dksX3_count_4 13 rfl rfl)
theorem dX3_count_132 : decode cX3_count 132 = .ok (.goto 4, 3) := dk_167 0 4 (dk_at dksX3_count_4 14 rfl rfl)
theorem dX3_count_135 : decode cX3_count 135 = .ok (.iconst 0, 1) := dk_3 (dk_at dksX3_count_4 17 rfl rfl)
theorem dX3_count_136 : decode cX3_count 136 = .ok (.ireturn, 1) := dk_172 (dk_at dksX3_count_4 18 rfl rfl)
theorem dX3_count_137 : decode cX3_count 137 = .ok (.aload_n 0, 1) := dk_42 (dk_at dksX3_count_4 19 rfl rfl)
theorem dX3_count_138 : decode cX3_count 138 = .ok (.invokevirtual 115, 3) := dk_182 0 115 (dk_at dksX3_count_4 20 rfl rfl)
theorem dX3_count_141 : decode cX3_count 141 = .ok (.ireturn, 1) := dk_172 (dk_at dksX3_count_4 23 rfl rfl)
theorem dX3_count_142 : decode cX3_count 142 = .ok (.aload_n 0, 1) := dk_42 (dk_at dksX3_count_5 0 rfl rfl)
theorem dX3_count_143 : decode cX3_count 143 = .ok (.getfield 7, 3) := dk_180 0 7 (dk_at dksX3_count_5 1 rfl rfl)
theorem dX3_count_146 : decode cX3_count 146 = .ok (.iload_n 1, 1) := dk_27 (dk_at dksX3_count_5 4 rfl rfl)
theorem dX3_count_147 : decode cX3_count 147 = .ok (.bipush 8, 2) := dk_16 8 (dk_at dksX3_count_5 5 rfl rfl)
theorem dX3_count_149 : decode cX3_count 149 = .ok (.isub, 1) := dk_100 (dk_at dksX3_count_5 7 rfl rfl)
theorem dX3_count_150 : decode cX3_count 150 = .ok (.iaload, 1) := dk_46 (dk_at dksX3_count_5 8 rfl rfl)
theorem dX3_count_151 : decode cX3_count 151 = .ok (.ireturn, 1) := dk_172 (dk_at dksX3_count_5 9 rfl rfl)
theorem dX3_count_152 : decode cX3_count 152 = .ok (.aload_n 0, 1) := dk_42 (dk_at dksX3_count_5 10 rfl rfl)
theorem dX3_count_153 : decode cX3_count 153 = .ok (.getfield 159, 3) := dk_180 0 159 (dk_at dksX3_count_5 11 rfl rfl)
theorem dX3_count_156 : decode cX3_count 156 = .ok (.ireturn, 1) := dk_172 (dk_at dksX3_count_5 14 rfl rfl)
theorem dX3_count_157 : decode cX3_count 157 = .ok (.aload_n 0, 1) := dk_42 (dk_at dksX3_count_5 15 rfl rfl)
theorem dX3_count_158 : decode cX3_count 158 = .ok (.getfield 46, 3) := dk_180 0 46 (dk_at dksX3_count_5 16 rfl rfl)
theorem dX3_count_161 : decode cX3_count 161 = .ok (.ireturn, 1) := dk_172 (dk_at dksX3_count_5 19 rfl rfl)
theorem dX3_count_162 : decode cX3_count 162 = .ok (.bipush (-2), 2) := dk_16 254 (dk_at dksX3_count_5 20 rfl rfl)
theorem dX3_count_164 : decode cX3_count 164 = .ok (.ireturn, 1) := dk_172 (dk_at dksX3_count_5 22 rfl rfl)
abbrev cX3_isDrawn : ByteArray := prog_8_method_24_code
def yX3_isDrawn : MethodName := ⟨RX3, "isDrawn", "()Z"⟩
def dkwX3_isDrawn_0 : List UInt8 := [42, 182, 0, 115, 6, 161, 0, 14, 42, 182, 0, 118, 154, 0, 7, 4, 167, 0, 4, 3, 172]
abbrev dktX3_isDrawn_0 : List UInt8 := dkwX3_isDrawn_0 ++ []
theorem dksX3_isDrawn_0 : cX3_isDrawn.data.toList.drop 0 = dktX3_isDrawn_0 := by decide +kernel
theorem dX3_isDrawn_0 : decode cX3_isDrawn 0 = .ok (.aload_n 0, 1) := dk_42 (dk_at dksX3_isDrawn_0 0 rfl rfl)
theorem dX3_isDrawn_1 : decode cX3_isDrawn 1 = .ok (.invokevirtual 115, 3) := dk_182 0 115 (dk_at dksX3_isDrawn_0 1 rfl rfl)
theorem dX3_isDrawn_4 : decode cX3_isDrawn 4 = .ok (.iconst 3, 1) := dk_6 (dk_at dksX3_isDrawn_0 4 rfl rfl)
theorem dX3_isDrawn_5 : decode cX3_isDrawn 5 = .ok (.if_icmp .lt 14, 3) := dk_161 0 14 (dk_at dksX3_isDrawn_0 5 rfl rfl)
theorem dX3_isDrawn_8 : decode cX3_isDrawn 8 = .ok (.aload_n 0, 1) := dk_42 (dk_at dksX3_isDrawn_0 8 rfl rfl)
theorem dX3_isDrawn_9 : decode cX3_isDrawn 9 = .ok (.invokevirtual 118, 3) := dk_182 0 118 (dk_at dksX3_isDrawn_0 9 rfl rfl)
theorem dX3_isDrawn_12 : decode cX3_isDrawn 12 = .ok (.ifCond .ne 7, 3) := dk_154 0 7 (dk_at dksX3_isDrawn_0 12 rfl rfl)
theorem dX3_isDrawn_15 : decode cX3_isDrawn 15 = .ok (.iconst 1, 1) := dk_4 (dk_at dksX3_isDrawn_0 15 rfl rfl)
theorem dX3_isDrawn_16 : decode cX3_isDrawn 16 = .ok (.goto 4, 3) := dk_167 0 4 (dk_at dksX3_isDrawn_0 16 rfl rfl)
theorem dX3_isDrawn_19 : decode cX3_isDrawn 19 = .ok (.iconst 0, 1) := dk_3 (dk_at dksX3_isDrawn_0 19 rfl rfl)
theorem dX3_isDrawn_20 : decode cX3_isDrawn 20 = .ok (.ireturn, 1) := dk_172 (dk_at dksX3_isDrawn_0 20 rfl rfl)
abbrev cX3_neighbours : ByteArray := prog_8_method_43_code
def yX3_neighbours : MethodName := ⟨RX3, "neighbours", "(I)I"⟩
def dkwX3_neighbours_2 : List UInt8 := [28, 172]
abbrev dktX3_neighbours_2 : List UInt8 := dkwX3_neighbours_2 ++ []
def dkwX3_neighbours_1 : List UInt8 := [42, 27, 29, 182, 0, 79, 153, 0, 9, 4, 29, 120, 167, 0, 4, 3, 128, 61, 132, 3, 1, 167, 255, 228]
abbrev dktX3_neighbours_1 : List UInt8 := dkwX3_neighbours_1 ++ dktX3_neighbours_2
def dkwX3_neighbours_0 : List UInt8 := [27, 133, 3, 16, 8, 184, 0, 51, 154, 0, 5, 2, 172, 3, 61, 3, 62, 29, 16, 9, 162, 0, 28, 28]
abbrev dktX3_neighbours_0 : List UInt8 := dkwX3_neighbours_0 ++ dktX3_neighbours_1
theorem dksX3_neighbours_0 : cX3_neighbours.data.toList.drop 0 = dktX3_neighbours_0 := by decide +kernel
theorem dksX3_neighbours_1 : cX3_neighbours.data.toList.drop 24 = dktX3_neighbours_1 := dk_seg dksX3_neighbours_0 24 rfl rfl
theorem dksX3_neighbours_2 : cX3_neighbours.data.toList.drop 48 = dktX3_neighbours_2 := dk_seg dksX3_neighbours_1 24 rfl rfl
theorem dX3_neighbours_0 : decode cX3_neighbours 0 = .ok (.iload_n 1, 1) := dk_27 (dk_at dksX3_neighbours_0 0 rfl rfl)
theorem dX3_neighbours_1 : decode cX3_neighbours 1 = .ok (.i2l, 1) := dk_133 (dk_at dksX3_neighbours_0 1 rfl rfl)
theorem dX3_neighbours_2 : decode cX3_neighbours 2 = .ok (.iconst 0, 1) := dk_3 (dk_at dksX3_neighbours_0 2 rfl rfl)
theorem dX3_neighbours_3 : decode cX3_neighbours 3 = .ok (.bipush 8, 2) := dk_16 8 (dk_at dksX3_neighbours_0 3 rfl rfl)
theorem dX3_neighbours_5 : decode cX3_neighbours 5 = .ok (.invokestatic 51, 3) := dk_184 0 51 (dk_at dksX3_neighbours_0 5 rfl rfl)
theorem dX3_neighbours_8 : decode cX3_neighbours 8 = .ok (.ifCond .ne 5, 3) := dk_154 0 5 (dk_at dksX3_neighbours_0 8 rfl rfl)
theorem dX3_neighbours_11 : decode cX3_neighbours 11 = .ok (.iconst (-1), 1) := dk_2 (dk_at dksX3_neighbours_0 11 rfl rfl)
theorem dX3_neighbours_12 : decode cX3_neighbours 12 = .ok (.ireturn, 1) := dk_172 (dk_at dksX3_neighbours_0 12 rfl rfl)
theorem dX3_neighbours_13 : decode cX3_neighbours 13 = .ok (.iconst 0, 1) := dk_3 (dk_at dksX3_neighbours_0 13 rfl rfl)
theorem dX3_neighbours_14 : decode cX3_neighbours 14 = .ok (.istore_n 2, 1) := dk_61 (dk_at dksX3_neighbours_0 14 rfl rfl)
theorem dX3_neighbours_15 : decode cX3_neighbours 15 = .ok (.iconst 0, 1) := dk_3 (dk_at dksX3_neighbours_0 15 rfl rfl)
theorem dX3_neighbours_16 : decode cX3_neighbours 16 = .ok (.istore_n 3, 1) := dk_62 (dk_at dksX3_neighbours_0 16 rfl rfl)
theorem dX3_neighbours_17 : decode cX3_neighbours 17 = .ok (.iload_n 3, 1) := dk_29 (dk_at dksX3_neighbours_0 17 rfl rfl)
theorem dX3_neighbours_18 : decode cX3_neighbours 18 = .ok (.bipush 9, 2) := dk_16 9 (dk_at dksX3_neighbours_0 18 rfl rfl)
theorem dX3_neighbours_20 : decode cX3_neighbours 20 = .ok (.if_icmp .ge 28, 3) := dk_162 0 28 (dk_at dksX3_neighbours_0 20 rfl rfl)
theorem dX3_neighbours_23 : decode cX3_neighbours 23 = .ok (.iload_n 2, 1) := dk_28 (dk_at dksX3_neighbours_0 23 rfl rfl)
theorem dX3_neighbours_24 : decode cX3_neighbours 24 = .ok (.aload_n 0, 1) := dk_42 (dk_at dksX3_neighbours_1 0 rfl rfl)
theorem dX3_neighbours_25 : decode cX3_neighbours 25 = .ok (.iload_n 1, 1) := dk_27 (dk_at dksX3_neighbours_1 1 rfl rfl)
theorem dX3_neighbours_26 : decode cX3_neighbours 26 = .ok (.iload_n 3, 1) := dk_29 (dk_at dksX3_neighbours_1 2 rfl rfl)
theorem dX3_neighbours_27 : decode cX3_neighbours 27 = .ok (.invokevirtual 79, 3) := dk_182 0 79 (dk_at dksX3_neighbours_1 3 rfl rfl)
theorem dX3_neighbours_30 : decode cX3_neighbours 30 = .ok (.ifCond .eq 9, 3) := dk_153 0 9 (dk_at dksX3_neighbours_1 6 rfl rfl)
theorem dX3_neighbours_33 : decode cX3_neighbours 33 = .ok (.iconst 1, 1) := dk_4 (dk_at dksX3_neighbours_1 9 rfl rfl)
theorem dX3_neighbours_34 : decode cX3_neighbours 34 = .ok (.iload_n 3, 1) := dk_29 (dk_at dksX3_neighbours_1 10 rfl rfl)
theorem dX3_neighbours_35 : decode cX3_neighbours 35 = .ok (.ishl, 1) := dk_120 (dk_at dksX3_neighbours_1 11 rfl rfl)
theorem dX3_neighbours_36 : decode cX3_neighbours 36 = .ok (.goto 4, 3) := dk_167 0 4 (dk_at dksX3_neighbours_1 12 rfl rfl)
theorem dX3_neighbours_39 : decode cX3_neighbours 39 = .ok (.iconst 0, 1) := dk_3 (dk_at dksX3_neighbours_1 15 rfl rfl)
theorem dX3_neighbours_40 : decode cX3_neighbours 40 = .ok (.ior, 1) := dk_128 (dk_at dksX3_neighbours_1 16 rfl rfl)
theorem dX3_neighbours_41 : decode cX3_neighbours 41 = .ok (.istore_n 2, 1) := dk_61 (dk_at dksX3_neighbours_1 17 rfl rfl)
theorem dX3_neighbours_42 : decode cX3_neighbours 42 = .ok (.iinc 3 1, 3) := dk_132 3 1 (dk_at dksX3_neighbours_1 18 rfl rfl)
theorem dX3_neighbours_45 : decode cX3_neighbours 45 = .ok (.goto (-28), 3) := dk_167 255 228 (dk_at dksX3_neighbours_1 21 rfl rfl)
theorem dX3_neighbours_48 : decode cX3_neighbours 48 = .ok (.iload_n 2, 1) := dk_28 (dk_at dksX3_neighbours_2 0 rfl rfl)
theorem dX3_neighbours_49 : decode cX3_neighbours 49 = .ok (.ireturn, 1) := dk_172 (dk_at dksX3_neighbours_2 1 rfl rfl)
abbrev cX3_move : ByteArray := prog_8_method_44_code
def yX3_move : MethodName := ⟨RX3, "move", "(I)I"⟩
def dkwX3_move_1 : List UInt8 := [46, 167, 0, 4, 2, 172]
abbrev dktX3_move_1 : List UInt8 := dkwX3_move_1 ++ []
def dkwX3_move_0 : List UInt8 := [42, 182, 0, 124, 27, 133, 3, 42, 180, 0, 76, 4, 100, 184, 0, 51, 153, 0, 12, 42, 180, 0, 36, 27]
abbrev dktX3_move_0 : List UInt8 := dkwX3_move_0 ++ dktX3_move_1
theorem dksX3_move_0 : cX3_move.data.toList.drop 0 = dktX3_move_0 := by decide +kernel
theorem dksX3_move_1 : cX3_move.data.toList.drop 24 = dktX3_move_1 := dk_seg dksX3_move_0 24 rfl rfl
theorem dX3_move_0 : decode cX3_move 0 = .ok (.aload_n 0, 1) := dk_42 (dk_at dksX3_move_0 0 rfl rfl)
theorem dX3_move_1 : decode cX3_move 1 = .ok (.invokevirtual 124, 3) := dk_182 0 124 (dk_at dksX3_move_0 1 rfl rfl)
theorem dX3_move_4 : decode cX3_move 4 = .ok (.iload_n 1, 1) := dk_27 (dk_at dksX3_move_0 4 rfl rfl)
theorem dX3_move_5 : decode cX3_move 5 = .ok (.i2l, 1) := dk_133 (dk_at dksX3_move_0 5 rfl rfl)
theorem dX3_move_6 : decode cX3_move 6 = .ok (.iconst 0, 1) := dk_3 (dk_at dksX3_move_0 6 rfl rfl)
theorem dX3_move_7 : decode cX3_move 7 = .ok (.aload_n 0, 1) := dk_42 (dk_at dksX3_move_0 7 rfl rfl)
theorem dX3_move_8 : decode cX3_move 8 = .ok (.getfield 76, 3) := dk_180 0 76 (dk_at dksX3_move_0 8 rfl rfl)
theorem dX3_move_11 : decode cX3_move 11 = .ok (.iconst 1, 1) := dk_4 (dk_at dksX3_move_0 11 rfl rfl)
theorem dX3_move_12 : decode cX3_move 12 = .ok (.isub, 1) := dk_100 (dk_at dksX3_move_0 12 rfl rfl)
theorem dX3_move_13 : decode cX3_move 13 = .ok (.invokestatic 51, 3) := dk_184 0 51 (dk_at dksX3_move_0 13 rfl rfl)
theorem dX3_move_16 : decode cX3_move 16 = .ok (.ifCond .eq 12, 3) := dk_153 0 12 (dk_at dksX3_move_0 16 rfl rfl)
theorem dX3_move_19 : decode cX3_move 19 = .ok (.aload_n 0, 1) := dk_42 (dk_at dksX3_move_0 19 rfl rfl)
theorem dX3_move_20 : decode cX3_move 20 = .ok (.getfield 36, 3) := dk_180 0 36 (dk_at dksX3_move_0 20 rfl rfl)
theorem dX3_move_23 : decode cX3_move 23 = .ok (.iload_n 1, 1) := dk_27 (dk_at dksX3_move_0 23 rfl rfl)
theorem dX3_move_24 : decode cX3_move 24 = .ok (.iaload, 1) := dk_46 (dk_at dksX3_move_1 0 rfl rfl)
theorem dX3_move_25 : decode cX3_move 25 = .ok (.goto 4, 3) := dk_167 0 4 (dk_at dksX3_move_1 1 rfl rfl)
theorem dX3_move_28 : decode cX3_move 28 = .ok (.iconst (-1), 1) := dk_2 (dk_at dksX3_move_1 4 rfl rfl)
theorem dX3_move_29 : decode cX3_move 29 = .ok (.ireturn, 1) := dk_172 (dk_at dksX3_move_1 5 rfl rfl)
abbrev cX3_worth : ByteArray := prog_8_method_45_code
def yX3_worth : MethodName := ⟨RX3, "worth", "()I"⟩
def dkwX3_worth_0 : List UInt8 := [42, 42, 182, 0, 112, 182, 0, 127, 16, 100, 96, 172]
abbrev dktX3_worth_0 : List UInt8 := dkwX3_worth_0 ++ []
theorem dksX3_worth_0 : cX3_worth.data.toList.drop 0 = dktX3_worth_0 := by decide +kernel
theorem dX3_worth_0 : decode cX3_worth 0 = .ok (.aload_n 0, 1) := dk_42 (dk_at dksX3_worth_0 0 rfl rfl)
theorem dX3_worth_1 : decode cX3_worth 1 = .ok (.aload_n 0, 1) := dk_42 (dk_at dksX3_worth_0 1 rfl rfl)
theorem dX3_worth_2 : decode cX3_worth 2 = .ok (.invokevirtual 112, 3) := dk_182 0 112 (dk_at dksX3_worth_0 2 rfl rfl)
theorem dX3_worth_5 : decode cX3_worth 5 = .ok (.invokevirtual 127, 3) := dk_182 0 127 (dk_at dksX3_worth_0 5 rfl rfl)
theorem dX3_worth_8 : decode cX3_worth 8 = .ok (.bipush 100, 2) := dk_16 100 (dk_at dksX3_worth_0 8 rfl rfl)
theorem dX3_worth_10 : decode cX3_worth 10 = .ok (.iadd, 1) := dk_96 (dk_at dksX3_worth_0 10 rfl rfl)
theorem dX3_worth_11 : decode cX3_worth 11 = .ok (.ireturn, 1) := dk_172 (dk_at dksX3_worth_0 11 rfl rfl)
abbrev cX3_behind : ByteArray := prog_8_method_46_code
def yX3_behind : MethodName := ⟨RX3, "behind", "(I)I"⟩
def dkwX3_behind_1 : List UInt8 := [42, 28, 182, 0, 127, 16, 100, 96, 172]
abbrev dktX3_behind_1 : List UInt8 := dkwX3_behind_1 ++ []
def dkwX3_behind_0 : List UInt8 := [42, 27, 182, 0, 130, 154, 0, 5, 2, 172, 42, 42, 182, 0, 112, 182, 0, 87, 42, 27, 182, 0, 106, 61]
abbrev dktX3_behind_0 : List UInt8 := dkwX3_behind_0 ++ dktX3_behind_1
theorem dksX3_behind_0 : cX3_behind.data.toList.drop 0 = dktX3_behind_0 := by decide +kernel
theorem dksX3_behind_1 : cX3_behind.data.toList.drop 24 = dktX3_behind_1 := dk_seg dksX3_behind_0 24 rfl rfl
theorem dX3_behind_0 : decode cX3_behind 0 = .ok (.aload_n 0, 1) := dk_42 (dk_at dksX3_behind_0 0 rfl rfl)
theorem dX3_behind_1 : decode cX3_behind 1 = .ok (.iload_n 1, 1) := dk_27 (dk_at dksX3_behind_0 1 rfl rfl)
theorem dX3_behind_2 : decode cX3_behind 2 = .ok (.invokevirtual 130, 3) := dk_182 0 130 (dk_at dksX3_behind_0 2 rfl rfl)
theorem dX3_behind_5 : decode cX3_behind 5 = .ok (.ifCond .ne 5, 3) := dk_154 0 5 (dk_at dksX3_behind_0 5 rfl rfl)
theorem dX3_behind_8 : decode cX3_behind 8 = .ok (.iconst (-1), 1) := dk_2 (dk_at dksX3_behind_0 8 rfl rfl)
theorem dX3_behind_9 : decode cX3_behind 9 = .ok (.ireturn, 1) := dk_172 (dk_at dksX3_behind_0 9 rfl rfl)
theorem dX3_behind_10 : decode cX3_behind 10 = .ok (.aload_n 0, 1) := dk_42 (dk_at dksX3_behind_0 10 rfl rfl)
theorem dX3_behind_11 : decode cX3_behind 11 = .ok (.aload_n 0, 1) := dk_42 (dk_at dksX3_behind_0 11 rfl rfl)
theorem dX3_behind_12 : decode cX3_behind 12 = .ok (.invokevirtual 112, 3) := dk_182 0 112 (dk_at dksX3_behind_0 12 rfl rfl)
theorem dX3_behind_15 : decode cX3_behind 15 = .ok (.invokevirtual 87, 3) := dk_182 0 87 (dk_at dksX3_behind_0 15 rfl rfl)
theorem dX3_behind_18 : decode cX3_behind 18 = .ok (.aload_n 0, 1) := dk_42 (dk_at dksX3_behind_0 18 rfl rfl)
theorem dX3_behind_19 : decode cX3_behind 19 = .ok (.iload_n 1, 1) := dk_27 (dk_at dksX3_behind_0 19 rfl rfl)
theorem dX3_behind_20 : decode cX3_behind 20 = .ok (.invokevirtual 106, 3) := dk_182 0 106 (dk_at dksX3_behind_0 20 rfl rfl)
theorem dX3_behind_23 : decode cX3_behind 23 = .ok (.istore_n 2, 1) := dk_61 (dk_at dksX3_behind_0 23 rfl rfl)
theorem dX3_behind_24 : decode cX3_behind 24 = .ok (.aload_n 0, 1) := dk_42 (dk_at dksX3_behind_1 0 rfl rfl)
theorem dX3_behind_25 : decode cX3_behind 25 = .ok (.iload_n 2, 1) := dk_28 (dk_at dksX3_behind_1 1 rfl rfl)
theorem dX3_behind_26 : decode cX3_behind 26 = .ok (.invokevirtual 127, 3) := dk_182 0 127 (dk_at dksX3_behind_1 2 rfl rfl)
theorem dX3_behind_29 : decode cX3_behind 29 = .ok (.bipush 100, 2) := dk_16 100 (dk_at dksX3_behind_1 5 rfl rfl)
theorem dX3_behind_31 : decode cX3_behind 31 = .ok (.iadd, 1) := dk_96 (dk_at dksX3_behind_1 7 rfl rfl)
theorem dX3_behind_32 : decode cX3_behind 32 = .ok (.ireturn, 1) := dk_172 (dk_at dksX3_behind_1 8 rfl rfl)
abbrev cX3_best : ByteArray := prog_8_method_47_code
def yX3_best : MethodName := ⟨RX3, "best", "()I"⟩
def dkwX3_best_0 : List UInt8 := [42, 182, 0, 121, 153, 0, 8, 16, 251, 167, 0, 7, 42, 182, 0, 140, 172]
abbrev dktX3_best_0 : List UInt8 := dkwX3_best_0 ++ []
theorem dksX3_best_0 : cX3_best.data.toList.drop 0 = dktX3_best_0 := by decide +kernel
theorem dX3_best_0 : decode cX3_best 0 = .ok (.aload_n 0, 1) := dk_42 (dk_at dksX3_best_0 0 rfl rfl)
theorem dX3_best_1 : decode cX3_best 1 = .ok (.invokevirtual 121, 3) := dk_182 0 121 (dk_at dksX3_best_0 1 rfl rfl)
theorem dX3_best_4 : decode cX3_best 4 = .ok (.ifCond .eq 8, 3) := dk_153 0 8 (dk_at dksX3_best_0 4 rfl rfl)
theorem dX3_best_7 : decode cX3_best 7 = .ok (.bipush (-5), 2) := dk_16 251 (dk_at dksX3_best_0 7 rfl rfl)
theorem dX3_best_9 : decode cX3_best 9 = .ok (.goto 7, 3) := dk_167 0 7 (dk_at dksX3_best_0 9 rfl rfl)
theorem dX3_best_12 : decode cX3_best 12 = .ok (.aload_n 0, 1) := dk_42 (dk_at dksX3_best_0 12 rfl rfl)
theorem dX3_best_13 : decode cX3_best 13 = .ok (.invokevirtual 140, 3) := dk_182 0 140 (dk_at dksX3_best_0 13 rfl rfl)
theorem dX3_best_16 : decode cX3_best 16 = .ok (.ireturn, 1) := dk_172 (dk_at dksX3_best_0 16 rfl rfl)
abbrev cX3_worthOf : ByteArray := prog_8_method_48_code
def yX3_worthOf : MethodName := ⟨RX3, "worthOf", "(III)I"⟩
def dkwX3_worthOf_4 : List UInt8 := [153, 0, 15, 42, 21, 4, 182, 0, 127, 16, 100, 96, 167, 0, 5, 16, 254, 172]
abbrev dktX3_worthOf_4 : List UInt8 := dkwX3_worthOf_4 ++ []
def dkwX3_worthOf_3 : List UInt8 := [104, 96, 79, 132, 4, 1, 167, 255, 224, 42, 29, 181, 0, 62, 42, 182, 0, 83, 54, 4, 42, 182, 0, 95]
abbrev dktX3_worthOf_3 : List UInt8 := dkwX3_worthOf_3 ++ dktX3_worthOf_4
def dkwX3_worthOf_2 : List UInt8 := [16, 9, 162, 0, 31, 42, 180, 0, 33, 21, 4, 27, 21, 4, 122, 4, 126, 5, 28, 21, 4, 122, 4, 126]
abbrev dktX3_worthOf_2 : List UInt8 := dkwX3_worthOf_2 ++ dktX3_worthOf_3
def dkwX3_worthOf_1 : List UInt8 := [29, 133, 3, 4, 184, 0, 51, 153, 0, 9, 27, 28, 126, 153, 0, 6, 16, 254, 172, 3, 54, 4, 21, 4]
abbrev dktX3_worthOf_1 : List UInt8 := dkwX3_worthOf_1 ++ dktX3_worthOf_2
def dkwX3_worthOf_0 : List UInt8 := [27, 133, 3, 17, 1, 255, 184, 0, 51, 153, 0, 31, 28, 133, 3, 17, 1, 255, 184, 0, 51, 153, 0, 19]
abbrev dktX3_worthOf_0 : List UInt8 := dkwX3_worthOf_0 ++ dktX3_worthOf_1
theorem dksX3_worthOf_0 : cX3_worthOf.data.toList.drop 0 = dktX3_worthOf_0 := by decide +kernel
theorem dksX3_worthOf_1 : cX3_worthOf.data.toList.drop 24 = dktX3_worthOf_1 := dk_seg dksX3_worthOf_0 24 rfl rfl
theorem dksX3_worthOf_2 : cX3_worthOf.data.toList.drop 48 = dktX3_worthOf_2 := dk_seg dksX3_worthOf_1 24 rfl rfl
theorem dksX3_worthOf_3 : cX3_worthOf.data.toList.drop 72 = dktX3_worthOf_3 := dk_seg dksX3_worthOf_2 24 rfl rfl
theorem dksX3_worthOf_4 : cX3_worthOf.data.toList.drop 96 = dktX3_worthOf_4 := dk_seg dksX3_worthOf_3 24 rfl rfl
theorem dX3_worthOf_0 : decode cX3_worthOf 0 = .ok (.iload_n 1, 1) := dk_27 (dk_at dksX3_worthOf_0 0 rfl rfl)
theorem dX3_worthOf_1 : decode cX3_worthOf 1 = .ok (.i2l, 1) := dk_133 (dk_at dksX3_worthOf_0 1 rfl rfl)
theorem dX3_worthOf_2 : decode cX3_worthOf 2 = .ok (.iconst 0, 1) := dk_3 (dk_at dksX3_worthOf_0 2 rfl rfl)
theorem dX3_worthOf_3 : decode cX3_worthOf 3 = .ok (.sipush 511, 3) := dk_17 1 255 (dk_at dksX3_worthOf_0 3 rfl rfl)
theorem dX3_worthOf_6 : decode cX3_worthOf 6 = .ok (.invokestatic 51, 3) := dk_184 0 51 (dk_at dksX3_worthOf_0 6 rfl rfl)
theorem dX3_worthOf_9 : decode cX3_worthOf 9 = .ok (.ifCond .eq 31, 3) := dk_153 0 31 (dk_at dksX3_worthOf_0 9 rfl rfl)
theorem dX3_worthOf_12 : decode cX3_worthOf 12 = .ok (.iload_n 2, 1) := dk_28 (dk_at dksX3_worthOf_0 12 rfl rfl)
theorem dX3_worthOf_13 : decode cX3_worthOf 13 = .ok (.i2l, 1) := dk_133 (dk_at dksX3_worthOf_0 13 rfl rfl)
theorem dX3_worthOf_14 : decode cX3_worthOf 14 = .ok (.iconst 0, 1) := dk_3 (dk_at dksX3_worthOf_0 14 rfl rfl)
theorem dX3_worthOf_15 : decode cX3_worthOf 15 = .ok (.sipush 511, 3) := dk_17 1 255 (dk_at dksX3_worthOf_0 15 rfl rfl)
theorem dX3_worthOf_18 : decode cX3_worthOf 18 = .ok (.invokestatic 51, 3) := dk_184 0 51 (dk_at dksX3_worthOf_0 18 rfl rfl)
theorem dX3_worthOf_21 : decode cX3_worthOf 21 = .ok (.ifCond .eq 19, 3) := dk_153 0 19 (dk_at dksX3_worthOf_0 21 rfl rfl)
theorem dX3_worthOf_24 : decode cX3_worthOf 24 = .ok (.iload_n 3, 1) := dk_29 (dk_at dksX3_worthOf_1 0 rfl rfl)
theorem dX3_worthOf_25 : decode cX3_worthOf 25 = .ok (.i2l, 1) := dk_133 (dk_at dksX3_worthOf_1 1 rfl rfl)
theorem dX3_worthOf_26 : decode cX3_worthOf 26 = .ok (.iconst 0, 1) := dk_3 (dk_at dksX3_worthOf_1 2 rfl rfl)
theorem dX3_worthOf_27 : decode cX3_worthOf 27 = .ok (.iconst 1, 1) := dk_4 (dk_at dksX3_worthOf_1 3 rfl rfl)
theorem dX3_worthOf_28 : decode cX3_worthOf 28 = .ok (.invokestatic 51, 3) := dk_184 0 51 (dk_at dksX3_worthOf_1 4 rfl rfl)
theorem dX3_worthOf_31 : decode cX3_worthOf 31 = .ok (.ifCond .eq 9, 3) := dk_153 0 9 (dk_at dksX3_worthOf_1 7 rfl rfl)
theorem dX3_worthOf_34 : decode cX3_worthOf 34 = .ok (.iload_n 1, 1) := dk_27 (dk_at dksX3_worthOf_1 10 rfl rfl)
theorem dX3_worthOf_35 : decode cX3_worthOf 35 = .ok (.iload_n 2, 1) := dk_28 (dk_at dksX3_worthOf_1 11 rfl rfl)
theorem dX3_worthOf_36 : decode cX3_worthOf 36 = .ok (.iand, 1) := dk_126 (dk_at dksX3_worthOf_1 12 rfl rfl)
theorem dX3_worthOf_37 : decode cX3_worthOf 37 = .ok (.ifCond .eq 6, 3) := dk_153 0 6 (dk_at dksX3_worthOf_1 13 rfl rfl)
theorem dX3_worthOf_40 : decode cX3_worthOf 40 = .ok (.bipush (-2), 2) := dk_16 254 (dk_at dksX3_worthOf_1 16 rfl rfl)
theorem dX3_worthOf_42 : decode cX3_worthOf 42 = .ok (.ireturn, 1) := dk_172 (dk_at dksX3_worthOf_1 18 rfl rfl)
theorem dX3_worthOf_43 : decode cX3_worthOf 43 = .ok (.iconst 0, 1) := dk_3 (dk_at dksX3_worthOf_1 19 rfl rfl)
theorem dX3_worthOf_44 : decode cX3_worthOf 44 = .ok (.istore 4, 2) := dk_54 4 (dk_at dksX3_worthOf_1 20 rfl rfl)
theorem dX3_worthOf_46 : decode cX3_worthOf 46 = .ok (.iload 4, 2) := dk_21 4 (dk_at dksX3_worthOf_1 22 rfl rfl)
theorem dX3_worthOf_48 : decode cX3_worthOf 48 = .ok (.bipush 9, 2) := dk_16 9 (dk_at dksX3_worthOf_2 0 rfl rfl)
theorem dX3_worthOf_50 : decode cX3_worthOf 50 = .ok (.if_icmp .ge 31, 3) := dk_162 0 31 (dk_at dksX3_worthOf_2 2 rfl rfl)
theorem dX3_worthOf_53 : decode cX3_worthOf 53 = .ok (.aload_n 0, 1) := dk_42 (dk_at dksX3_worthOf_2 5 rfl rfl)
theorem dX3_worthOf_54 : decode cX3_worthOf 54 = .ok (.getfield 33, 3) := dk_180 0 33 (dk_at dksX3_worthOf_2 6 rfl rfl)
theorem dX3_worthOf_57 : decode cX3_worthOf 57 = .ok (.iload 4, 2) := dk_21 4 (dk_at dksX3_worthOf_2 9 rfl rfl)
theorem dX3_worthOf_59 : decode cX3_worthOf 59 = .ok (.iload_n 1, 1) := dk_27 (dk_at dksX3_worthOf_2 11 rfl rfl)
theorem dX3_worthOf_60 : decode cX3_worthOf 60 = .ok (.iload 4, 2) := dk_21 4 (dk_at dksX3_worthOf_2 12 rfl rfl)
theorem dX3_worthOf_62 : decode cX3_worthOf 62 = .ok (.ishr, 1) := dk_122 (dk_at dksX3_worthOf_2 14 rfl rfl)
theorem dX3_worthOf_63 : decode cX3_worthOf 63 = .ok (.iconst 1, 1) := dk_4 (dk_at dksX3_worthOf_2 15 rfl rfl)
theorem dX3_worthOf_64 : decode cX3_worthOf 64 = .ok (.iand, 1) := dk_126 (dk_at dksX3_worthOf_2 16 rfl rfl)
theorem dX3_worthOf_65 : decode cX3_worthOf 65 = .ok (.iconst 2, 1) := dk_5 (dk_at dksX3_worthOf_2 17 rfl rfl)
theorem dX3_worthOf_66 : decode cX3_worthOf 66 = .ok (.iload_n 2, 1) := dk_28 (dk_at dksX3_worthOf_2 18 rfl rfl)
theorem dX3_worthOf_67 : decode cX3_worthOf 67 = .ok (.iload 4, 2) := dk_21 4 (dk_at dksX3_worthOf_2 19 rfl rfl)
theorem dX3_worthOf_69 : decode cX3_worthOf 69 = .ok (.ishr, 1) := dk_122 (dk_at dksX3_worthOf_2 21 rfl rfl)
theorem dX3_worthOf_70 : decode cX3_worthOf 70 = .ok (.iconst 1, 1) := dk_4 (dk_at dksX3_worthOf_2 22 rfl rfl)
theorem dX3_worthOf_71 : decode cX3_worthOf 71 = .ok (.iand, 1) := dk_126 (dk_at dksX3_worthOf_2 23 rfl rfl)
theorem dX3_worthOf_72 : decode cX3_worthOf 72 = .ok (.imul, 1) := dk_104 (dk_at dksX3_worthOf_3 0 rfl rfl)
theorem dX3_worthOf_73 : decode cX3_worthOf 73 = .ok (.iadd, 1) := dk_96 (dk_at dksX3_worthOf_3 1 rfl rfl)
theorem dX3_worthOf_74 : decode cX3_worthOf 74 = .ok (.iastore, 1) := dk_79 (dk_at dksX3_worthOf_3 2 rfl rfl)
theorem dX3_worthOf_75 : decode cX3_worthOf 75 = .ok (.iinc 4 1, 3) := dk_132 4 1 (dk_at dksX3_worthOf_3 3 rfl rfl)
theorem dX3_worthOf_78 : decode cX3_worthOf 78 = .ok (.goto (-32), 3) := dk_167 255 224 (dk_at dksX3_worthOf_3 6 rfl rfl)
theorem dX3_worthOf_81 : decode cX3_worthOf 81 = .ok (.aload_n 0, 1) := dk_42 (dk_at dksX3_worthOf_3 9 rfl rfl)
theorem dX3_worthOf_82 : decode cX3_worthOf 82 = .ok (.iload_n 3, 1) := dk_29 (dk_at dksX3_worthOf_3 10 rfl rfl)
theorem dX3_worthOf_83 : decode cX3_worthOf 83 = .ok (.putfield 62, 3) := dk_181 0 62 (dk_at dksX3_worthOf_3 11 rfl rfl)
theorem dX3_worthOf_86 : decode cX3_worthOf 86 = .ok (.aload_n 0, 1) := dk_42 (dk_at dksX3_worthOf_3 14 rfl rfl)
theorem dX3_worthOf_87 : decode cX3_worthOf 87 = .ok (.invokevirtual 83, 3) := dk_182 0 83 (dk_at dksX3_worthOf_3 15 rfl rfl)
theorem dX3_worthOf_90 : decode cX3_worthOf 90 = .ok (.istore 4, 2) := dk_54 4 (dk_at dksX3_worthOf_3 18 rfl rfl)
theorem dX3_worthOf_92 : decode cX3_worthOf 92 = .ok (.aload_n 0, 1) := dk_42 (dk_at dksX3_worthOf_3 20 rfl rfl)
theorem dX3_worthOf_93 : decode cX3_worthOf 93 = .ok (.invokevirtual 95, 3) := dk_182 0 95 (dk_at dksX3_worthOf_3 21 rfl rfl)
theorem dX3_worthOf_96 : decode cX3_worthOf 96 = .ok (.ifCond .eq 15, 3) := dk_153 0 15 (dk_at dksX3_worthOf_4 0 rfl rfl)
theorem dX3_worthOf_99 : decode cX3_worthOf 99 = .ok (.aload_n 0, 1) := dk_42 (dk_at dksX3_worthOf_4 3 rfl rfl)
theorem dX3_worthOf_100 : decode cX3_worthOf 100 = .ok (.iload 4, 2) := dk_21 4 (dk_at dksX3_worthOf_4 4 rfl rfl)
theorem dX3_worthOf_102 : decode cX3_worthOf 102 = .ok (.invokevirtual 127, 3) := dk_182 0 127 (dk_at dksX3_worthOf_4 6 rfl rfl)
theorem dX3_worthOf_105 : decode cX3_worthOf 105 = .ok (.bipush 100, 2) := dk_16 100 (dk_at dksX3_worthOf_4 9 rfl rfl)
theorem dX3_worthOf_107 : decode cX3_worthOf 107 = .ok (.iadd, 1) := dk_96 (dk_at dksX3_worthOf_4 11 rfl rfl)
theorem dX3_worthOf_108 : decode cX3_worthOf 108 = .ok (.goto 5, 3) := dk_167 0 5 (dk_at dksX3_worthOf_4 12 rfl rfl)
theorem dX3_worthOf_111 : decode cX3_worthOf 111 = .ok (.bipush (-2), 2) := dk_16 254 (dk_at dksX3_worthOf_4 15 rfl rfl)
theorem dX3_worthOf_113 : decode cX3_worthOf 113 = .ok (.ireturn, 1) := dk_172 (dk_at dksX3_worthOf_4 17 rfl rfl)
abbrev cX3_tally : ByteArray := prog_8_method_49_code
def yX3_tally : MethodName := ⟨RX3, "tally", "(I)I"⟩
def dkwX3_tally_7 : List UInt8 := [172]
abbrev dktX3_tally_7 : List UInt8 := dkwX3_tally_7 ++ []
def dkwX3_tally_6 : List UInt8 := [167, 0, 5, 21, 4, 54, 4, 132, 5, 1, 167, 255, 131, 27, 7, 162, 0, 7, 29, 167, 0, 5, 21, 4]
abbrev dktX3_tally_6 : List UInt8 := dkwX3_tally_6 ++ dktX3_tally_7
def dkwX3_tally_5 : List UInt8 := [21, 6, 156, 0, 10, 2, 21, 6, 100, 167, 0, 4, 3, 54, 7, 21, 7, 21, 4, 164, 0, 8, 21, 7]
abbrev dktX3_tally_5 : List UInt8 := dkwX3_tally_5 ++ dktX3_tally_6
def dkwX3_tally_4 : List UInt8 := [3, 96, 62, 27, 7, 160, 0, 13, 21, 6, 158, 0, 8, 21, 6, 167, 0, 21, 27, 8, 160, 0, 15]
abbrev dktX3_tally_4 : List UInt8 := dkwX3_tally_4 ++ dktX3_tally_5
def dkwX3_tally_3 : List UInt8 := [27, 5, 160, 0, 8, 21, 6, 155, 0, 13, 27, 6, 160, 0, 12, 21, 6, 154, 0, 7, 4, 167, 0, 4]
abbrev dktX3_tally_3 : List UInt8 := dkwX3_tally_3 ++ dktX3_tally_4
def dkwX3_tally_2 : List UInt8 := [17, 7, 208, 160, 0, 6, 167, 0, 96, 29, 27, 153, 0, 33, 27, 4, 160, 0, 8, 21, 6, 157, 0, 23]
abbrev dktX3_tally_2 : List UInt8 := dkwX3_tally_2 ++ dktX3_tally_3
def dkwX3_tally_1 : List UInt8 := [54, 5, 21, 5, 28, 18, 91, 96, 162, 0, 122, 42, 180, 0, 40, 21, 5, 46, 54, 6, 21, 6]
abbrev dktX3_tally_1 : List UInt8 := dkwX3_tally_1 ++ dktX3_tally_2
def dkwX3_tally_0 : List UInt8 := [27, 133, 3, 8, 184, 0, 51, 154, 0, 6, 16, 254, 172, 42, 182, 0, 109, 61, 3, 62, 3, 54, 4, 28]
abbrev dktX3_tally_0 : List UInt8 := dkwX3_tally_0 ++ dktX3_tally_1
theorem dksX3_tally_0 : cX3_tally.data.toList.drop 0 = dktX3_tally_0 := by decide +kernel
theorem dksX3_tally_1 : cX3_tally.data.toList.drop 24 = dktX3_tally_1 := dk_seg dksX3_tally_0 24 rfl rfl
theorem dksX3_tally_2 : cX3_tally.data.toList.drop 46 = dktX3_tally_2 := dk_seg dksX3_tally_1 22 rfl rfl
theorem dksX3_tally_3 : cX3_tally.data.toList.drop 70 = dktX3_tally_3 := dk_seg dksX3_tally_2 24 rfl rfl
theorem dksX3_tally_4 : cX3_tally.data.toList.drop 94 = dktX3_tally_4 := dk_seg dksX3_tally_3 24 rfl rfl
theorem dksX3_tally_5 : cX3_tally.data.toList.drop 117 = dktX3_tally_5 := dk_seg dksX3_tally_4 23 rfl rfl
theorem dksX3_tally_6 : cX3_tally.data.toList.drop 141 = dktX3_tally_6 := dk_seg dksX3_tally_5 24 rfl rfl
theorem dksX3_tally_7 : cX3_tally.data.toList.drop 165 = dktX3_tally_7 := dk_seg dksX3_tally_6 24 rfl rfl
theorem dX3_tally_0 : decode cX3_tally 0 = .ok (.iload_n 1, 1) := dk_27 (dk_at dksX3_tally_0 0 rfl rfl)
theorem dX3_tally_1 : decode cX3_tally 1 = .ok (.i2l, 1) := dk_133 (dk_at dksX3_tally_0 1 rfl rfl)
theorem dX3_tally_2 : decode cX3_tally 2 = .ok (.iconst 0, 1) := dk_3 (dk_at dksX3_tally_0 2 rfl rfl)
theorem dX3_tally_3 : decode cX3_tally 3 = .ok (.iconst 5, 1) := dk_8 (dk_at dksX3_tally_0 3 rfl rfl)
theorem dX3_tally_4 : decode cX3_tally 4 = .ok (.invokestatic 51, 3) := dk_184 0 51 (dk_at dksX3_tally_0 4 rfl rfl)
theorem dX3_tally_7 : decode cX3_tally 7 = .ok (.ifCond .ne 6, 3) := dk_154 0 6 (dk_at dksX3_tally_0 7 rfl rfl)
theorem dX3_tally_10 : decode cX3_tally 10 = .ok (.bipush (-2), 2) := dk_16 254 (dk_at dksX3_tally_0 10 rfl rfl)
theorem dX3_tally_12 : decode cX3_tally 12 = .ok (.ireturn, 1) := dk_172 (dk_at dksX3_tally_0 12 rfl rfl)
theorem dX3_tally_13 : decode cX3_tally 13 = .ok (.aload_n 0, 1) := dk_42 (dk_at dksX3_tally_0 13 rfl rfl)
theorem dX3_tally_14 : decode cX3_tally 14 = .ok (.invokevirtual 109, 3) := dk_182 0 109 (dk_at dksX3_tally_0 14 rfl rfl)
theorem dX3_tally_17 : decode cX3_tally 17 = .ok (.istore_n 2, 1) := dk_61 (dk_at dksX3_tally_0 17 rfl rfl)
theorem dX3_tally_18 : decode cX3_tally 18 = .ok (.iconst 0, 1) := dk_3 (dk_at dksX3_tally_0 18 rfl rfl)
theorem dX3_tally_19 : decode cX3_tally 19 = .ok (.istore_n 3, 1) := dk_62 (dk_at dksX3_tally_0 19 rfl rfl)
theorem dX3_tally_20 : decode cX3_tally 20 = .ok (.iconst 0, 1) := dk_3 (dk_at dksX3_tally_0 20 rfl rfl)
theorem dX3_tally_21 : decode cX3_tally 21 = .ok (.istore 4, 2) := dk_54 4 (dk_at dksX3_tally_0 21 rfl rfl)
theorem dX3_tally_23 : decode cX3_tally 23 = .ok (.iload_n 2, 1) := dk_28 (dk_at dksX3_tally_0 23 rfl rfl)
theorem dX3_tally_24 : decode cX3_tally 24 = .ok (.istore 5, 2) := dk_54 5 (dk_at dksX3_tally_1 0 rfl rfl)
theorem dX3_tally_26 : decode cX3_tally 26 = .ok (.iload 5, 2) := dk_21 5 (dk_at dksX3_tally_1 2 rfl rfl)
theorem dX3_tally_28 : decode cX3_tally 28 = .ok (.iload_n 2, 1) := dk_28 (dk_at dksX3_tally_1 4 rfl rfl)
theorem dX3_tally_29 : decode cX3_tally 29 = .ok (.ldc 91, 2) := dk_18 91 (dk_at dksX3_tally_1 5 rfl rfl)
theorem dX3_tally_31 : decode cX3_tally 31 = .ok (.iadd, 1) := dk_96 (dk_at dksX3_tally_1 7 rfl rfl)
theorem dX3_tally_32 : decode cX3_tally 32 = .ok (.if_icmp .ge 122, 3) := dk_162 0 122 (dk_at dksX3_tally_1 8 rfl rfl)
theorem dX3_tally_35 : decode cX3_tally 35 = .ok (.aload_n 0, 1) := dk_42 (dk_at dksX3_tally_1 11 rfl rfl)
theorem dX3_tally_36 : decode cX3_tally 36 = .ok (.getfield 40, 3) := dk_180 0 40 (dk_at dksX3_tally_1 12 rfl rfl)
theorem dX3_tally_39 : decode cX3_tally 39 = .ok (.iload 5, 2) := dk_21 5 (dk_at dksX3_tally_1 15 rfl rfl)
theorem dX3_tally_41 : decode cX3_tally 41 = .ok (.iaload, 1) := dk_46 (dk_at dksX3_tally_1 17 rfl rfl)
theorem dX3_tally_42 : decode cX3_tally 42 = .ok (.istore 6, 2) := dk_54 6 (dk_at dksX3_tally_1 18 rfl rfl)
theorem dX3_tally_44 : decode cX3_tally 44 = .ok (.iload 6, 2) := dk_21 6 (dk_at dksX3_tally_1 20 rfl rfl)
theorem dX3_tally_46 : decode cX3_tally 46 = .ok (.sipush 2000, 3) := dk_17 7 208 (dk_at dksX3_tally_2 0 rfl rfl)
theorem dX3_tally_49 : decode cX3_tally 49 = .ok (.if_icmp .ne 6, 3) := dk_160 0 6 (dk_at dksX3_tally_2 3 rfl rfl)
theorem dX3_tally_52 : decode cX3_tally 52 = .ok (.goto 96, 3) := dk_167 0 96 (dk_at dksX3_tally_2 6 rfl rfl)
theorem dX3_tally_55 : decode cX3_tally 55 = .ok (.iload_n 3, 1) := dk_29 (dk_at dksX3_tally_2 9 rfl rfl)
theorem dX3_tally_56 : decode cX3_tally 56 = .ok (.iload_n 1, 1) := dk_27 (dk_at dksX3_tally_2 10 rfl rfl)
theorem dX3_tally_57 : decode cX3_tally 57 = .ok (.ifCond .eq 33, 3) := dk_153 0 33 (dk_at dksX3_tally_2 11 rfl rfl)
theorem dX3_tally_60 : decode cX3_tally 60 = .ok (.iload_n 1, 1) := dk_27 (dk_at dksX3_tally_2 14 rfl rfl)
theorem dX3_tally_61 : decode cX3_tally 61 = .ok (.iconst 1, 1) := dk_4 (dk_at dksX3_tally_2 15 rfl rfl)
theorem dX3_tally_62 : decode cX3_tally 62 = .ok (.if_icmp .ne 8, 3) := dk_160 0 8 (dk_at dksX3_tally_2 16 rfl rfl)
theorem dX3_tally_65 : decode cX3_tally 65 = .ok (.iload 6, 2) := dk_21 6 (dk_at dksX3_tally_2 19 rfl rfl)
theorem dX3_tally_67 : decode cX3_tally 67 = .ok (.ifCond .gt 23, 3) := dk_157 0 23 (dk_at dksX3_tally_2 21 rfl rfl)
theorem dX3_tally_70 : decode cX3_tally 70 = .ok (.iload_n 1, 1) := dk_27 (dk_at dksX3_tally_3 0 rfl rfl)
theorem dX3_tally_71 : decode cX3_tally 71 = .ok (.iconst 2, 1) := dk_5 (dk_at dksX3_tally_3 1 rfl rfl)
theorem dX3_tally_72 : decode cX3_tally 72 = .ok (.if_icmp .ne 8, 3) := dk_160 0 8 (dk_at dksX3_tally_3 2 rfl rfl)
theorem dX3_tally_75 : decode cX3_tally 75 = .ok (.iload 6, 2) := dk_21 6 (dk_at dksX3_tally_3 5 rfl rfl)
theorem dX3_tally_77 : decode cX3_tally 77 = .ok (.ifCond .lt 13, 3) := dk_155 0 13 (dk_at dksX3_tally_3 7 rfl rfl)
theorem dX3_tally_80 : decode cX3_tally 80 = .ok (.iload_n 1, 1) := dk_27 (dk_at dksX3_tally_3 10 rfl rfl)
theorem dX3_tally_81 : decode cX3_tally 81 = .ok (.iconst 3, 1) := dk_6 (dk_at dksX3_tally_3 11 rfl rfl)
theorem dX3_tally_82 : decode cX3_tally 82 = .ok (.if_icmp .ne 12, 3) := dk_160 0 12 (dk_at dksX3_tally_3 12 rfl rfl)
theorem dX3_tally_85 : decode cX3_tally 85 = .ok (.iload 6, 2) := dk_21 6 (dk_at dksX3_tally_3 15 rfl rfl)
theorem dX3_tally_87 : decode cX3_tally 87 = .ok (.ifCond .ne 7, 3) := dk_154 0 7 (dk_at dksX3_tally_3 17 rfl rfl)
theorem dX3_tally_90 : decode cX3_tally 90 = .ok (.iconst 1, 1) := dk_4 (dk_at dksX3_tally_3 20 rfl rfl)
theorem dX3_tally_91 : decode cX3_tally 91 = .ok (.goto 4, 3) := dk_167 0 4 (dk_at dksX3_tally_3 21 rfl rfl)
theorem dX3_tally_94 : decode cX3_tally 94 = .ok (.iconst 0, 1) := dk_3 (dk_at dksX3_tally_4 0 rfl rfl)
theorem dX3_tally_95 : decode cX3_tally 95 = .ok (.iadd, 1) := dk_96 (dk_at dksX3_tally_4 1 rfl rfl)
theorem dX3_tally_96 : decode cX3_tally 96 = .ok (.istore_n 3, 1) := dk_62 (dk_at dksX3_tally_4 2 rfl rfl)
theorem dX3_tally_97 : decode cX3_tally 97 = .ok (.iload_n 1, 1) := dk_27 (dk_at dksX3_tally_4 3 rfl rfl)
theorem dX3_tally_98 : decode cX3_tally 98 = .ok (.iconst 4, 1) := dk_7 (dk_at dksX3_tally_4 4 rfl rfl)
theorem dX3_tally_99 : decode cX3_tally 99 = .ok (.if_icmp .ne 13, 3) := dk_160 0 13 (dk_at dksX3_tally_4 5 rfl rfl)
theorem dX3_tally_102 : decode cX3_tally 102 = .ok (.iload 6, 2) := dk_21 6 (dk_at dksX3_tally_4 8 rfl rfl)
theorem dX3_tally_104 : decode cX3_tally 104 = .ok (.ifCond .le 8, 3) := dk_158 0 8 (dk_at dksX3_tally_4 10 rfl rfl)
theorem dX3_tally_107 : decode cX3_tally 107 = .ok (.iload 6, 2) := dk_21 6 (dk_at dksX3_tally_4 13 rfl rfl)
theorem dX3_tally_109 : decode cX3_tally 109 = .ok (.goto 21, 3) := dk_167 0 21 (dk_at dksX3_tally_4 15 rfl rfl)
theorem dX3_tally_112 : decode cX3_tally 112 = .ok (.iload_n 1, 1) := dk_27 (dk_at dksX3_tally_4 18 rfl rfl)
theorem dX3_tally_113 : decode cX3_tally 113 = .ok (.iconst 5, 1) := dk_8 (dk_at dksX3_tally_4 19 rfl rfl)
theorem dX3_tally_114 : decode cX3_tally 114 = .ok (.if_icmp .ne 15, 3) := dk_160 0 15 (dk_at dksX3_tally_4 20 rfl rfl)
theorem dX3_tally_117 : decode cX3_tally 117 = .ok (.iload 6, 2) := dk_21 6 (dk_at dksX3_tally_5 0 rfl rfl)
theorem dX3_tally_119 : decode cX3_tally 119 = .ok (.ifCond .ge 10, 3) := dk_156 0 10 (dk_at dksX3_tally_5 2 rfl rfl)
theorem dX3_tally_122 : decode cX3_tally 122 = .ok (.iconst (-1), 1) := dk_2 (dk_at dksX3_tally_5 5 rfl rfl)
theorem dX3_tally_123 : decode cX3_tally 123 = .ok (.iload 6, 2) := dk_21 6 (dk_at dksX3_tally_5 6 rfl rfl)
theorem dX3_tally_125 : decode cX3_tally 125 = .ok (.isub, 1) := dk_100 (dk_at dksX3_tally_5 8 rfl rfl)
theorem dX3_tally_126 : decode cX3_tally 126 = .ok (.goto 4, 3) := dk_167 0 4 (dk_at dksX3_tally_5 9 rfl rfl)
theorem dX3_tally_129 : decode cX3_tally 129 = .ok (.iconst 0, 1) := dk_3 (dk_at dksX3_tally_5 12 rfl rfl)
theorem dX3_tally_130 : decode cX3_tally 130 = .ok (.istore 7, 2) := dk_54 7 (dk_at dksX3_tally_5 13 rfl rfl)
theorem dX3_tally_132 : decode cX3_tally 132 = .ok (.iload 7, 2) := dk_21 7 (dk_at dksX3_tally_5 15 rfl rfl)
theorem dX3_tally_134 : decode cX3_tally 134 = .ok (.iload 4, 2) := dk_21 4 (dk_at dksX3_tally_5 17 rfl rfl)
theorem dX3_tally_136 : decode cX3_tally 136 = .ok (.if_icmp .le 8, 3) := dk_164 0 8 (dk_at dksX3_tally_5 19 rfl rfl)
theorem dX3_tally_139 : decode cX3_tally 139 = .ok (.iload 7, 2) := dk_21 7 (dk_at dksX3_tally_5 22 rfl rfl)
theorem dX3_tally_141 : decode cX3_tally 141 = .ok (.goto 5, 3) := dk_167 0 5 (dk_at dksX3_tally_6 0 rfl rfl)
theorem dX3_tally_144 : decode cX3_tally 144 = .ok (.iload 4, 2) := dk_21 4 (dk_at dksX3_tally_6 3 rfl rfl)
theorem dX3_tally_146 : decode cX3_tally 146 = .ok (.istore 4, 2) := dk_54 4 (dk_at dksX3_tally_6 5 rfl rfl)
theorem dX3_tally_148 : decode cX3_tally 148 = .ok (.iinc 5 1, 3) := dk_132 5 1 (dk_at dksX3_tally_6 7 rfl rfl)
theorem dX3_tally_151 : decode cX3_tally 151 = .ok (.goto (-125), 3) := dk_167 255 131 (dk_at dksX3_tally_6 10 rfl rfl)
theorem dX3_tally_154 : decode cX3_tally 154 = .ok (.iload_n 1, 1) := dk_27 (dk_at dksX3_tally_6 13 rfl rfl)
theorem dX3_tally_155 : decode cX3_tally 155 = .ok (.iconst 4, 1) := dk_7 (dk_at dksX3_tally_6 14 rfl rfl)
theorem dX3_tally_156 : decode cX3_tally 156 = .ok (.if_icmp .ge 7, 3) := dk_162 0 7 (dk_at dksX3_tally_6 15 rfl rfl)
theorem dX3_tally_159 : decode cX3_tally 159 = .ok (.iload_n 3, 1) := dk_29 (dk_at dksX3_tally_6 18 rfl rfl)
theorem dX3_tally_160 : decode cX3_tally 160 = .ok (.goto 5, 3) := dk_167 0 5 (dk_at dksX3_tally_6 19 rfl rfl)
theorem dX3_tally_163 : decode cX3_tally 163 = .ok (.iload 4, 2) := dk_21 4 (dk_at dksX3_tally_6 22 rfl rfl)
theorem dX3_tally_165 : decode cX3_tally 165 = .ok (.ireturn, 1) := dk_172 (dk_at dksX3_tally_7 0 rfl rfl)
abbrev cX3_share : ByteArray := prog_8_method_50_code
def yX3_share : MethodName := ⟨RX3, "share", "()I"⟩
def dkwX3_share_0 : List UInt8 := [42, 4, 182, 0, 162, 134, 42, 3, 182, 0, 162, 134, 110, 184, 0, 165, 172]
abbrev dktX3_share_0 : List UInt8 := dkwX3_share_0 ++ []
theorem dksX3_share_0 : cX3_share.data.toList.drop 0 = dktX3_share_0 := by decide +kernel
theorem dX3_share_0 : decode cX3_share 0 = .ok (.aload_n 0, 1) := dk_42 (dk_at dksX3_share_0 0 rfl rfl)
theorem dX3_share_1 : decode cX3_share 1 = .ok (.iconst 1, 1) := dk_4 (dk_at dksX3_share_0 1 rfl rfl)
theorem dX3_share_2 : decode cX3_share 2 = .ok (.invokevirtual 162, 3) := dk_182 0 162 (dk_at dksX3_share_0 2 rfl rfl)
theorem dX3_share_5 : decode cX3_share 5 = .ok (.i2f, 1) := dk_134 (dk_at dksX3_share_0 5 rfl rfl)
theorem dX3_share_6 : decode cX3_share 6 = .ok (.aload_n 0, 1) := dk_42 (dk_at dksX3_share_0 6 rfl rfl)
theorem dX3_share_7 : decode cX3_share 7 = .ok (.iconst 0, 1) := dk_3 (dk_at dksX3_share_0 7 rfl rfl)
theorem dX3_share_8 : decode cX3_share 8 = .ok (.invokevirtual 162, 3) := dk_182 0 162 (dk_at dksX3_share_0 8 rfl rfl)
theorem dX3_share_11 : decode cX3_share 11 = .ok (.i2f, 1) := dk_134 (dk_at dksX3_share_0 11 rfl rfl)
theorem dX3_share_12 : decode cX3_share 12 = .ok (.fdiv, 1) := dk_110 (dk_at dksX3_share_0 12 rfl rfl)
theorem dX3_share_13 : decode cX3_share 13 = .ok (.invokestatic 165, 3) := dk_184 0 165 (dk_at dksX3_share_0 13 rfl rfl)
theorem dX3_share_16 : decode cX3_share 16 = .ok (.ireturn, 1) := dk_172 (dk_at dksX3_share_0 16 rfl rfl)
abbrev cX3_many : ByteArray := prog_8_method_51_code
def yX3_many : MethodName := ⟨RX3, "many", "(I)I"⟩
def dkwX3_many_2 : List UInt8 := [160, 0, 7, 4, 167, 0, 4, 3, 96, 62, 132, 4, 1, 167, 255, 222, 29, 172]
abbrev dktX3_many_2 : List UInt8 := dkwX3_many_2 ++ []
def dkwX3_many_1 : List UInt8 := [54, 4, 21, 4, 28, 18, 91, 96, 162, 0, 31, 29, 42, 180, 0, 40, 21, 4, 46, 27, 16, 100, 100]
abbrev dktX3_many_1 : List UInt8 := dkwX3_many_1 ++ dktX3_many_2
def dkwX3_many_0 : List UInt8 := [27, 133, 3, 17, 0, 200, 184, 0, 51, 154, 0, 6, 16, 254, 172, 42, 182, 0, 109, 61, 3, 62, 28]
abbrev dktX3_many_0 : List UInt8 := dkwX3_many_0 ++ dktX3_many_1
theorem dksX3_many_0 : cX3_many.data.toList.drop 0 = dktX3_many_0 := by decide +kernel
theorem dksX3_many_1 : cX3_many.data.toList.drop 23 = dktX3_many_1 := dk_seg dksX3_many_0 23 rfl rfl
theorem dksX3_many_2 : cX3_many.data.toList.drop 46 = dktX3_many_2 := dk_seg dksX3_many_1 23 rfl rfl
theorem dX3_many_0 : decode cX3_many 0 = .ok (.iload_n 1, 1) := dk_27 (dk_at dksX3_many_0 0 rfl rfl)
theorem dX3_many_1 : decode cX3_many 1 = .ok (.i2l, 1) := dk_133 (dk_at dksX3_many_0 1 rfl rfl)
theorem dX3_many_2 : decode cX3_many 2 = .ok (.iconst 0, 1) := dk_3 (dk_at dksX3_many_0 2 rfl rfl)
theorem dX3_many_3 : decode cX3_many 3 = .ok (.sipush 200, 3) := dk_17 0 200 (dk_at dksX3_many_0 3 rfl rfl)
theorem dX3_many_6 : decode cX3_many 6 = .ok (.invokestatic 51, 3) := dk_184 0 51 (dk_at dksX3_many_0 6 rfl rfl)
theorem dX3_many_9 : decode cX3_many 9 = .ok (.ifCond .ne 6, 3) := dk_154 0 6 (dk_at dksX3_many_0 9 rfl rfl)
theorem dX3_many_12 : decode cX3_many 12 = .ok (.bipush (-2), 2) := dk_16 254 (dk_at dksX3_many_0 12 rfl rfl)
theorem dX3_many_14 : decode cX3_many 14 = .ok (.ireturn, 1) := dk_172 (dk_at dksX3_many_0 14 rfl rfl)
theorem dX3_many_15 : decode cX3_many 15 = .ok (.aload_n 0, 1) := dk_42 (dk_at dksX3_many_0 15 rfl rfl)
theorem dX3_many_16 : decode cX3_many 16 = .ok (.invokevirtual 109, 3) := dk_182 0 109 (dk_at dksX3_many_0 16 rfl rfl)
theorem dX3_many_19 : decode cX3_many 19 = .ok (.istore_n 2, 1) := dk_61 (dk_at dksX3_many_0 19 rfl rfl)
theorem dX3_many_20 : decode cX3_many 20 = .ok (.iconst 0, 1) := dk_3 (dk_at dksX3_many_0 20 rfl rfl)
theorem dX3_many_21 : decode cX3_many 21 = .ok (.istore_n 3, 1) := dk_62 (dk_at dksX3_many_0 21 rfl rfl)
theorem dX3_many_22 : decode cX3_many 22 = .ok (.iload_n 2, 1) := dk_28 (dk_at dksX3_many_0 22 rfl rfl)
theorem dX3_many_23 : decode cX3_many 23 = .ok (.istore 4, 2) := dk_54 4 (dk_at dksX3_many_1 0 rfl rfl)
theorem dX3_many_25 : decode cX3_many 25 = .ok (.iload 4, 2) := dk_21 4 (dk_at dksX3_many_1 2 rfl rfl)
theorem dX3_many_27 : decode cX3_many 27 = .ok (.iload_n 2, 1) := dk_28 (dk_at dksX3_many_1 4 rfl rfl)
theorem dX3_many_28 : decode cX3_many 28 = .ok (.ldc 91, 2) := dk_18 91 (dk_at dksX3_many_1 5 rfl rfl)
theorem dX3_many_30 : decode cX3_many 30 = .ok (.iadd, 1) := dk_96 (dk_at dksX3_many_1 7 rfl rfl)
theorem dX3_many_31 : decode cX3_many 31 = .ok (.if_icmp .ge 31, 3) := dk_162 0 31 (dk_at dksX3_many_1 8 rfl rfl)
theorem dX3_many_34 : decode cX3_many 34 = .ok (.iload_n 3, 1) := dk_29 (dk_at dksX3_many_1 11 rfl rfl)
theorem dX3_many_35 : decode cX3_many 35 = .ok (.aload_n 0, 1) := dk_42 (dk_at dksX3_many_1 12 rfl rfl)
theorem dX3_many_36 : decode cX3_many 36 = .ok (.getfield 40, 3) := dk_180 0 40 (dk_at dksX3_many_1 13 rfl rfl)
theorem dX3_many_39 : decode cX3_many 39 = .ok (.iload 4, 2) := dk_21 4 (dk_at dksX3_many_1 16 rfl rfl)
theorem dX3_many_41 : decode cX3_many 41 = .ok (.iaload, 1) := dk_46 (dk_at dksX3_many_1 18 rfl rfl)
theorem dX3_many_42 : decode cX3_many 42 = .ok (.iload_n 1, 1) := dk_27 (dk_at dksX3_many_1 19 rfl rfl)
theorem dX3_many_43 : decode cX3_many 43 = .ok (.bipush 100, 2) := dk_16 100 (dk_at dksX3_many_1 20 rfl rfl)
theorem dX3_many_45 : decode cX3_many 45 = .ok (.isub, 1) := dk_100 (dk_at dksX3_many_1 22 rfl rfl)
theorem dX3_many_46 : decode cX3_many 46 = .ok (.if_icmp .ne 7, 3) := dk_160 0 7 (dk_at dksX3_many_2 0 rfl rfl)
theorem dX3_many_49 : decode cX3_many 49 = .ok (.iconst 1, 1) := dk_4 (dk_at dksX3_many_2 3 rfl rfl)
theorem dX3_many_50 : decode cX3_many 50 = .ok (.goto 4, 3) := dk_167 0 4 (dk_at dksX3_many_2 4 rfl rfl)
theorem dX3_many_53 : decode cX3_many 53 = .ok (.iconst 0, 1) := dk_3 (dk_at dksX3_many_2 7 rfl rfl)
theorem dX3_many_54 : decode cX3_many 54 = .ok (.iadd, 1) := dk_96 (dk_at dksX3_many_2 8 rfl rfl)
theorem dX3_many_55 : decode cX3_many 55 = .ok (.istore_n 3, 1) := dk_62 (dk_at dksX3_many_2 9 rfl rfl)
theorem dX3_many_56 : decode cX3_many 56 = .ok (.iinc 4 1, 3) := dk_132 4 1 (dk_at dksX3_many_2 10 rfl rfl)
theorem dX3_many_59 : decode cX3_many 59 = .ok (.goto (-34), 3) := dk_167 255 222 (dk_at dksX3_many_2 13 rfl rfl)
theorem dX3_many_62 : decode cX3_many 62 = .ok (.iload_n 3, 1) := dk_29 (dk_at dksX3_many_2 16 rfl rfl)
theorem dX3_many_63 : decode cX3_many 63 = .ok (.ireturn, 1) := dk_172 (dk_at dksX3_many_2 17 rfl rfl)
abbrev cX3_put : ByteArray := prog_8_method_52_code
def yX3_put : MethodName := ⟨RX3, "put", "(J)I"⟩
def dkwX3_put_5 : List UInt8 := [4, 96, 181, 0, 159, 132, 6, 255, 167, 255, 222, 42, 180, 0, 159, 172]
abbrev dktX3_put_5 : List UInt8 := dkwX3_put_5 ++ []
def dkwX3_put_4 : List UInt8 := [155, 0, 35, 42, 180, 0, 27, 42, 180, 0, 159, 42, 180, 0, 30, 21, 6, 46, 79, 42, 89, 180, 0, 159]
abbrev dktX3_put_4 : List UInt8 := dkwX3_put_4 ++ dktX3_put_5
def dkwX3_put_3 : List UInt8 := [172, 42, 180, 0, 159, 21, 5, 96, 16, 80, 164, 0, 6, 16, 252, 172, 21, 5, 4, 100, 54, 6, 21, 6]
abbrev dktX3_put_3 : List UInt8 := dkwX3_put_3 ++ dktX3_put_4
def dkwX3_put_2 : List UInt8 := [154, 0, 6, 16, 254, 172, 33, 16, 8, 125, 66, 132, 5, 1, 167, 255, 201, 21, 5, 154, 0, 6, 16, 254]
abbrev dktX3_put_2 : List UInt8 := dkwX3_put_2 ++ dktX3_put_3
def dkwX3_put_1 : List UInt8 := [33, 20, 0, 171, 127, 136, 79, 42, 180, 0, 30, 21, 5, 46, 133, 16, 33, 16, 126, 184, 0, 51]
abbrev dktX3_put_1 : List UInt8 := dkwX3_put_1 ++ dktX3_put_2
def dkwX3_put_0 : List UInt8 := [31, 66, 3, 54, 5, 33, 9, 148, 153, 0, 55, 21, 5, 16, 8, 162, 0, 48, 42, 180, 0, 30, 21, 5]
abbrev dktX3_put_0 : List UInt8 := dkwX3_put_0 ++ dktX3_put_1
theorem dksX3_put_0 : cX3_put.data.toList.drop 0 = dktX3_put_0 := by decide +kernel
theorem dksX3_put_1 : cX3_put.data.toList.drop 24 = dktX3_put_1 := dk_seg dksX3_put_0 24 rfl rfl
theorem dksX3_put_2 : cX3_put.data.toList.drop 46 = dktX3_put_2 := dk_seg dksX3_put_1 22 rfl rfl
theorem dksX3_put_3 : cX3_put.data.toList.drop 70 = dktX3_put_3 := dk_seg dksX3_put_2 24 rfl rfl
theorem dksX3_put_4 : cX3_put.data.toList.drop 94 = dktX3_put_4 := dk_seg dksX3_put_3 24 rfl rfl
theorem dksX3_put_5 : cX3_put.data.toList.drop 118 = dktX3_put_5 := dk_seg dksX3_put_4 24 rfl rfl
theorem dX3_put_0 : decode cX3_put 0 = .ok (.lload_n 1, 1) := dk_31 (dk_at dksX3_put_0 0 rfl rfl)
theorem dX3_put_1 : decode cX3_put 1 = .ok (.lstore_n 3, 1) := dk_66 (dk_at dksX3_put_0 1 rfl rfl)
theorem dX3_put_2 : decode cX3_put 2 = .ok (.iconst 0, 1) := dk_3 (dk_at dksX3_put_0 2 rfl rfl)
theorem dX3_put_3 : decode cX3_put 3 = .ok (.istore 5, 2) := dk_54 5 (dk_at dksX3_put_0 3 rfl rfl)
theorem dX3_put_5 : decode cX3_put 5 = .ok (.lload_n 3, 1) := dk_33 (dk_at dksX3_put_0 5 rfl rfl)
theorem dX3_put_6 : decode cX3_put 6 = .ok (.lconst 0, 1) := dk_9 (dk_at dksX3_put_0 6 rfl rfl)
theorem dX3_put_7 : decode cX3_put 7 = .ok (.lcmp, 1) := dk_148 (dk_at dksX3_put_0 7 rfl rfl)
theorem dX3_put_8 : decode cX3_put 8 = .ok (.ifCond .eq 55, 3) := dk_153 0 55 (dk_at dksX3_put_0 8 rfl rfl)
theorem dX3_put_11 : decode cX3_put 11 = .ok (.iload 5, 2) := dk_21 5 (dk_at dksX3_put_0 11 rfl rfl)
theorem dX3_put_13 : decode cX3_put 13 = .ok (.bipush 8, 2) := dk_16 8 (dk_at dksX3_put_0 13 rfl rfl)
theorem dX3_put_15 : decode cX3_put 15 = .ok (.if_icmp .ge 48, 3) := dk_162 0 48 (dk_at dksX3_put_0 15 rfl rfl)
theorem dX3_put_18 : decode cX3_put 18 = .ok (.aload_n 0, 1) := dk_42 (dk_at dksX3_put_0 18 rfl rfl)
theorem dX3_put_19 : decode cX3_put 19 = .ok (.getfield 30, 3) := dk_180 0 30 (dk_at dksX3_put_0 19 rfl rfl)
theorem dX3_put_22 : decode cX3_put 22 = .ok (.iload 5, 2) := dk_21 5 (dk_at dksX3_put_0 22 rfl rfl)
theorem dX3_put_24 : decode cX3_put 24 = .ok (.lload_n 3, 1) := dk_33 (dk_at dksX3_put_1 0 rfl rfl)
theorem dX3_put_25 : decode cX3_put 25 = .ok (.ldc2_w 171, 3) := dk_20 0 171 (dk_at dksX3_put_1 1 rfl rfl)
theorem dX3_put_28 : decode cX3_put 28 = .ok (.land, 1) := dk_127 (dk_at dksX3_put_1 4 rfl rfl)
theorem dX3_put_29 : decode cX3_put 29 = .ok (.l2i, 1) := dk_136 (dk_at dksX3_put_1 5 rfl rfl)
theorem dX3_put_30 : decode cX3_put 30 = .ok (.iastore, 1) := dk_79 (dk_at dksX3_put_1 6 rfl rfl)
theorem dX3_put_31 : decode cX3_put 31 = .ok (.aload_n 0, 1) := dk_42 (dk_at dksX3_put_1 7 rfl rfl)
theorem dX3_put_32 : decode cX3_put 32 = .ok (.getfield 30, 3) := dk_180 0 30 (dk_at dksX3_put_1 8 rfl rfl)
theorem dX3_put_35 : decode cX3_put 35 = .ok (.iload 5, 2) := dk_21 5 (dk_at dksX3_put_1 11 rfl rfl)
theorem dX3_put_37 : decode cX3_put 37 = .ok (.iaload, 1) := dk_46 (dk_at dksX3_put_1 13 rfl rfl)
theorem dX3_put_38 : decode cX3_put 38 = .ok (.i2l, 1) := dk_133 (dk_at dksX3_put_1 14 rfl rfl)
theorem dX3_put_39 : decode cX3_put 39 = .ok (.bipush 33, 2) := dk_16 33 (dk_at dksX3_put_1 15 rfl rfl)
theorem dX3_put_41 : decode cX3_put 41 = .ok (.bipush 126, 2) := dk_16 126 (dk_at dksX3_put_1 17 rfl rfl)
theorem dX3_put_43 : decode cX3_put 43 = .ok (.invokestatic 51, 3) := dk_184 0 51 (dk_at dksX3_put_1 19 rfl rfl)
theorem dX3_put_46 : decode cX3_put 46 = .ok (.ifCond .ne 6, 3) := dk_154 0 6 (dk_at dksX3_put_2 0 rfl rfl)
theorem dX3_put_49 : decode cX3_put 49 = .ok (.bipush (-2), 2) := dk_16 254 (dk_at dksX3_put_2 3 rfl rfl)
theorem dX3_put_51 : decode cX3_put 51 = .ok (.ireturn, 1) := dk_172 (dk_at dksX3_put_2 5 rfl rfl)
theorem dX3_put_52 : decode cX3_put 52 = .ok (.lload_n 3, 1) := dk_33 (dk_at dksX3_put_2 6 rfl rfl)
theorem dX3_put_53 : decode cX3_put 53 = .ok (.bipush 8, 2) := dk_16 8 (dk_at dksX3_put_2 7 rfl rfl)
theorem dX3_put_55 : decode cX3_put 55 = .ok (.lushr, 1) := dk_125 (dk_at dksX3_put_2 9 rfl rfl)
theorem dX3_put_56 : decode cX3_put 56 = .ok (.lstore_n 3, 1) := dk_66 (dk_at dksX3_put_2 10 rfl rfl)
theorem dX3_put_57 : decode cX3_put 57 = .ok (.iinc 5 1, 3) := dk_132 5 1 (dk_at dksX3_put_2 11 rfl rfl)
theorem dX3_put_60 : decode cX3_put 60 = .ok (.goto (-55), 3) := dk_167 255 201 (dk_at dksX3_put_2 14 rfl rfl)
theorem dX3_put_63 : decode cX3_put 63 = .ok (.iload 5, 2) := dk_21 5 (dk_at dksX3_put_2 17 rfl rfl)
theorem dX3_put_65 : decode cX3_put 65 = .ok (.ifCond .ne 6, 3) := dk_154 0 6 (dk_at dksX3_put_2 19 rfl rfl)
theorem dX3_put_68 : decode cX3_put 68 = .ok (.bipush (-2), 2) := dk_16 254 (dk_at dksX3_put_2 22 rfl rfl)
theorem dX3_put_70 : decode cX3_put 70 = .ok (.ireturn, 1) := dk_172 (dk_at dksX3_put_3 0 rfl rfl)
theorem dX3_put_71 : decode cX3_put 71 = .ok (.aload_n 0, 1) := dk_42 (dk_at dksX3_put_3 1 rfl rfl)
theorem dX3_put_72 : decode cX3_put 72 = .ok (.getfield 159, 3) := dk_180 0 159 (dk_at dksX3_put_3 2 rfl rfl)
theorem dX3_put_75 : decode cX3_put 75 = .ok (.iload 5, 2) := dk_21 5 (dk_at dksX3_put_3 5 rfl rfl)
theorem dX3_put_77 : decode cX3_put 77 = .ok (.iadd, 1) := dk_96 (dk_at dksX3_put_3 7 rfl rfl)
theorem dX3_put_78 : decode cX3_put 78 = .ok (.bipush 80, 2) := dk_16 80 (dk_at dksX3_put_3 8 rfl rfl)
theorem dX3_put_80 : decode cX3_put 80 = .ok (.if_icmp .le 6, 3) := dk_164 0 6 (dk_at dksX3_put_3 10 rfl rfl)
theorem dX3_put_83 : decode cX3_put 83 = .ok (.bipush (-4), 2) := dk_16 252 (dk_at dksX3_put_3 13 rfl rfl)
theorem dX3_put_85 : decode cX3_put 85 = .ok (.ireturn, 1) := dk_172 (dk_at dksX3_put_3 15 rfl rfl)
theorem dX3_put_86 : decode cX3_put 86 = .ok (.iload 5, 2) := dk_21 5 (dk_at dksX3_put_3 16 rfl rfl)
theorem dX3_put_88 : decode cX3_put 88 = .ok (.iconst 1, 1) := dk_4 (dk_at dksX3_put_3 18 rfl rfl)
theorem dX3_put_89 : decode cX3_put 89 = .ok (.isub, 1) := dk_100 (dk_at dksX3_put_3 19 rfl rfl)
theorem dX3_put_90 : decode cX3_put 90 = .ok (.istore 6, 2) := dk_54 6 (dk_at dksX3_put_3 20 rfl rfl)
theorem dX3_put_92 : decode cX3_put 92 = .ok (.iload 6, 2) := dk_21 6 (dk_at dksX3_put_3 22 rfl rfl)
theorem dX3_put_94 : decode cX3_put 94 = .ok (.ifCond .lt 35, 3) := dk_155 0 35 (dk_at dksX3_put_4 0 rfl rfl)
theorem dX3_put_97 : decode cX3_put 97 = .ok (.aload_n 0, 1) := dk_42 (dk_at dksX3_put_4 3 rfl rfl)
theorem dX3_put_98 : decode cX3_put 98 = .ok (.getfield 27, 3) := dk_180 0 27 (dk_at dksX3_put_4 4 rfl rfl)
theorem dX3_put_101 : decode cX3_put 101 = .ok (.aload_n 0, 1) := dk_42 (dk_at dksX3_put_4 7 rfl rfl)
theorem dX3_put_102 : decode cX3_put 102 = .ok (.getfield 159, 3) := dk_180 0 159 (dk_at dksX3_put_4 8 rfl rfl)
theorem dX3_put_105 : decode cX3_put 105 = .ok (.aload_n 0, 1) := dk_42 (dk_at dksX3_put_4 11 rfl rfl)
theorem dX3_put_106 : decode cX3_put 106 = .ok (.getfield 30, 3) := dk_180 0 30 (dk_at dksX3_put_4 12 rfl rfl)
theorem dX3_put_109 : decode cX3_put 109 = .ok (.iload 6, 2) := dk_21 6 (dk_at dksX3_put_4 15 rfl rfl)
theorem dX3_put_111 : decode cX3_put 111 = .ok (.iaload, 1) := dk_46 (dk_at dksX3_put_4 17 rfl rfl)
theorem dX3_put_112 : decode cX3_put 112 = .ok (.iastore, 1) := dk_79 (dk_at dksX3_put_4 18 rfl rfl)
theorem dX3_put_113 : decode cX3_put 113 = .ok (.aload_n 0, 1) := dk_42 (dk_at dksX3_put_4 19 rfl rfl)
theorem dX3_put_114 : decode cX3_put 114 = .ok (.dup, 1) := dk_89 (dk_at dksX3_put_4 20 rfl rfl)
theorem dX3_put_115 : decode cX3_put 115 = .ok (.getfield 159, 3) := dk_180 0 159 (dk_at dksX3_put_4 21 rfl rfl)
theorem dX3_put_118 : decode cX3_put 118 = .ok (.iconst 1, 1) := dk_4 (dk_at dksX3_put_5 0 rfl rfl)
theorem dX3_put_119 : decode cX3_put 119 = .ok (.iadd, 1) := dk_96 (dk_at dksX3_put_5 1 rfl rfl)
theorem dX3_put_120 : decode cX3_put 120 = .ok (.putfield 159, 3) := dk_181 0 159 (dk_at dksX3_put_5 2 rfl rfl)
theorem dX3_put_123 : decode cX3_put 123 = .ok (.iinc 6 (-1), 3) := dk_132 6 255 (dk_at dksX3_put_5 5 rfl rfl)
theorem dX3_put_126 : decode cX3_put 126 = .ok (.goto (-34), 3) := dk_167 255 222 (dk_at dksX3_put_5 8 rfl rfl)
theorem dX3_put_129 : decode cX3_put 129 = .ok (.aload_n 0, 1) := dk_42 (dk_at dksX3_put_5 11 rfl rfl)
theorem dX3_put_130 : decode cX3_put 130 = .ok (.getfield 159, 3) := dk_180 0 159 (dk_at dksX3_put_5 12 rfl rfl)
theorem dX3_put_133 : decode cX3_put 133 = .ok (.ireturn, 1) := dk_172 (dk_at dksX3_put_5 15 rfl rfl)
abbrev cX3_wipe : ByteArray := prog_8_method_53_code
def yX3_wipe : MethodName := ⟨RX3, "wipe", "()I"⟩
def dkwX3_wipe_0 : List UInt8 := [42, 180, 0, 159, 60, 42, 3, 181, 0, 159, 27, 172]
abbrev dktX3_wipe_0 : List UInt8 := dkwX3_wipe_0 ++ []
theorem dksX3_wipe_0 : cX3_wipe.data.toList.drop 0 = dktX3_wipe_0 := by decide +kernel
theorem dX3_wipe_0 : decode cX3_wipe 0 = .ok (.aload_n 0, 1) := dk_42 (dk_at dksX3_wipe_0 0 rfl rfl)
theorem dX3_wipe_1 : decode cX3_wipe 1 = .ok (.getfield 159, 3) := dk_180 0 159 (dk_at dksX3_wipe_0 1 rfl rfl)
theorem dX3_wipe_4 : decode cX3_wipe 4 = .ok (.istore_n 1, 1) := dk_60 (dk_at dksX3_wipe_0 4 rfl rfl)
theorem dX3_wipe_5 : decode cX3_wipe 5 = .ok (.aload_n 0, 1) := dk_42 (dk_at dksX3_wipe_0 5 rfl rfl)
theorem dX3_wipe_6 : decode cX3_wipe 6 = .ok (.iconst 0, 1) := dk_3 (dk_at dksX3_wipe_0 6 rfl rfl)
theorem dX3_wipe_7 : decode cX3_wipe 7 = .ok (.putfield 159, 3) := dk_181 0 159 (dk_at dksX3_wipe_0 7 rfl rfl)
theorem dX3_wipe_10 : decode cX3_wipe 10 = .ok (.iload_n 1, 1) := dk_27 (dk_at dksX3_wipe_0 10 rfl rfl)
theorem dX3_wipe_11 : decode cX3_wipe 11 = .ok (.ireturn, 1) := dk_172 (dk_at dksX3_wipe_0 11 rfl rfl)
abbrev cX3_fault : ByteArray := prog_8_method_58_code
def yX3_fault : MethodName := ⟨RX3, "fault", "()I"⟩
def dkwX3_fault_0 : List UInt8 := [42, 182, 0, 186, 153, 0, 8, 16, 250, 167, 0, 7, 42, 180, 0, 173, 172]
abbrev dktX3_fault_0 : List UInt8 := dkwX3_fault_0 ++ []
theorem dksX3_fault_0 : cX3_fault.data.toList.drop 0 = dktX3_fault_0 := by decide +kernel
theorem dX3_fault_0 : decode cX3_fault 0 = .ok (.aload_n 0, 1) := dk_42 (dk_at dksX3_fault_0 0 rfl rfl)
theorem dX3_fault_1 : decode cX3_fault 1 = .ok (.invokevirtual 186, 3) := dk_182 0 186 (dk_at dksX3_fault_0 1 rfl rfl)
theorem dX3_fault_4 : decode cX3_fault 4 = .ok (.ifCond .eq 8, 3) := dk_153 0 8 (dk_at dksX3_fault_0 4 rfl rfl)
theorem dX3_fault_7 : decode cX3_fault 7 = .ok (.bipush (-6), 2) := dk_16 250 (dk_at dksX3_fault_0 7 rfl rfl)
theorem dX3_fault_9 : decode cX3_fault 9 = .ok (.goto 7, 3) := dk_167 0 7 (dk_at dksX3_fault_0 9 rfl rfl)
theorem dX3_fault_12 : decode cX3_fault 12 = .ok (.aload_n 0, 1) := dk_42 (dk_at dksX3_fault_0 12 rfl rfl)
theorem dX3_fault_13 : decode cX3_fault 13 = .ok (.getfield 173, 3) := dk_180 0 173 (dk_at dksX3_fault_0 13 rfl rfl)
theorem dX3_fault_16 : decode cX3_fault 16 = .ok (.ireturn, 1) := dk_172 (dk_at dksX3_fault_0 16 rfl rfl)
abbrev cX3_isWell : ByteArray := prog_8_method_57_code
def yX3_isWell : MethodName := ⟨RX3, "isWell", "()Z"⟩
def dkwX3_isWell_3 : List UInt8 := [154, 0, 7, 4, 167, 0, 4, 3, 60, 167, 255, 196, 27, 172]
abbrev dktX3_isWell_3 : List UInt8 := dkwX3_isWell_3 ++ []
def dkwX3_isWell_2 : List UInt8 := [27, 153, 0, 7, 4, 167, 0, 4, 3, 96, 181, 0, 173, 27, 153, 0, 15, 42, 3, 182, 0, 182]
abbrev dktX3_isWell_2 : List UInt8 := dkwX3_isWell_2 ++ dktX3_isWell_3
def dkwX3_isWell_1 : List UInt8 := [180, 0, 173, 42, 180, 0, 159, 162, 0, 51, 42, 16, 59, 16, 59, 182, 0, 176, 60, 42, 89, 180, 0, 173]
abbrev dktX3_isWell_1 : List UInt8 := dkwX3_isWell_1 ++ dktX3_isWell_2
def dkwX3_isWell_0 : List UInt8 := [42, 3, 181, 0, 173, 42, 3, 182, 0, 182, 154, 0, 7, 4, 167, 0, 4, 3, 60, 27, 153, 0, 62, 42]
abbrev dktX3_isWell_0 : List UInt8 := dkwX3_isWell_0 ++ dktX3_isWell_1
theorem dksX3_isWell_0 : cX3_isWell.data.toList.drop 0 = dktX3_isWell_0 := by decide +kernel
theorem dksX3_isWell_1 : cX3_isWell.data.toList.drop 24 = dktX3_isWell_1 := dk_seg dksX3_isWell_0 24 rfl rfl
theorem dksX3_isWell_2 : cX3_isWell.data.toList.drop 48 = dktX3_isWell_2 := dk_seg dksX3_isWell_1 24 rfl rfl
theorem dksX3_isWell_3 : cX3_isWell.data.toList.drop 70 = dktX3_isWell_3 := dk_seg dksX3_isWell_2 22 rfl rfl
theorem dX3_isWell_0 : decode cX3_isWell 0 = .ok (.aload_n 0, 1) := dk_42 (dk_at dksX3_isWell_0 0 rfl rfl)
theorem dX3_isWell_1 : decode cX3_isWell 1 = .ok (.iconst 0, 1) := dk_3 (dk_at dksX3_isWell_0 1 rfl rfl)
theorem dX3_isWell_2 : decode cX3_isWell 2 = .ok (.putfield 173, 3) := dk_181 0 173 (dk_at dksX3_isWell_0 2 rfl rfl)
theorem dX3_isWell_5 : decode cX3_isWell 5 = .ok (.aload_n 0, 1) := dk_42 (dk_at dksX3_isWell_0 5 rfl rfl)
theorem dX3_isWell_6 : decode cX3_isWell 6 = .ok (.iconst 0, 1) := dk_3 (dk_at dksX3_isWell_0 6 rfl rfl)
theorem dX3_isWell_7 : decode cX3_isWell 7 = .ok (.invokevirtual 182, 3) := dk_182 0 182 (dk_at dksX3_isWell_0 7 rfl rfl)
theorem dX3_isWell_10 : decode cX3_isWell 10 = .ok (.ifCond .ne 7, 3) := dk_154 0 7 (dk_at dksX3_isWell_0 10 rfl rfl)
theorem dX3_isWell_13 : decode cX3_isWell 13 = .ok (.iconst 1, 1) := dk_4 (dk_at dksX3_isWell_0 13 rfl rfl)
theorem dX3_isWell_14 : decode cX3_isWell 14 = .ok (.goto 4, 3) := dk_167 0 4 (dk_at dksX3_isWell_0 14 rfl rfl)
theorem dX3_isWell_17 : decode cX3_isWell 17 = .ok (.iconst 0, 1) := dk_3 (dk_at dksX3_isWell_0 17 rfl rfl)
theorem dX3_isWell_18 : decode cX3_isWell 18 = .ok (.istore_n 1, 1) := dk_60 (dk_at dksX3_isWell_0 18 rfl rfl)
theorem dX3_isWell_19 : decode cX3_isWell 19 = .ok (.iload_n 1, 1) := dk_27 (dk_at dksX3_isWell_0 19 rfl rfl)
theorem dX3_isWell_20 : decode cX3_isWell 20 = .ok (.ifCond .eq 62, 3) := dk_153 0 62 (dk_at dksX3_isWell_0 20 rfl rfl)
theorem dX3_isWell_23 : decode cX3_isWell 23 = .ok (.aload_n 0, 1) := dk_42 (dk_at dksX3_isWell_0 23 rfl rfl)
theorem dX3_isWell_24 : decode cX3_isWell 24 = .ok (.getfield 173, 3) := dk_180 0 173 (dk_at dksX3_isWell_1 0 rfl rfl)
theorem dX3_isWell_27 : decode cX3_isWell 27 = .ok (.aload_n 0, 1) := dk_42 (dk_at dksX3_isWell_1 3 rfl rfl)
theorem dX3_isWell_28 : decode cX3_isWell 28 = .ok (.getfield 159, 3) := dk_180 0 159 (dk_at dksX3_isWell_1 4 rfl rfl)
theorem dX3_isWell_31 : decode cX3_isWell 31 = .ok (.if_icmp .ge 51, 3) := dk_162 0 51 (dk_at dksX3_isWell_1 7 rfl rfl)
theorem dX3_isWell_34 : decode cX3_isWell 34 = .ok (.aload_n 0, 1) := dk_42 (dk_at dksX3_isWell_1 10 rfl rfl)
theorem dX3_isWell_35 : decode cX3_isWell 35 = .ok (.bipush 59, 2) := dk_16 59 (dk_at dksX3_isWell_1 11 rfl rfl)
theorem dX3_isWell_37 : decode cX3_isWell 37 = .ok (.bipush 59, 2) := dk_16 59 (dk_at dksX3_isWell_1 13 rfl rfl)
theorem dX3_isWell_39 : decode cX3_isWell 39 = .ok (.invokevirtual 176, 3) := dk_182 0 176 (dk_at dksX3_isWell_1 15 rfl rfl)
theorem dX3_isWell_42 : decode cX3_isWell 42 = .ok (.istore_n 1, 1) := dk_60 (dk_at dksX3_isWell_1 18 rfl rfl)
theorem dX3_isWell_43 : decode cX3_isWell 43 = .ok (.aload_n 0, 1) := dk_42 (dk_at dksX3_isWell_1 19 rfl rfl)
theorem dX3_isWell_44 : decode cX3_isWell 44 = .ok (.dup, 1) := dk_89 (dk_at dksX3_isWell_1 20 rfl rfl)
theorem dX3_isWell_45 : decode cX3_isWell 45 = .ok (.getfield 173, 3) := dk_180 0 173 (dk_at dksX3_isWell_1 21 rfl rfl)
theorem dX3_isWell_48 : decode cX3_isWell 48 = .ok (.iload_n 1, 1) := dk_27 (dk_at dksX3_isWell_2 0 rfl rfl)
theorem dX3_isWell_49 : decode cX3_isWell 49 = .ok (.ifCond .eq 7, 3) := dk_153 0 7 (dk_at dksX3_isWell_2 1 rfl rfl)
theorem dX3_isWell_52 : decode cX3_isWell 52 = .ok (.iconst 1, 1) := dk_4 (dk_at dksX3_isWell_2 4 rfl rfl)
theorem dX3_isWell_53 : decode cX3_isWell 53 = .ok (.goto 4, 3) := dk_167 0 4 (dk_at dksX3_isWell_2 5 rfl rfl)
theorem dX3_isWell_56 : decode cX3_isWell 56 = .ok (.iconst 0, 1) := dk_3 (dk_at dksX3_isWell_2 8 rfl rfl)
theorem dX3_isWell_57 : decode cX3_isWell 57 = .ok (.iadd, 1) := dk_96 (dk_at dksX3_isWell_2 9 rfl rfl)
theorem dX3_isWell_58 : decode cX3_isWell 58 = .ok (.putfield 173, 3) := dk_181 0 173 (dk_at dksX3_isWell_2 10 rfl rfl)
theorem dX3_isWell_61 : decode cX3_isWell 61 = .ok (.iload_n 1, 1) := dk_27 (dk_at dksX3_isWell_2 13 rfl rfl)
theorem dX3_isWell_62 : decode cX3_isWell 62 = .ok (.ifCond .eq 15, 3) := dk_153 0 15 (dk_at dksX3_isWell_2 14 rfl rfl)
theorem dX3_isWell_65 : decode cX3_isWell 65 = .ok (.aload_n 0, 1) := dk_42 (dk_at dksX3_isWell_2 17 rfl rfl)
theorem dX3_isWell_66 : decode cX3_isWell 66 = .ok (.iconst 0, 1) := dk_3 (dk_at dksX3_isWell_2 18 rfl rfl)
theorem dX3_isWell_67 : decode cX3_isWell 67 = .ok (.invokevirtual 182, 3) := dk_182 0 182 (dk_at dksX3_isWell_2 19 rfl rfl)
theorem dX3_isWell_70 : decode cX3_isWell 70 = .ok (.ifCond .ne 7, 3) := dk_154 0 7 (dk_at dksX3_isWell_3 0 rfl rfl)
theorem dX3_isWell_73 : decode cX3_isWell 73 = .ok (.iconst 1, 1) := dk_4 (dk_at dksX3_isWell_3 3 rfl rfl)
theorem dX3_isWell_74 : decode cX3_isWell 74 = .ok (.goto 4, 3) := dk_167 0 4 (dk_at dksX3_isWell_3 4 rfl rfl)
theorem dX3_isWell_77 : decode cX3_isWell 77 = .ok (.iconst 0, 1) := dk_3 (dk_at dksX3_isWell_3 7 rfl rfl)
theorem dX3_isWell_78 : decode cX3_isWell 78 = .ok (.istore_n 1, 1) := dk_60 (dk_at dksX3_isWell_3 8 rfl rfl)
theorem dX3_isWell_79 : decode cX3_isWell 79 = .ok (.goto (-60), 3) := dk_167 255 196 (dk_at dksX3_isWell_3 9 rfl rfl)
theorem dX3_isWell_82 : decode cX3_isWell 82 = .ok (.iload_n 1, 1) := dk_27 (dk_at dksX3_isWell_3 12 rfl rfl)
theorem dX3_isWell_83 : decode cX3_isWell 83 = .ok (.ireturn, 1) := dk_172 (dk_at dksX3_isWell_3 13 rfl rfl)
abbrev cX3_order : ByteArray := prog_8_method_56_code
def yX3_order : MethodName := ⟨RX3, "order", "(Z)I"⟩
def dkwX3_order_9 : List UInt8 := [182, 0, 153, 172]
abbrev dktX3_order_9 : List UInt8 := dkwX3_order_9 ++ []
def dkwX3_order_8 : List UInt8 := [167, 0, 25, 28, 16, 45, 160, 0, 13, 42, 16, 90, 3, 182, 0, 136, 167, 0, 9, 42, 21, 5]
abbrev dktX3_order_8 : List UInt8 := dkwX3_order_8 ++ dktX3_order_9
def dkwX3_order_7 : List UInt8 := [160, 0, 11, 42, 29, 182, 0, 146, 167, 0, 41, 28, 16, 115, 160, 0, 13, 42, 29, 21, 4, 182, 0, 149]
abbrev dktX3_order_7 : List UInt8 := dkwX3_order_7 ++ dktX3_order_8
def dkwX3_order_6 : List UInt8 := [153, 0, 13, 42, 16, 48, 16, 57, 182, 0, 179, 54, 5, 27, 154, 0, 7, 3, 167, 0, 55, 28, 16, 112]
abbrev dktX3_order_6 : List UInt8 := dkwX3_order_6 ++ dktX3_order_7
def dkwX3_order_5 : List UInt8 := [156, 0, 6, 16, 253, 172, 4, 54, 5, 28, 16, 109, 160, 0, 24, 42, 16, 48, 16, 57, 182, 0, 176]
abbrev dktX3_order_5 : List UInt8 := dkwX3_order_5 ++ dktX3_order_6
def dkwX3_order_4 : List UInt8 := [29, 155, 0, 14, 42, 16, 49, 16, 57, 182, 0, 179, 167, 0, 4, 3, 54, 4, 29, 155, 0, 8, 21, 4]
abbrev dktX3_order_4 : List UInt8 := dkwX3_order_4 ++ dktX3_order_5
def dkwX3_order_3 : List UInt8 := [16, 115, 160, 0, 14, 42, 16, 49, 16, 57, 182, 0, 179, 167, 0, 4, 3, 62, 28, 16, 115, 160, 0, 18]
abbrev dktX3_order_3 : List UInt8 := dkwX3_order_3 ++ dktX3_order_4
def dkwX3_order_2 : List UInt8 := [159, 0, 6, 16, 253, 172, 42, 89, 180, 0, 173, 4, 96, 181, 0, 173, 28, 16, 112, 159, 0, 9, 28]
abbrev dktX3_order_2 : List UInt8 := dkwX3_order_2 ++ dktX3_order_3
def dkwX3_order_1 : List UInt8 := [61, 28, 16, 112, 159, 0, 24, 28, 16, 115, 159, 0, 18, 28, 16, 45, 159, 0, 12, 28, 16, 109]
abbrev dktX3_order_1 : List UInt8 := dkwX3_order_1 ++ dktX3_order_2
def dkwX3_order_0 : List UInt8 := [42, 180, 0, 173, 42, 180, 0, 159, 162, 0, 15, 42, 180, 0, 27, 42, 180, 0, 173, 46, 167, 0, 4, 3]
abbrev dktX3_order_0 : List UInt8 := dkwX3_order_0 ++ dktX3_order_1
theorem dksX3_order_0 : cX3_order.data.toList.drop 0 = dktX3_order_0 := by decide +kernel
theorem dksX3_order_1 : cX3_order.data.toList.drop 24 = dktX3_order_1 := dk_seg dksX3_order_0 24 rfl rfl
theorem dksX3_order_2 : cX3_order.data.toList.drop 46 = dktX3_order_2 := dk_seg dksX3_order_1 22 rfl rfl
theorem dksX3_order_3 : cX3_order.data.toList.drop 69 = dktX3_order_3 := dk_seg dksX3_order_2 23 rfl rfl
theorem dksX3_order_4 : cX3_order.data.toList.drop 93 = dktX3_order_4 := dk_seg dksX3_order_3 24 rfl rfl
theorem dksX3_order_5 : cX3_order.data.toList.drop 117 = dktX3_order_5 := dk_seg dksX3_order_4 24 rfl rfl
theorem dksX3_order_6 : cX3_order.data.toList.drop 140 = dktX3_order_6 := dk_seg dksX3_order_5 23 rfl rfl
theorem dksX3_order_7 : cX3_order.data.toList.drop 164 = dktX3_order_7 := dk_seg dksX3_order_6 24 rfl rfl
theorem dksX3_order_8 : cX3_order.data.toList.drop 188 = dktX3_order_8 := dk_seg dksX3_order_7 24 rfl rfl
theorem dksX3_order_9 : cX3_order.data.toList.drop 210 = dktX3_order_9 := dk_seg dksX3_order_8 22 rfl rfl
theorem dX3_order_0 : decode cX3_order 0 = .ok (.aload_n 0, 1) := dk_42 (dk_at dksX3_order_0 0 rfl rfl)
theorem dX3_order_1 : decode cX3_order 1 = .ok (.getfield 173, 3) := dk_180 0 173 (dk_at dksX3_order_0 1 rfl rfl)
theorem dX3_order_4 : decode cX3_order 4 = .ok (.aload_n 0, 1) := dk_42 (dk_at dksX3_order_0 4 rfl rfl)
theorem dX3_order_5 : decode cX3_order 5 = .ok (.getfield 159, 3) := dk_180 0 159 (dk_at dksX3_order_0 5 rfl rfl)
theorem dX3_order_8 : decode cX3_order 8 = .ok (.if_icmp .ge 15, 3) := dk_162 0 15 (dk_at dksX3_order_0 8 rfl rfl)
theorem dX3_order_11 : decode cX3_order 11 = .ok (.aload_n 0, 1) := dk_42 (dk_at dksX3_order_0 11 rfl rfl)
theorem dX3_order_12 : decode cX3_order 12 = .ok (.getfield 27, 3) := dk_180 0 27 (dk_at dksX3_order_0 12 rfl rfl)
theorem dX3_order_15 : decode cX3_order 15 = .ok (.aload_n 0, 1) := dk_42 (dk_at dksX3_order_0 15 rfl rfl)
theorem dX3_order_16 : decode cX3_order 16 = .ok (.getfield 173, 3) := dk_180 0 173 (dk_at dksX3_order_0 16 rfl rfl)
theorem dX3_order_19 : decode cX3_order 19 = .ok (.iaload, 1) := dk_46 (dk_at dksX3_order_0 19 rfl rfl)
theorem dX3_order_20 : decode cX3_order 20 = .ok (.goto 4, 3) := dk_167 0 4 (dk_at dksX3_order_0 20 rfl rfl)
theorem dX3_order_23 : decode cX3_order 23 = .ok (.iconst 0, 1) := dk_3 (dk_at dksX3_order_0 23 rfl rfl)
theorem dX3_order_24 : decode cX3_order 24 = .ok (.istore_n 2, 1) := dk_61 (dk_at dksX3_order_1 0 rfl rfl)
theorem dX3_order_25 : decode cX3_order 25 = .ok (.iload_n 2, 1) := dk_28 (dk_at dksX3_order_1 1 rfl rfl)
theorem dX3_order_26 : decode cX3_order 26 = .ok (.bipush 112, 2) := dk_16 112 (dk_at dksX3_order_1 2 rfl rfl)
theorem dX3_order_28 : decode cX3_order 28 = .ok (.if_icmp .eq 24, 3) := dk_159 0 24 (dk_at dksX3_order_1 4 rfl rfl)
theorem dX3_order_31 : decode cX3_order 31 = .ok (.iload_n 2, 1) := dk_28 (dk_at dksX3_order_1 7 rfl rfl)
theorem dX3_order_32 : decode cX3_order 32 = .ok (.bipush 115, 2) := dk_16 115 (dk_at dksX3_order_1 8 rfl rfl)
theorem dX3_order_34 : decode cX3_order 34 = .ok (.if_icmp .eq 18, 3) := dk_159 0 18 (dk_at dksX3_order_1 10 rfl rfl)
theorem dX3_order_37 : decode cX3_order 37 = .ok (.iload_n 2, 1) := dk_28 (dk_at dksX3_order_1 13 rfl rfl)
theorem dX3_order_38 : decode cX3_order 38 = .ok (.bipush 45, 2) := dk_16 45 (dk_at dksX3_order_1 14 rfl rfl)
theorem dX3_order_40 : decode cX3_order 40 = .ok (.if_icmp .eq 12, 3) := dk_159 0 12 (dk_at dksX3_order_1 16 rfl rfl)
theorem dX3_order_43 : decode cX3_order 43 = .ok (.iload_n 2, 1) := dk_28 (dk_at dksX3_order_1 19 rfl rfl)
theorem dX3_order_44 : decode cX3_order 44 = .ok (.bipush 109, 2) := dk_16 109 (dk_at dksX3_order_1 20 rfl rfl)
theorem dX3_order_46 : decode cX3_order 46 = .ok (.if_icmp .eq 6, 3) := dk_159 0 6 (dk_at dksX3_order_2 0 rfl rfl)
theorem dX3_order_49 : decode cX3_order 49 = .ok (.bipush (-3), 2) := dk_16 253 (dk_at dksX3_order_2 3 rfl rfl)
theorem dX3_order_51 : decode cX3_order 51 = .ok (.ireturn, 1) := dk_172 (dk_at dksX3_order_2 5 rfl rfl)
theorem dX3_order_52 : decode cX3_order 52 = .ok (.aload_n 0, 1) := dk_42 (dk_at dksX3_order_2 6 rfl rfl)
theorem dX3_order_53 : decode cX3_order 53 = .ok (.dup, 1) := dk_89 (dk_at dksX3_order_2 7 rfl rfl)
theorem dX3_order_54 : decode cX3_order 54 = .ok (.getfield 173, 3) := dk_180 0 173 (dk_at dksX3_order_2 8 rfl rfl)
theorem dX3_order_57 : decode cX3_order 57 = .ok (.iconst 1, 1) := dk_4 (dk_at dksX3_order_2 11 rfl rfl)
theorem dX3_order_58 : decode cX3_order 58 = .ok (.iadd, 1) := dk_96 (dk_at dksX3_order_2 12 rfl rfl)
theorem dX3_order_59 : decode cX3_order 59 = .ok (.putfield 173, 3) := dk_181 0 173 (dk_at dksX3_order_2 13 rfl rfl)
theorem dX3_order_62 : decode cX3_order 62 = .ok (.iload_n 2, 1) := dk_28 (dk_at dksX3_order_2 16 rfl rfl)
theorem dX3_order_63 : decode cX3_order 63 = .ok (.bipush 112, 2) := dk_16 112 (dk_at dksX3_order_2 17 rfl rfl)
theorem dX3_order_65 : decode cX3_order 65 = .ok (.if_icmp .eq 9, 3) := dk_159 0 9 (dk_at dksX3_order_2 19 rfl rfl)
theorem dX3_order_68 : decode cX3_order 68 = .ok (.iload_n 2, 1) := dk_28 (dk_at dksX3_order_2 22 rfl rfl)
theorem dX3_order_69 : decode cX3_order 69 = .ok (.bipush 115, 2) := dk_16 115 (dk_at dksX3_order_3 0 rfl rfl)
theorem dX3_order_71 : decode cX3_order 71 = .ok (.if_icmp .ne 14, 3) := dk_160 0 14 (dk_at dksX3_order_3 2 rfl rfl)
theorem dX3_order_74 : decode cX3_order 74 = .ok (.aload_n 0, 1) := dk_42 (dk_at dksX3_order_3 5 rfl rfl)
theorem dX3_order_75 : decode cX3_order 75 = .ok (.bipush 49, 2) := dk_16 49 (dk_at dksX3_order_3 6 rfl rfl)
theorem dX3_order_77 : decode cX3_order 77 = .ok (.bipush 57, 2) := dk_16 57 (dk_at dksX3_order_3 8 rfl rfl)
theorem dX3_order_79 : decode cX3_order 79 = .ok (.invokevirtual 179, 3) := dk_182 0 179 (dk_at dksX3_order_3 10 rfl rfl)
theorem dX3_order_82 : decode cX3_order 82 = .ok (.goto 4, 3) := dk_167 0 4 (dk_at dksX3_order_3 13 rfl rfl)
theorem dX3_order_85 : decode cX3_order 85 = .ok (.iconst 0, 1) := dk_3 (dk_at dksX3_order_3 16 rfl rfl)
theorem dX3_order_86 : decode cX3_order 86 = .ok (.istore_n 3, 1) := dk_62 (dk_at dksX3_order_3 17 rfl rfl)
theorem dX3_order_87 : decode cX3_order 87 = .ok (.iload_n 2, 1) := dk_28 (dk_at dksX3_order_3 18 rfl rfl)
theorem dX3_order_88 : decode cX3_order 88 = .ok (.bipush 115, 2) := dk_16 115 (dk_at dksX3_order_3 19 rfl rfl)
theorem dX3_order_90 : decode cX3_order 90 = .ok (.if_icmp .ne 18, 3) := dk_160 0 18 (dk_at dksX3_order_3 21 rfl rfl)
theorem dX3_order_93 : decode cX3_order 93 = .ok (.iload_n 3, 1) := dk_29 (dk_at dksX3_order_4 0 rfl rfl)
theorem dX3_order_94 : decode cX3_order 94 = .ok (.ifCond .lt 14, 3) := dk_155 0 14 (dk_at dksX3_order_4 1 rfl rfl)
theorem dX3_order_97 : decode cX3_order 97 = .ok (.aload_n 0, 1) := dk_42 (dk_at dksX3_order_4 4 rfl rfl)
theorem dX3_order_98 : decode cX3_order 98 = .ok (.bipush 49, 2) := dk_16 49 (dk_at dksX3_order_4 5 rfl rfl)
theorem dX3_order_100 : decode cX3_order 100 = .ok (.bipush 57, 2) := dk_16 57 (dk_at dksX3_order_4 7 rfl rfl)
theorem dX3_order_102 : decode cX3_order 102 = .ok (.invokevirtual 179, 3) := dk_182 0 179 (dk_at dksX3_order_4 9 rfl rfl)
theorem dX3_order_105 : decode cX3_order 105 = .ok (.goto 4, 3) := dk_167 0 4 (dk_at dksX3_order_4 12 rfl rfl)
theorem dX3_order_108 : decode cX3_order 108 = .ok (.iconst 0, 1) := dk_3 (dk_at dksX3_order_4 15 rfl rfl)
theorem dX3_order_109 : decode cX3_order 109 = .ok (.istore 4, 2) := dk_54 4 (dk_at dksX3_order_4 16 rfl rfl)
theorem dX3_order_111 : decode cX3_order 111 = .ok (.iload_n 3, 1) := dk_29 (dk_at dksX3_order_4 18 rfl rfl)
theorem dX3_order_112 : decode cX3_order 112 = .ok (.ifCond .lt 8, 3) := dk_155 0 8 (dk_at dksX3_order_4 19 rfl rfl)
theorem dX3_order_115 : decode cX3_order 115 = .ok (.iload 4, 2) := dk_21 4 (dk_at dksX3_order_4 22 rfl rfl)
theorem dX3_order_117 : decode cX3_order 117 = .ok (.ifCond .ge 6, 3) := dk_156 0 6 (dk_at dksX3_order_5 0 rfl rfl)
theorem dX3_order_120 : decode cX3_order 120 = .ok (.bipush (-3), 2) := dk_16 253 (dk_at dksX3_order_5 3 rfl rfl)
theorem dX3_order_122 : decode cX3_order 122 = .ok (.ireturn, 1) := dk_172 (dk_at dksX3_order_5 5 rfl rfl)
theorem dX3_order_123 : decode cX3_order 123 = .ok (.iconst 1, 1) := dk_4 (dk_at dksX3_order_5 6 rfl rfl)
theorem dX3_order_124 : decode cX3_order 124 = .ok (.istore 5, 2) := dk_54 5 (dk_at dksX3_order_5 7 rfl rfl)
theorem dX3_order_126 : decode cX3_order 126 = .ok (.iload_n 2, 1) := dk_28 (dk_at dksX3_order_5 9 rfl rfl)
theorem dX3_order_127 : decode cX3_order 127 = .ok (.bipush 109, 2) := dk_16 109 (dk_at dksX3_order_5 10 rfl rfl)
theorem dX3_order_129 : decode cX3_order 129 = .ok (.if_icmp .ne 24, 3) := dk_160 0 24 (dk_at dksX3_order_5 12 rfl rfl)
theorem dX3_order_132 : decode cX3_order 132 = .ok (.aload_n 0, 1) := dk_42 (dk_at dksX3_order_5 15 rfl rfl)
theorem dX3_order_133 : decode cX3_order 133 = .ok (.bipush 48, 2) := dk_16 48 (dk_at dksX3_order_5 16 rfl rfl)
theorem dX3_order_135 : decode cX3_order 135 = .ok (.bipush 57, 2) := dk_16 57 (dk_at dksX3_order_5 18 rfl rfl)
theorem dX3_order_137 : decode cX3_order 137 = .ok (.invokevirtual 176, 3) := dk_182 0 176 (dk_at dksX3_order_5 20 rfl rfl)
theorem dX3_order_140 : decode cX3_order 140 = .ok (.ifCond .eq 13, 3) := dk_153 0 13 (dk_at dksX3_order_6 0 rfl rfl)
theorem dX3_order_143 : decode cX3_order 143 = .ok (.aload_n 0, 1) := dk_42 (dk_at dksX3_order_6 3 rfl rfl)
theorem dX3_order_144 : decode cX3_order 144 = .ok (.bipush 48, 2) := dk_16 48 (dk_at dksX3_order_6 4 rfl rfl)
theorem dX3_order_146 : decode cX3_order 146 = .ok (.bipush 57, 2) := dk_16 57 (dk_at dksX3_order_6 6 rfl rfl)
theorem dX3_order_148 : decode cX3_order 148 = .ok (.invokevirtual 179, 3) := dk_182 0 179 (dk_at dksX3_order_6 8 rfl rfl)
theorem dX3_order_151 : decode cX3_order 151 = .ok (.istore 5, 2) := dk_54 5 (dk_at dksX3_order_6 11 rfl rfl)
theorem dX3_order_153 : decode cX3_order 153 = .ok (.iload_n 1, 1) := dk_27 (dk_at dksX3_order_6 13 rfl rfl)
theorem dX3_order_154 : decode cX3_order 154 = .ok (.ifCond .ne 7, 3) := dk_154 0 7 (dk_at dksX3_order_6 14 rfl rfl)
theorem dX3_order_157 : decode cX3_order 157 = .ok (.iconst 0, 1) := dk_3 (dk_at dksX3_order_6 17 rfl rfl)
theorem dX3_order_158 : decode cX3_order 158 = .ok (.goto 55, 3) := dk_167 0 55 (dk_at dksX3_order_6 18 rfl rfl)
theorem dX3_order_161 : decode cX3_order 161 = .ok (.iload_n 2, 1) := dk_28 (dk_at dksX3_order_6 21 rfl rfl)
theorem dX3_order_162 : decode cX3_order 162 = .ok (.bipush 112, 2) := dk_16 112 (dk_at dksX3_order_6 22 rfl rfl)
theorem dX3_order_164 : decode cX3_order 164 = .ok (.if_icmp .ne 11, 3) := dk_160 0 11 (dk_at dksX3_order_7 0 rfl rfl)
theorem dX3_order_167 : decode cX3_order 167 = .ok (.aload_n 0, 1) := dk_42 (dk_at dksX3_order_7 3 rfl rfl)
theorem dX3_order_168 : decode cX3_order 168 = .ok (.iload_n 3, 1) := dk_29 (dk_at dksX3_order_7 4 rfl rfl)
theorem dX3_order_169 : decode cX3_order 169 = .ok (.invokevirtual 146, 3) := dk_182 0 146 (dk_at dksX3_order_7 5 rfl rfl)
theorem dX3_order_172 : decode cX3_order 172 = .ok (.goto 41, 3) := dk_167 0 41 (dk_at dksX3_order_7 8 rfl rfl)
theorem dX3_order_175 : decode cX3_order 175 = .ok (.iload_n 2, 1) := dk_28 (dk_at dksX3_order_7 11 rfl rfl)
theorem dX3_order_176 : decode cX3_order 176 = .ok (.bipush 115, 2) := dk_16 115 (dk_at dksX3_order_7 12 rfl rfl)
theorem dX3_order_178 : decode cX3_order 178 = .ok (.if_icmp .ne 13, 3) := dk_160 0 13 (dk_at dksX3_order_7 14 rfl rfl)
theorem dX3_order_181 : decode cX3_order 181 = .ok (.aload_n 0, 1) := dk_42 (dk_at dksX3_order_7 17 rfl rfl)
theorem dX3_order_182 : decode cX3_order 182 = .ok (.iload_n 3, 1) := dk_29 (dk_at dksX3_order_7 18 rfl rfl)
theorem dX3_order_183 : decode cX3_order 183 = .ok (.iload 4, 2) := dk_21 4 (dk_at dksX3_order_7 19 rfl rfl)
theorem dX3_order_185 : decode cX3_order 185 = .ok (.invokevirtual 149, 3) := dk_182 0 149 (dk_at dksX3_order_7 21 rfl rfl)
theorem dX3_order_188 : decode cX3_order 188 = .ok (.goto 25, 3) := dk_167 0 25 (dk_at dksX3_order_8 0 rfl rfl)
theorem dX3_order_191 : decode cX3_order 191 = .ok (.iload_n 2, 1) := dk_28 (dk_at dksX3_order_8 3 rfl rfl)
theorem dX3_order_192 : decode cX3_order 192 = .ok (.bipush 45, 2) := dk_16 45 (dk_at dksX3_order_8 4 rfl rfl)
theorem dX3_order_194 : decode cX3_order 194 = .ok (.if_icmp .ne 13, 3) := dk_160 0 13 (dk_at dksX3_order_8 6 rfl rfl)
theorem dX3_order_197 : decode cX3_order 197 = .ok (.aload_n 0, 1) := dk_42 (dk_at dksX3_order_8 9 rfl rfl)
theorem dX3_order_198 : decode cX3_order 198 = .ok (.bipush 90, 2) := dk_16 90 (dk_at dksX3_order_8 10 rfl rfl)
theorem dX3_order_200 : decode cX3_order 200 = .ok (.iconst 0, 1) := dk_3 (dk_at dksX3_order_8 12 rfl rfl)
theorem dX3_order_201 : decode cX3_order 201 = .ok (.invokevirtual 136, 3) := dk_182 0 136 (dk_at dksX3_order_8 13 rfl rfl)
theorem dX3_order_204 : decode cX3_order 204 = .ok (.goto 9, 3) := dk_167 0 9 (dk_at dksX3_order_8 16 rfl rfl)
theorem dX3_order_207 : decode cX3_order 207 = .ok (.aload_n 0, 1) := dk_42 (dk_at dksX3_order_8 19 rfl rfl)
theorem dX3_order_208 : decode cX3_order 208 = .ok (.iload 5, 2) := dk_21 5 (dk_at dksX3_order_8 20 rfl rfl)
theorem dX3_order_210 : decode cX3_order 210 = .ok (.invokevirtual 153, 3) := dk_182 0 153 (dk_at dksX3_order_9 0 rfl rfl)
theorem dX3_order_213 : decode cX3_order 213 = .ok (.ireturn, 1) := dk_172 (dk_at dksX3_order_9 3 rfl rfl)
abbrev cX3_sign : ByteArray := prog_8_method_55_code
def yX3_sign : MethodName := ⟨RX3, "sign", "(II)I"⟩
def dkwX3_sign_1 : List UInt8 := [180, 0, 27, 42, 180, 0, 173, 4, 100, 46, 27, 100, 172]
abbrev dktX3_sign_1 : List UInt8 := dkwX3_sign_1 ++ []
def dkwX3_sign_0 : List UInt8 := [42, 27, 28, 182, 0, 176, 154, 0, 6, 16, 253, 172, 42, 89, 180, 0, 173, 4, 96, 181, 0, 173, 42]
abbrev dktX3_sign_0 : List UInt8 := dkwX3_sign_0 ++ dktX3_sign_1
theorem dksX3_sign_0 : cX3_sign.data.toList.drop 0 = dktX3_sign_0 := by decide +kernel
theorem dksX3_sign_1 : cX3_sign.data.toList.drop 23 = dktX3_sign_1 := dk_seg dksX3_sign_0 23 rfl rfl
theorem dX3_sign_0 : decode cX3_sign 0 = .ok (.aload_n 0, 1) := dk_42 (dk_at dksX3_sign_0 0 rfl rfl)
theorem dX3_sign_1 : decode cX3_sign 1 = .ok (.iload_n 1, 1) := dk_27 (dk_at dksX3_sign_0 1 rfl rfl)
theorem dX3_sign_2 : decode cX3_sign 2 = .ok (.iload_n 2, 1) := dk_28 (dk_at dksX3_sign_0 2 rfl rfl)
theorem dX3_sign_3 : decode cX3_sign 3 = .ok (.invokevirtual 176, 3) := dk_182 0 176 (dk_at dksX3_sign_0 3 rfl rfl)
theorem dX3_sign_6 : decode cX3_sign 6 = .ok (.ifCond .ne 6, 3) := dk_154 0 6 (dk_at dksX3_sign_0 6 rfl rfl)
theorem dX3_sign_9 : decode cX3_sign 9 = .ok (.bipush (-3), 2) := dk_16 253 (dk_at dksX3_sign_0 9 rfl rfl)
theorem dX3_sign_11 : decode cX3_sign 11 = .ok (.ireturn, 1) := dk_172 (dk_at dksX3_sign_0 11 rfl rfl)
theorem dX3_sign_12 : decode cX3_sign 12 = .ok (.aload_n 0, 1) := dk_42 (dk_at dksX3_sign_0 12 rfl rfl)
theorem dX3_sign_13 : decode cX3_sign 13 = .ok (.dup, 1) := dk_89 (dk_at dksX3_sign_0 13 rfl rfl)
theorem dX3_sign_14 : decode cX3_sign 14 = .ok (.getfield 173, 3) := dk_180 0 173 (dk_at dksX3_sign_0 14 rfl rfl)
theorem dX3_sign_17 : decode cX3_sign 17 = .ok (.iconst 1, 1) := dk_4 (dk_at dksX3_sign_0 17 rfl rfl)
theorem dX3_sign_18 : decode cX3_sign 18 = .ok (.iadd, 1) := dk_96 (dk_at dksX3_sign_0 18 rfl rfl)
theorem dX3_sign_19 : decode cX3_sign 19 = .ok (.putfield 173, 3) := dk_181 0 173 (dk_at dksX3_sign_0 19 rfl rfl)
theorem dX3_sign_22 : decode cX3_sign 22 = .ok (.aload_n 0, 1) := dk_42 (dk_at dksX3_sign_0 22 rfl rfl)
theorem dX3_sign_23 : decode cX3_sign 23 = .ok (.getfield 27, 3) := dk_180 0 27 (dk_at dksX3_sign_1 0 rfl rfl)
theorem dX3_sign_26 : decode cX3_sign 26 = .ok (.aload_n 0, 1) := dk_42 (dk_at dksX3_sign_1 3 rfl rfl)
theorem dX3_sign_27 : decode cX3_sign 27 = .ok (.getfield 173, 3) := dk_180 0 173 (dk_at dksX3_sign_1 4 rfl rfl)
theorem dX3_sign_30 : decode cX3_sign 30 = .ok (.iconst 1, 1) := dk_4 (dk_at dksX3_sign_1 7 rfl rfl)
theorem dX3_sign_31 : decode cX3_sign 31 = .ok (.isub, 1) := dk_100 (dk_at dksX3_sign_1 8 rfl rfl)
theorem dX3_sign_32 : decode cX3_sign 32 = .ok (.iaload, 1) := dk_46 (dk_at dksX3_sign_1 9 rfl rfl)
theorem dX3_sign_33 : decode cX3_sign 33 = .ok (.iload_n 1, 1) := dk_27 (dk_at dksX3_sign_1 10 rfl rfl)
theorem dX3_sign_34 : decode cX3_sign 34 = .ok (.isub, 1) := dk_100 (dk_at dksX3_sign_1 11 rfl rfl)
theorem dX3_sign_35 : decode cX3_sign 35 = .ok (.ireturn, 1) := dk_172 (dk_at dksX3_sign_1 12 rfl rfl)
abbrev cX3_sees : ByteArray := prog_8_method_54_code
def yX3_sees : MethodName := ⟨RX3, "sees", "(II)Z"⟩
def dkwX3_sees_1 : List UInt8 := [184, 0, 51, 153, 0, 7, 4, 167, 0, 4, 3, 172]
abbrev dktX3_sees_1 : List UInt8 := dkwX3_sees_1 ++ []
def dkwX3_sees_0 : List UInt8 := [42, 180, 0, 173, 42, 180, 0, 159, 162, 0, 25, 42, 180, 0, 27, 42, 180, 0, 173, 46, 133, 27, 28]
abbrev dktX3_sees_0 : List UInt8 := dkwX3_sees_0 ++ dktX3_sees_1
theorem dksX3_sees_0 : cX3_sees.data.toList.drop 0 = dktX3_sees_0 := by decide +kernel
theorem dksX3_sees_1 : cX3_sees.data.toList.drop 23 = dktX3_sees_1 := dk_seg dksX3_sees_0 23 rfl rfl
theorem dX3_sees_0 : decode cX3_sees 0 = .ok (.aload_n 0, 1) := dk_42 (dk_at dksX3_sees_0 0 rfl rfl)
theorem dX3_sees_1 : decode cX3_sees 1 = .ok (.getfield 173, 3) := dk_180 0 173 (dk_at dksX3_sees_0 1 rfl rfl)
theorem dX3_sees_4 : decode cX3_sees 4 = .ok (.aload_n 0, 1) := dk_42 (dk_at dksX3_sees_0 4 rfl rfl)
theorem dX3_sees_5 : decode cX3_sees 5 = .ok (.getfield 159, 3) := dk_180 0 159 (dk_at dksX3_sees_0 5 rfl rfl)
theorem dX3_sees_8 : decode cX3_sees 8 = .ok (.if_icmp .ge 25, 3) := dk_162 0 25 (dk_at dksX3_sees_0 8 rfl rfl)
theorem dX3_sees_11 : decode cX3_sees 11 = .ok (.aload_n 0, 1) := dk_42 (dk_at dksX3_sees_0 11 rfl rfl)
theorem dX3_sees_12 : decode cX3_sees 12 = .ok (.getfield 27, 3) := dk_180 0 27 (dk_at dksX3_sees_0 12 rfl rfl)
theorem dX3_sees_15 : decode cX3_sees 15 = .ok (.aload_n 0, 1) := dk_42 (dk_at dksX3_sees_0 15 rfl rfl)
theorem dX3_sees_16 : decode cX3_sees 16 = .ok (.getfield 173, 3) := dk_180 0 173 (dk_at dksX3_sees_0 16 rfl rfl)
theorem dX3_sees_19 : decode cX3_sees 19 = .ok (.iaload, 1) := dk_46 (dk_at dksX3_sees_0 19 rfl rfl)
theorem dX3_sees_20 : decode cX3_sees 20 = .ok (.i2l, 1) := dk_133 (dk_at dksX3_sees_0 20 rfl rfl)
theorem dX3_sees_21 : decode cX3_sees 21 = .ok (.iload_n 1, 1) := dk_27 (dk_at dksX3_sees_0 21 rfl rfl)
theorem dX3_sees_22 : decode cX3_sees 22 = .ok (.iload_n 2, 1) := dk_28 (dk_at dksX3_sees_0 22 rfl rfl)
theorem dX3_sees_23 : decode cX3_sees 23 = .ok (.invokestatic 51, 3) := dk_184 0 51 (dk_at dksX3_sees_1 0 rfl rfl)
theorem dX3_sees_26 : decode cX3_sees 26 = .ok (.ifCond .eq 7, 3) := dk_153 0 7 (dk_at dksX3_sees_1 3 rfl rfl)
theorem dX3_sees_29 : decode cX3_sees 29 = .ok (.iconst 1, 1) := dk_4 (dk_at dksX3_sees_1 6 rfl rfl)
theorem dX3_sees_30 : decode cX3_sees 30 = .ok (.goto 4, 3) := dk_167 0 4 (dk_at dksX3_sees_1 7 rfl rfl)
theorem dX3_sees_33 : decode cX3_sees 33 = .ok (.iconst 0, 1) := dk_3 (dk_at dksX3_sees_1 10 rfl rfl)
theorem dX3_sees_34 : decode cX3_sees 34 = .ok (.ireturn, 1) := dk_172 (dk_at dksX3_sees_1 11 rfl rfl)
abbrev cX3_carryOut : ByteArray := prog_8_method_59_code
def yX3_carryOut : MethodName := ⟨RX3, "carryOut", "()I"⟩
def dkwX3_carryOut_3 : List UInt8 := [181, 0, 173, 167, 255, 205, 42, 3, 181, 0, 159, 42, 27, 182, 0, 58, 172]
abbrev dktX3_carryOut_3 : List UInt8 := dkwX3_carryOut_3 ++ []
def dkwX3_carryOut_2 : List UInt8 := [167, 0, 4, 3, 61, 27, 28, 153, 0, 7, 4, 167, 0, 4, 3, 96, 60, 42, 89, 180, 0, 173, 4, 96]
abbrev dktX3_carryOut_2 : List UInt8 := dkwX3_carryOut_2 ++ dktX3_carryOut_3
def dkwX3_carryOut_1 : List UInt8 := [153, 0, 53, 42, 180, 0, 173, 42, 180, 0, 159, 162, 0, 42, 42, 4, 182, 0, 182, 155, 0, 7, 4]
abbrev dktX3_carryOut_1 : List UInt8 := dkwX3_carryOut_1 ++ dktX3_carryOut_2
def dkwX3_carryOut_0 : List UInt8 := [42, 182, 0, 186, 154, 0, 6, 16, 253, 172, 42, 182, 0, 55, 42, 3, 181, 0, 173, 3, 60, 4, 61, 28]
abbrev dktX3_carryOut_0 : List UInt8 := dkwX3_carryOut_0 ++ dktX3_carryOut_1
theorem dksX3_carryOut_0 : cX3_carryOut.data.toList.drop 0 = dktX3_carryOut_0 := by decide +kernel
theorem dksX3_carryOut_1 : cX3_carryOut.data.toList.drop 24 = dktX3_carryOut_1 := dk_seg dksX3_carryOut_0 24 rfl rfl
theorem dksX3_carryOut_2 : cX3_carryOut.data.toList.drop 47 = dktX3_carryOut_2 := dk_seg dksX3_carryOut_1 23 rfl rfl
theorem dksX3_carryOut_3 : cX3_carryOut.data.toList.drop 71 = dktX3_carryOut_3 := dk_seg dksX3_carryOut_2 24 rfl rfl
theorem dX3_carryOut_0 : decode cX3_carryOut 0 = .ok (.aload_n 0, 1) := dk_42 (dk_at dksX3_carryOut_0 0 rfl rfl)
theorem dX3_carryOut_1 : decode cX3_carryOut 1 = .ok (.invokevirtual 186, 3) := dk_182 0 186 (dk_at dksX3_carryOut_0 1 rfl rfl)
theorem dX3_carryOut_4 : decode cX3_carryOut 4 = .ok (.ifCond .ne 6, 3) := dk_154 0 6 (dk_at dksX3_carryOut_0 4 rfl rfl)
theorem dX3_carryOut_7 : decode cX3_carryOut 7 = .ok (.bipush (-3), 2) := dk_16 253 (dk_at dksX3_carryOut_0 7 rfl rfl)
theorem dX3_carryOut_9 : decode cX3_carryOut 9 = .ok (.ireturn, 1) := dk_172 (dk_at dksX3_carryOut_0 9 rfl rfl)
theorem dX3_carryOut_10 : decode cX3_carryOut 10 = .ok (.aload_n 0, 1) := dk_42 (dk_at dksX3_carryOut_0 10 rfl rfl)
theorem dX3_carryOut_11 : decode cX3_carryOut 11 = .ok (.invokevirtual 55, 3) := dk_182 0 55 (dk_at dksX3_carryOut_0 11 rfl rfl)
theorem dX3_carryOut_14 : decode cX3_carryOut 14 = .ok (.aload_n 0, 1) := dk_42 (dk_at dksX3_carryOut_0 14 rfl rfl)
theorem dX3_carryOut_15 : decode cX3_carryOut 15 = .ok (.iconst 0, 1) := dk_3 (dk_at dksX3_carryOut_0 15 rfl rfl)
theorem dX3_carryOut_16 : decode cX3_carryOut 16 = .ok (.putfield 173, 3) := dk_181 0 173 (dk_at dksX3_carryOut_0 16 rfl rfl)
theorem dX3_carryOut_19 : decode cX3_carryOut 19 = .ok (.iconst 0, 1) := dk_3 (dk_at dksX3_carryOut_0 19 rfl rfl)
theorem dX3_carryOut_20 : decode cX3_carryOut 20 = .ok (.istore_n 1, 1) := dk_60 (dk_at dksX3_carryOut_0 20 rfl rfl)
theorem dX3_carryOut_21 : decode cX3_carryOut 21 = .ok (.iconst 1, 1) := dk_4 (dk_at dksX3_carryOut_0 21 rfl rfl)
theorem dX3_carryOut_22 : decode cX3_carryOut 22 = .ok (.istore_n 2, 1) := dk_61 (dk_at dksX3_carryOut_0 22 rfl rfl)
theorem dX3_carryOut_23 : decode cX3_carryOut 23 = .ok (.iload_n 2, 1) := dk_28 (dk_at dksX3_carryOut_0 23 rfl rfl)
theorem dX3_carryOut_24 : decode cX3_carryOut 24 = .ok (.ifCond .eq 53, 3) := dk_153 0 53 (dk_at dksX3_carryOut_1 0 rfl rfl)
theorem dX3_carryOut_27 : decode cX3_carryOut 27 = .ok (.aload_n 0, 1) := dk_42 (dk_at dksX3_carryOut_1 3 rfl rfl)
theorem dX3_carryOut_28 : decode cX3_carryOut 28 = .ok (.getfield 173, 3) := dk_180 0 173 (dk_at dksX3_carryOut_1 4 rfl rfl)
theorem dX3_carryOut_31 : decode cX3_carryOut 31 = .ok (.aload_n 0, 1) := dk_42 (dk_at dksX3_carryOut_1 7 rfl rfl)
theorem dX3_carryOut_32 : decode cX3_carryOut 32 = .ok (.getfield 159, 3) := dk_180 0 159 (dk_at dksX3_carryOut_1 8 rfl rfl)
theorem dX3_carryOut_35 : decode cX3_carryOut 35 = .ok (.if_icmp .ge 42, 3) := dk_162 0 42 (dk_at dksX3_carryOut_1 11 rfl rfl)
theorem dX3_carryOut_38 : decode cX3_carryOut 38 = .ok (.aload_n 0, 1) := dk_42 (dk_at dksX3_carryOut_1 14 rfl rfl)
theorem dX3_carryOut_39 : decode cX3_carryOut 39 = .ok (.iconst 1, 1) := dk_4 (dk_at dksX3_carryOut_1 15 rfl rfl)
theorem dX3_carryOut_40 : decode cX3_carryOut 40 = .ok (.invokevirtual 182, 3) := dk_182 0 182 (dk_at dksX3_carryOut_1 16 rfl rfl)
theorem dX3_carryOut_43 : decode cX3_carryOut 43 = .ok (.ifCond .lt 7, 3) := dk_155 0 7 (dk_at dksX3_carryOut_1 19 rfl rfl)
theorem dX3_carryOut_46 : decode cX3_carryOut 46 = .ok (.iconst 1, 1) := dk_4 (dk_at dksX3_carryOut_1 22 rfl rfl)
theorem dX3_carryOut_47 : decode cX3_carryOut 47 = .ok (.goto 4, 3) := dk_167 0 4 (dk_at dksX3_carryOut_2 0 rfl rfl)
theorem dX3_carryOut_50 : decode cX3_carryOut 50 = .ok (.iconst 0, 1) := dk_3 (dk_at dksX3_carryOut_2 3 rfl rfl)
theorem dX3_carryOut_51 : decode cX3_carryOut 51 = .ok (.istore_n 2, 1) := dk_61 (dk_at dksX3_carryOut_2 4 rfl rfl)
theorem dX3_carryOut_52 : decode cX3_carryOut 52 = .ok (.iload_n 1, 1) := dk_27 (dk_at dksX3_carryOut_2 5 rfl rfl)
theorem dX3_carryOut_53 : decode cX3_carryOut 53 = .ok (.iload_n 2, 1) := dk_28 (dk_at dksX3_carryOut_2 6 rfl rfl)
theorem dX3_carryOut_54 : decode cX3_carryOut 54 = .ok (.ifCond .eq 7, 3) := dk_153 0 7 (dk_at dksX3_carryOut_2 7 rfl rfl)
theorem dX3_carryOut_57 : decode cX3_carryOut 57 = .ok (.iconst 1, 1) := dk_4 (dk_at dksX3_carryOut_2 10 rfl rfl)
theorem dX3_carryOut_58 : decode cX3_carryOut 58 = .ok (.goto 4, 3) := dk_167 0 4 (dk_at dksX3_carryOut_2 11 rfl rfl)
theorem dX3_carryOut_61 : decode cX3_carryOut 61 = .ok (.iconst 0, 1) := dk_3 (dk_at dksX3_carryOut_2 14 rfl rfl)
theorem dX3_carryOut_62 : decode cX3_carryOut 62 = .ok (.iadd, 1) := dk_96 (dk_at dksX3_carryOut_2 15 rfl rfl)
theorem dX3_carryOut_63 : decode cX3_carryOut 63 = .ok (.istore_n 1, 1) := dk_60 (dk_at dksX3_carryOut_2 16 rfl rfl)
theorem dX3_carryOut_64 : decode cX3_carryOut 64 = .ok (.aload_n 0, 1) := dk_42 (dk_at dksX3_carryOut_2 17 rfl rfl)
theorem dX3_carryOut_65 : decode cX3_carryOut 65 = .ok (.dup, 1) := dk_89 (dk_at dksX3_carryOut_2 18 rfl rfl)
theorem dX3_carryOut_66 : decode cX3_carryOut 66 = .ok (.getfield 173, 3) := dk_180 0 173 (dk_at dksX3_carryOut_2 19 rfl rfl)
theorem dX3_carryOut_69 : decode cX3_carryOut 69 = .ok (.iconst 1, 1) := dk_4 (dk_at dksX3_carryOut_2 22 rfl rfl)
theorem dX3_carryOut_70 : decode cX3_carryOut 70 = .ok (.iadd, 1) := dk_96 (dk_at dksX3_carryOut_2 23 rfl rfl)
theorem dX3_carryOut_71 : decode cX3_carryOut 71 = .ok (.putfield 173, 3) := dk_181 0 173 (dk_at dksX3_carryOut_3 0 rfl rfl)
theorem dX3_carryOut_74 : decode cX3_carryOut 74 = .ok (.goto (-51), 3) := dk_167 255 205 (dk_at dksX3_carryOut_3 3 rfl rfl)
theorem dX3_carryOut_77 : decode cX3_carryOut 77 = .ok (.aload_n 0, 1) := dk_42 (dk_at dksX3_carryOut_3 6 rfl rfl)
theorem dX3_carryOut_78 : decode cX3_carryOut 78 = .ok (.iconst 0, 1) := dk_3 (dk_at dksX3_carryOut_3 7 rfl rfl)
theorem dX3_carryOut_79 : decode cX3_carryOut 79 = .ok (.putfield 159, 3) := dk_181 0 159 (dk_at dksX3_carryOut_3 8 rfl rfl)
theorem dX3_carryOut_82 : decode cX3_carryOut 82 = .ok (.aload_n 0, 1) := dk_42 (dk_at dksX3_carryOut_3 11 rfl rfl)
theorem dX3_carryOut_83 : decode cX3_carryOut 83 = .ok (.iload_n 1, 1) := dk_27 (dk_at dksX3_carryOut_3 12 rfl rfl)
theorem dX3_carryOut_84 : decode cX3_carryOut 84 = .ok (.invokevirtual 58, 3) := dk_182 0 58 (dk_at dksX3_carryOut_3 13 rfl rfl)
theorem dX3_carryOut_87 : decode cX3_carryOut 87 = .ok (.ireturn, 1) := dk_172 (dk_at dksX3_carryOut_3 16 rfl rfl)
theorem q84 : (Jvm.Cond.initialized "MorrisTablesModel") ∈ lw_all := lw_g (lw_at lw_m1 15 rfl) rfl
theorem q178 : (Jvm.Cond.selects "MorrisTablesModel" ({ cls := "java/lang/Object", name := "getClass", desc := "()Ljava/lang/Class;" } : Jvm.MethodName) ({ cls := "java/lang/Object", name := "getClass", desc := "()Ljava/lang/Class;" } : Jvm.MethodName)) ∈ lw_all := lw_g (lw_at lw_m1 109 rfl) rfl
theorem q977 : (Jvm.Cond.instantiable "MorrisTablesModel" (16 : Nat)) ∈ lw_all := lw_g (lw_at lw_m4 188 rfl) rfl
theorem q979 : (Jvm.Cond.instanceMethod ({ cls := "MorrisTablesModel", name := "<init>", desc := "()V" } : Jvm.MethodName)) ∈ lw_all := lw_g (lw_at lw_m4 190 rfl) rfl
theorem q980 : (Jvm.Cond.code ({ cls := "MorrisTablesModel", name := "<init>", desc := "()V" } : Jvm.MethodName) prog_8_method_1_code (1 : Nat) (Option.none : Option Jvm.ClassFile.FieldType)) ∈ lw_all := lw_g (lw_at lw_m4 191 rfl) rfl
theorem q981 : (Jvm.Cond.methodLink "MorrisTablesModel" (1 : Nat) ({ cls := "java/lang/Object", name := "<init>", desc := "()V" } : Jvm.MethodName)) ∈ lw_all := lw_g (lw_at lw_m4 192 rfl) rfl
theorem q982 : (Jvm.Cond.constant "MorrisTablesModel" (13 : Nat) (42018 : Int32)) ∈ lw_all := lw_g (lw_at lw_m4 193 rfl) rfl
theorem q983 : (Jvm.Cond.constant "MorrisTablesModel" (39 : Nat) (157464 : Int32)) ∈ lw_all := lw_g (lw_at lw_m4 194 rfl) rfl
theorem q984 : (Jvm.Cond.fieldLink "MorrisTablesModel" (7 : Nat) "MorrisTablesModel" "row" "[I") ∈ lw_all := lw_g (lw_at lw_m4 195 rfl) rfl
theorem q985 : (Jvm.Cond.fieldLink "MorrisTablesModel" (14 : Nat) "MorrisTablesModel" "past" "[I") ∈ lw_all := lw_g (lw_at lw_m4 196 rfl) rfl
theorem q986 : (Jvm.Cond.fieldLink "MorrisTablesModel" (17 : Nat) "MorrisTablesModel" "before" "[I") ∈ lw_all := lw_g (lw_at lw_m4 197 rfl) rfl
theorem q987 : (Jvm.Cond.fieldLink "MorrisTablesModel" (20 : Nat) "MorrisTablesModel" "slots" "[I") ∈ lw_all := lw_g (lw_at lw_m4 198 rfl) rfl
theorem q988 : (Jvm.Cond.fieldLink "MorrisTablesModel" (23 : Nat) "MorrisTablesModel" "isSaved" "[Z") ∈ lw_all := lw_g (lw_at lw_m4 199 rfl) rfl
theorem q989 : (Jvm.Cond.fieldLink "MorrisTablesModel" (46 : Nat) "MorrisTablesModel" "states" "I") ∈ lw_all := lw_g (lw_at lw_m4 200 rfl) rfl
theorem q990 : (Jvm.Cond.fieldLink "MorrisTablesModel" (27 : Nat) "MorrisTablesModel" "pad" "[I") ∈ lw_all := lw_g (lw_at lw_m4 201 rfl) rfl
theorem q991 : (Jvm.Cond.fieldLink "MorrisTablesModel" (159 : Nat) "MorrisTablesModel" "length" "I") ∈ lw_all := lw_g (lw_at lw_m4 202 rfl) rfl
theorem q992 : (Jvm.Cond.fieldLink "MorrisTablesModel" (173 : Nat) "MorrisTablesModel" "at" "I") ∈ lw_all := lw_g (lw_at lw_m4 203 rfl) rfl
theorem q993 : (Jvm.Cond.fieldLink "MorrisTablesModel" (30 : Nat) "MorrisTablesModel" "codes" "[I") ∈ lw_all := lw_g (lw_at lw_m4 204 rfl) rfl
theorem q994 : (Jvm.Cond.fieldLink "MorrisTablesModel" (33 : Nat) "MorrisTablesModel" "cells" "[I") ∈ lw_all := lw_g (lw_at lw_m4 205 rfl) rfl
theorem q995 : (Jvm.Cond.fieldLink "MorrisTablesModel" (62 : Nat) "MorrisTablesModel" "mover" "I") ∈ lw_all := lw_g (lw_at lw_m4 206 rfl) rfl
theorem q996 : (Jvm.Cond.fieldLink "MorrisTablesModel" (36 : Nat) "MorrisTablesModel" "list" "[I") ∈ lw_all := lw_g (lw_at lw_m4 207 rfl) rfl
theorem q997 : (Jvm.Cond.fieldLink "MorrisTablesModel" (76 : Nat) "MorrisTablesModel" "many" "I") ∈ lw_all := lw_g (lw_at lw_m4 208 rfl) rfl
theorem q998 : (Jvm.Cond.fieldLink "MorrisTablesModel" (40 : Nat) "MorrisTablesModel" "worths" "[I") ∈ lw_all := lw_g (lw_at lw_m4 209 rfl) rfl
theorem q999 : (Jvm.Cond.fieldLink "MorrisTablesModel" (43 : Nat) "MorrisTablesModel" "isMade" "[Z") ∈ lw_all := lw_g (lw_at lw_m4 210 rfl) rfl
theorem q1000 : (Jvm.Cond.laysFinal "MorrisTablesModel" "MorrisTablesModel" "row" "[I") ∈ lw_all := lw_g (lw_at lw_m4 211 rfl) rfl
theorem q1001 : (Jvm.Cond.soleField "MorrisTablesModel" "row") ∈ lw_all := lw_g (lw_at lw_m4 212 rfl) rfl
theorem q1002 : (Jvm.Cond.laysFinal "MorrisTablesModel" "MorrisTablesModel" "past" "[I") ∈ lw_all := lw_g (lw_at lw_m4 213 rfl) rfl
theorem q1003 : (Jvm.Cond.soleField "MorrisTablesModel" "past") ∈ lw_all := lw_g (lw_at lw_m4 214 rfl) rfl
theorem q1004 : (Jvm.Cond.laysFinal "MorrisTablesModel" "MorrisTablesModel" "before" "[I") ∈ lw_all := lw_g (lw_at lw_m4 215 rfl) rfl
theorem q1005 : (Jvm.Cond.soleField "MorrisTablesModel" "before") ∈ lw_all := lw_g (lw_at lw_m4 216 rfl) rfl
theorem q1006 : (Jvm.Cond.laysFinal "MorrisTablesModel" "MorrisTablesModel" "slots" "[I") ∈ lw_all := lw_g (lw_at lw_m4 217 rfl) rfl
theorem q1007 : (Jvm.Cond.soleField "MorrisTablesModel" "slots") ∈ lw_all := lw_g (lw_at lw_m4 218 rfl) rfl
theorem q1008 : (Jvm.Cond.laysFinal "MorrisTablesModel" "MorrisTablesModel" "isSaved" "[Z") ∈ lw_all := lw_g (lw_at lw_m4 219 rfl) rfl
theorem q1009 : (Jvm.Cond.soleField "MorrisTablesModel" "isSaved") ∈ lw_all := lw_g (lw_at lw_m4 220 rfl) rfl
theorem q1010 : (Jvm.Cond.lays "MorrisTablesModel" "MorrisTablesModel" "states" "I") ∈ lw_all := lw_g (lw_at lw_m4 221 rfl) rfl
theorem q1011 : (Jvm.Cond.soleField "MorrisTablesModel" "states") ∈ lw_all := lw_g (lw_at lw_m4 222 rfl) rfl
theorem q1012 : (Jvm.Cond.laysFinal "MorrisTablesModel" "MorrisTablesModel" "pad" "[I") ∈ lw_all := lw_g (lw_at lw_m4 223 rfl) rfl
theorem q1013 : (Jvm.Cond.soleField "MorrisTablesModel" "pad") ∈ lw_all := lw_g (lw_at lw_m4 224 rfl) rfl
theorem q1014 : (Jvm.Cond.lays "MorrisTablesModel" "MorrisTablesModel" "length" "I") ∈ lw_all := lw_g (lw_at lw_m4 225 rfl) rfl
theorem q1015 : (Jvm.Cond.soleField "MorrisTablesModel" "length") ∈ lw_all := lw_g (lw_at lw_m4 226 rfl) rfl
theorem q1016 : (Jvm.Cond.lays "MorrisTablesModel" "MorrisTablesModel" "at" "I") ∈ lw_all := lw_g (lw_at lw_m4 227 rfl) rfl
theorem q1017 : (Jvm.Cond.soleField "MorrisTablesModel" "at") ∈ lw_all := lw_g (lw_at lw_m4 228 rfl) rfl
theorem q1018 : (Jvm.Cond.laysFinal "MorrisTablesModel" "MorrisTablesModel" "codes" "[I") ∈ lw_all := lw_g (lw_at lw_m4 229 rfl) rfl
theorem q1019 : (Jvm.Cond.soleField "MorrisTablesModel" "codes") ∈ lw_all := lw_g (lw_at lw_m4 230 rfl) rfl
theorem q1020 : (Jvm.Cond.laysFinal "MorrisTablesModel" "MorrisTablesModel" "cells" "[I") ∈ lw_all := lw_g (lw_at lw_m4 231 rfl) rfl
theorem q1021 : (Jvm.Cond.soleField "MorrisTablesModel" "cells") ∈ lw_all := lw_g (lw_at lw_m4 232 rfl) rfl
theorem q1022 : (Jvm.Cond.lays "MorrisTablesModel" "MorrisTablesModel" "mover" "I") ∈ lw_all := lw_g (lw_at lw_m4 233 rfl) rfl
theorem q1023 : (Jvm.Cond.soleField "MorrisTablesModel" "mover") ∈ lw_all := lw_g (lw_at lw_m4 234 rfl) rfl
theorem q1024 : (Jvm.Cond.laysFinal "MorrisTablesModel" "MorrisTablesModel" "list" "[I") ∈ lw_all := lw_g (lw_at lw_m4 235 rfl) rfl
theorem q1025 : (Jvm.Cond.soleField "MorrisTablesModel" "list") ∈ lw_all := lw_g (lw_at lw_m4 236 rfl) rfl
theorem q1026 : (Jvm.Cond.lays "MorrisTablesModel" "MorrisTablesModel" "many" "I") ∈ lw_all := lw_g (lw_at lw_m4 237 rfl) rfl
theorem q1027 : (Jvm.Cond.soleField "MorrisTablesModel" "many") ∈ lw_all := lw_g (lw_at lw_m4 238 rfl) rfl
theorem q1028 : (Jvm.Cond.laysFinal "MorrisTablesModel" "MorrisTablesModel" "worths" "[I") ∈ lw_all := lw_g (lw_at lw_m4 239 rfl) rfl
theorem q1029 : (Jvm.Cond.soleField "MorrisTablesModel" "worths") ∈ lw_all := lw_g (lw_at lw_m5 0 rfl) rfl
theorem q1030 : (Jvm.Cond.laysFinal "MorrisTablesModel" "MorrisTablesModel" "isMade" "[Z") ∈ lw_all := lw_g (lw_at lw_m5 1 rfl) rfl
theorem q1031 : (Jvm.Cond.soleField "MorrisTablesModel" "isMade") ∈ lw_all := lw_g (lw_at lw_m5 2 rfl) rfl
theorem q1032 : (Jvm.Cond.superclass "MorrisTablesModel" "java/lang/Object") ∈ lw_all := lw_g (lw_at lw_m5 3 rfl) rfl
theorem q1035 : (Jvm.Cond.instanceMethod ({ cls := "MorrisTablesModel", name := "undo", desc := "()I" } : Jvm.MethodName)) ∈ lw_all := lw_g (lw_at lw_m5 6 rfl) rfl
theorem q1036 : (Jvm.Cond.selects "MorrisTablesModel" ({ cls := "MorrisTablesModel", name := "undo", desc := "()I" } : Jvm.MethodName) ({ cls := "MorrisTablesModel", name := "undo", desc := "()I" } : Jvm.MethodName)) ∈ lw_all := lw_g (lw_at lw_m5 7 rfl) rfl
theorem q1037 : (Jvm.Cond.code ({ cls := "MorrisTablesModel", name := "undo", desc := "()I" } : Jvm.MethodName) prog_8_method_5_code (2 : Nat) (Option.some Jvm.ClassFile.FieldType.int)) ∈ lw_all := lw_g (lw_at lw_m5 8 rfl) rfl
theorem q1039 : (Jvm.Cond.instanceMethod ({ cls := "MorrisTablesModel", name := "save", desc := "(I)I" } : Jvm.MethodName)) ∈ lw_all := lw_g (lw_at lw_m5 10 rfl) rfl
theorem q1040 : (Jvm.Cond.selects "MorrisTablesModel" ({ cls := "MorrisTablesModel", name := "save", desc := "(I)I" } : Jvm.MethodName) ({ cls := "MorrisTablesModel", name := "save", desc := "(I)I" } : Jvm.MethodName)) ∈ lw_all := lw_g (lw_at lw_m5 11 rfl) rfl
theorem q1041 : (Jvm.Cond.code ({ cls := "MorrisTablesModel", name := "save", desc := "(I)I" } : Jvm.MethodName) prog_8_method_6_code (3 : Nat) (Option.some Jvm.ClassFile.FieldType.int)) ∈ lw_all := lw_g (lw_at lw_m5 12 rfl) rfl
theorem q1042 : (Jvm.Cond.methodLink "MorrisTablesModel" (51 : Nat) ({ cls := "MorrisTablesModel", name := "in", desc := "(JII)Z" } : Jvm.MethodName)) ∈ lw_all := lw_g (lw_at lw_m5 13 rfl) rfl
theorem q1043 : (Jvm.Cond.static ({ cls := "MorrisTablesModel", name := "in", desc := "(JII)Z" } : Jvm.MethodName)) ∈ lw_all := lw_g (lw_at lw_m5 14 rfl) rfl
theorem q1044 : (Jvm.Cond.code ({ cls := "MorrisTablesModel", name := "in", desc := "(JII)Z" } : Jvm.MethodName) prog_8_method_2_code (4 : Nat) (Option.some Jvm.ClassFile.FieldType.boolean)) ∈ lw_all := lw_g (lw_at lw_m5 15 rfl) rfl
theorem q1046 : (Jvm.Cond.instanceMethod ({ cls := "MorrisTablesModel", name := "restore", desc := "(I)I" } : Jvm.MethodName)) ∈ lw_all := lw_g (lw_at lw_m5 17 rfl) rfl
theorem q1047 : (Jvm.Cond.selects "MorrisTablesModel" ({ cls := "MorrisTablesModel", name := "restore", desc := "(I)I" } : Jvm.MethodName) ({ cls := "MorrisTablesModel", name := "restore", desc := "(I)I" } : Jvm.MethodName)) ∈ lw_all := lw_g (lw_at lw_m5 18 rfl) rfl
theorem q1048 : (Jvm.Cond.code ({ cls := "MorrisTablesModel", name := "restore", desc := "(I)I" } : Jvm.MethodName) prog_8_method_7_code (3 : Nat) (Option.some Jvm.ClassFile.FieldType.int)) ∈ lw_all := lw_g (lw_at lw_m5 19 rfl) rfl
theorem q1049 : (Jvm.Cond.methodLink "MorrisTablesModel" (55 : Nat) ({ cls := "MorrisTablesModel", name := "remember", desc := "()V" } : Jvm.MethodName)) ∈ lw_all := lw_g (lw_at lw_m5 20 rfl) rfl
theorem q1050 : (Jvm.Cond.privateMethod ({ cls := "MorrisTablesModel", name := "remember", desc := "()V" } : Jvm.MethodName)) ∈ lw_tbl := lw_at lw_m5 21 rfl
theorem q1051 : (Jvm.Cond.instanceMethod ({ cls := "MorrisTablesModel", name := "remember", desc := "()V" } : Jvm.MethodName)) ∈ lw_all := lw_g (lw_at lw_m5 22 rfl) rfl
theorem q1052 : (Jvm.Cond.code ({ cls := "MorrisTablesModel", name := "remember", desc := "()V" } : Jvm.MethodName) prog_8_method_3_code (2 : Nat) (Option.none : Option Jvm.ClassFile.FieldType)) ∈ lw_all := lw_g (lw_at lw_m5 23 rfl) rfl
theorem q1053 : (Jvm.Cond.methodLink "MorrisTablesModel" (58 : Nat) ({ cls := "MorrisTablesModel", name := "record", desc := "(I)I" } : Jvm.MethodName)) ∈ lw_all := lw_g (lw_at lw_m5 24 rfl) rfl
theorem q1054 : (Jvm.Cond.privateMethod ({ cls := "MorrisTablesModel", name := "record", desc := "(I)I" } : Jvm.MethodName)) ∈ lw_tbl := lw_at lw_m5 25 rfl
theorem q1055 : (Jvm.Cond.instanceMethod ({ cls := "MorrisTablesModel", name := "record", desc := "(I)I" } : Jvm.MethodName)) ∈ lw_all := lw_g (lw_at lw_m5 26 rfl) rfl
theorem q1056 : (Jvm.Cond.code ({ cls := "MorrisTablesModel", name := "record", desc := "(I)I" } : Jvm.MethodName) prog_8_method_4_code (3 : Nat) (Option.some Jvm.ClassFile.FieldType.int)) ∈ lw_all := lw_g (lw_at lw_m5 27 rfl) rfl
theorem q1057 : (Jvm.Cond.constant "MorrisTablesModel" (50 : Nat) (35015 : Int32)) ∈ lw_all := lw_g (lw_at lw_m5 28 rfl) rfl
theorem q1059 : (Jvm.Cond.instanceMethod ({ cls := "MorrisTablesModel", name := "set", desc := "(II)I" } : Jvm.MethodName)) ∈ lw_all := lw_g (lw_at lw_m5 30 rfl) rfl
theorem q1060 : (Jvm.Cond.selects "MorrisTablesModel" ({ cls := "MorrisTablesModel", name := "set", desc := "(II)I" } : Jvm.MethodName) ({ cls := "MorrisTablesModel", name := "set", desc := "(II)I" } : Jvm.MethodName)) ∈ lw_all := lw_g (lw_at lw_m5 31 rfl) rfl
theorem q1061 : (Jvm.Cond.code ({ cls := "MorrisTablesModel", name := "set", desc := "(II)I" } : Jvm.MethodName) prog_8_method_35_code (4 : Nat) (Option.some Jvm.ClassFile.FieldType.int)) ∈ lw_all := lw_g (lw_at lw_m5 32 rfl) rfl
theorem q1062 : (Jvm.Cond.methodLink "MorrisTablesModel" (143 : Nat) ({ cls := "MorrisTablesModel", name := "anew", desc := "()V" } : Jvm.MethodName)) ∈ lw_all := lw_g (lw_at lw_m5 33 rfl) rfl
theorem q1063 : (Jvm.Cond.privateMethod ({ cls := "MorrisTablesModel", name := "anew", desc := "()V" } : Jvm.MethodName)) ∈ lw_tbl := lw_at lw_m5 34 rfl
theorem q1064 : (Jvm.Cond.instanceMethod ({ cls := "MorrisTablesModel", name := "anew", desc := "()V" } : Jvm.MethodName)) ∈ lw_all := lw_g (lw_at lw_m5 35 rfl) rfl
theorem q1065 : (Jvm.Cond.code ({ cls := "MorrisTablesModel", name := "anew", desc := "()V" } : Jvm.MethodName) prog_8_method_30_code (2 : Nat) (Option.none : Option Jvm.ClassFile.FieldType)) ∈ lw_all := lw_g (lw_at lw_m5 36 rfl) rfl
theorem q1067 : (Jvm.Cond.instanceMethod ({ cls := "MorrisTablesModel", name := "begin", desc := "()I" } : Jvm.MethodName)) ∈ lw_all := lw_g (lw_at lw_m5 38 rfl) rfl
theorem q1068 : (Jvm.Cond.selects "MorrisTablesModel" ({ cls := "MorrisTablesModel", name := "begin", desc := "()I" } : Jvm.MethodName) ({ cls := "MorrisTablesModel", name := "begin", desc := "()I" } : Jvm.MethodName)) ∈ lw_all := lw_g (lw_at lw_m5 39 rfl) rfl
theorem q1069 : (Jvm.Cond.code ({ cls := "MorrisTablesModel", name := "begin", desc := "()I" } : Jvm.MethodName) prog_8_method_36_code (2 : Nat) (Option.some Jvm.ClassFile.FieldType.int)) ∈ lw_all := lw_g (lw_at lw_m5 40 rfl) rfl
theorem q1071 : (Jvm.Cond.instanceMethod ({ cls := "MorrisTablesModel", name := "place", desc := "(I)I" } : Jvm.MethodName)) ∈ lw_all := lw_g (lw_at lw_m5 42 rfl) rfl
theorem q1072 : (Jvm.Cond.selects "MorrisTablesModel" ({ cls := "MorrisTablesModel", name := "place", desc := "(I)I" } : Jvm.MethodName) ({ cls := "MorrisTablesModel", name := "place", desc := "(I)I" } : Jvm.MethodName)) ∈ lw_all := lw_g (lw_at lw_m5 43 rfl) rfl
theorem q1073 : (Jvm.Cond.code ({ cls := "MorrisTablesModel", name := "place", desc := "(I)I" } : Jvm.MethodName) prog_8_method_37_code (2 : Nat) (Option.some Jvm.ClassFile.FieldType.int)) ∈ lw_all := lw_g (lw_at lw_m5 44 rfl) rfl
theorem q1074 : (Jvm.Cond.methodLink "MorrisTablesModel" (146 : Nat) ({ cls := "MorrisTablesModel", name := "places", desc := "(I)I" } : Jvm.MethodName)) ∈ lw_all := lw_g (lw_at lw_m5 45 rfl) rfl
theorem q1075 : (Jvm.Cond.privateMethod ({ cls := "MorrisTablesModel", name := "places", desc := "(I)I" } : Jvm.MethodName)) ∈ lw_tbl := lw_at lw_m5 46 rfl
theorem q1076 : (Jvm.Cond.instanceMethod ({ cls := "MorrisTablesModel", name := "places", desc := "(I)I" } : Jvm.MethodName)) ∈ lw_all := lw_g (lw_at lw_m5 47 rfl) rfl
theorem q1077 : (Jvm.Cond.code ({ cls := "MorrisTablesModel", name := "places", desc := "(I)I" } : Jvm.MethodName) prog_8_method_32_code (2 : Nat) (Option.some Jvm.ClassFile.FieldType.int)) ∈ lw_all := lw_g (lw_at lw_m5 48 rfl) rfl
theorem q1078 : (Jvm.Cond.methodLink "MorrisTablesModel" (136 : Nat) ({ cls := "MorrisTablesModel", name := "moves", desc := "(IZ)I" } : Jvm.MethodName)) ∈ lw_all := lw_g (lw_at lw_m5 49 rfl) rfl
theorem q1079 : (Jvm.Cond.privateMethod ({ cls := "MorrisTablesModel", name := "moves", desc := "(IZ)I" } : Jvm.MethodName)) ∈ lw_tbl := lw_at lw_m5 50 rfl
theorem q1080 : (Jvm.Cond.instanceMethod ({ cls := "MorrisTablesModel", name := "moves", desc := "(IZ)I" } : Jvm.MethodName)) ∈ lw_all := lw_g (lw_at lw_m5 51 rfl) rfl
theorem q1081 : (Jvm.Cond.code ({ cls := "MorrisTablesModel", name := "moves", desc := "(IZ)I" } : Jvm.MethodName) prog_8_method_31_code (4 : Nat) (Option.some Jvm.ClassFile.FieldType.int)) ∈ lw_all := lw_g (lw_at lw_m5 52 rfl) rfl
theorem q1082 : (Jvm.Cond.methodLink "MorrisTablesModel" (130 : Nat) ({ cls := "MorrisTablesModel", name := "isMove", desc := "(I)Z" } : Jvm.MethodName)) ∈ lw_all := lw_g (lw_at lw_m5 53 rfl) rfl
theorem q1083 : (Jvm.Cond.privateMethod ({ cls := "MorrisTablesModel", name := "isMove", desc := "(I)Z" } : Jvm.MethodName)) ∈ lw_tbl := lw_at lw_m5 54 rfl
theorem q1084 : (Jvm.Cond.instanceMethod ({ cls := "MorrisTablesModel", name := "isMove", desc := "(I)Z" } : Jvm.MethodName)) ∈ lw_all := lw_g (lw_at lw_m5 55 rfl) rfl
theorem q1085 : (Jvm.Cond.code ({ cls := "MorrisTablesModel", name := "isMove", desc := "(I)Z" } : Jvm.MethodName) prog_8_method_27_code (3 : Nat) (Option.some Jvm.ClassFile.FieldType.boolean)) ∈ lw_all := lw_g (lw_at lw_m5 56 rfl) rfl
theorem q1086 : (Jvm.Cond.methodLink "MorrisTablesModel" (124 : Nat) ({ cls := "MorrisTablesModel", name := "lookNow", desc := "()V" } : Jvm.MethodName)) ∈ lw_all := lw_g (lw_at lw_m5 57 rfl) rfl
theorem q1087 : (Jvm.Cond.privateMethod ({ cls := "MorrisTablesModel", name := "lookNow", desc := "()V" } : Jvm.MethodName)) ∈ lw_tbl := lw_at lw_m5 58 rfl
theorem q1088 : (Jvm.Cond.instanceMethod ({ cls := "MorrisTablesModel", name := "lookNow", desc := "()V" } : Jvm.MethodName)) ∈ lw_all := lw_g (lw_at lw_m5 59 rfl) rfl
theorem q1089 : (Jvm.Cond.code ({ cls := "MorrisTablesModel", name := "lookNow", desc := "()V" } : Jvm.MethodName) prog_8_method_26_code (2 : Nat) (Option.none : Option Jvm.ClassFile.FieldType)) ∈ lw_all := lw_g (lw_at lw_m5 60 rfl) rfl
theorem q1090 : (Jvm.Cond.methodLink "MorrisTablesModel" (121 : Nat) ({ cls := "MorrisTablesModel", name := "isOver", desc := "()Z" } : Jvm.MethodName)) ∈ lw_all := lw_g (lw_at lw_m5 61 rfl) rfl
theorem q1091 : (Jvm.Cond.privateMethod ({ cls := "MorrisTablesModel", name := "isOver", desc := "()Z" } : Jvm.MethodName)) ∈ lw_tbl := lw_at lw_m5 62 rfl
theorem q1092 : (Jvm.Cond.instanceMethod ({ cls := "MorrisTablesModel", name := "isOver", desc := "()Z" } : Jvm.MethodName)) ∈ lw_all := lw_g (lw_at lw_m5 63 rfl) rfl
theorem q1093 : (Jvm.Cond.code ({ cls := "MorrisTablesModel", name := "isOver", desc := "()Z" } : Jvm.MethodName) prog_8_method_25_code (1 : Nat) (Option.some Jvm.ClassFile.FieldType.boolean)) ∈ lw_all := lw_g (lw_at lw_m5 64 rfl) rfl
theorem q1094 : (Jvm.Cond.methodLink "MorrisTablesModel" (118 : Nat) ({ cls := "MorrisTablesModel", name := "hasLost", desc := "()Z" } : Jvm.MethodName)) ∈ lw_all := lw_g (lw_at lw_m5 65 rfl) rfl
theorem q1095 : (Jvm.Cond.privateMethod ({ cls := "MorrisTablesModel", name := "hasLost", desc := "()Z" } : Jvm.MethodName)) ∈ lw_tbl := lw_at lw_m5 66 rfl
theorem q1096 : (Jvm.Cond.instanceMethod ({ cls := "MorrisTablesModel", name := "hasLost", desc := "()Z" } : Jvm.MethodName)) ∈ lw_all := lw_g (lw_at lw_m5 67 rfl) rfl
theorem q1097 : (Jvm.Cond.code ({ cls := "MorrisTablesModel", name := "hasLost", desc := "()Z" } : Jvm.MethodName) prog_8_method_22_code (1 : Nat) (Option.some Jvm.ClassFile.FieldType.boolean)) ∈ lw_all := lw_g (lw_at lw_m5 68 rfl) rfl
theorem q1098 : (Jvm.Cond.methodLink "MorrisTablesModel" (112 : Nat) ({ cls := "MorrisTablesModel", name := "now", desc := "()I" } : Jvm.MethodName)) ∈ lw_all := lw_g (lw_at lw_m5 69 rfl) rfl
theorem q1099 : (Jvm.Cond.privateMethod ({ cls := "MorrisTablesModel", name := "now", desc := "()I" } : Jvm.MethodName)) ∈ lw_tbl := lw_at lw_m5 70 rfl
theorem q1100 : (Jvm.Cond.instanceMethod ({ cls := "MorrisTablesModel", name := "now", desc := "()I" } : Jvm.MethodName)) ∈ lw_all := lw_g (lw_at lw_m5 71 rfl) rfl
theorem q1101 : (Jvm.Cond.code ({ cls := "MorrisTablesModel", name := "now", desc := "()I" } : Jvm.MethodName) prog_8_method_8_code (1 : Nat) (Option.some Jvm.ClassFile.FieldType.int)) ∈ lw_all := lw_g (lw_at lw_m5 72 rfl) rfl
theorem q1102 : (Jvm.Cond.methodLink "MorrisTablesModel" (87 : Nat) ({ cls := "MorrisTablesModel", name := "open", desc := "(I)V" } : Jvm.MethodName)) ∈ lw_all := lw_g (lw_at lw_m5 73 rfl) rfl
theorem q1103 : (Jvm.Cond.privateMethod ({ cls := "MorrisTablesModel", name := "open", desc := "(I)V" } : Jvm.MethodName)) ∈ lw_tbl := lw_at lw_m5 74 rfl
theorem q1104 : (Jvm.Cond.instanceMethod ({ cls := "MorrisTablesModel", name := "open", desc := "(I)V" } : Jvm.MethodName)) ∈ lw_all := lw_g (lw_at lw_m5 75 rfl) rfl
theorem q1105 : (Jvm.Cond.code ({ cls := "MorrisTablesModel", name := "open", desc := "(I)V" } : Jvm.MethodName) prog_8_method_9_code (4 : Nat) (Option.none : Option Jvm.ClassFile.FieldType)) ∈ lw_all := lw_g (lw_at lw_m5 76 rfl) rfl
theorem q1106 : (Jvm.Cond.methodLink "MorrisTablesModel" (99 : Nat) ({ cls := "MorrisTablesModel", name := "look", desc := "()V" } : Jvm.MethodName)) ∈ lw_all := lw_g (lw_at lw_m5 77 rfl) rfl
theorem q1107 : (Jvm.Cond.privateMethod ({ cls := "MorrisTablesModel", name := "look", desc := "()V" } : Jvm.MethodName)) ∈ lw_tbl := lw_at lw_m5 78 rfl
theorem q1108 : (Jvm.Cond.instanceMethod ({ cls := "MorrisTablesModel", name := "look", desc := "()V" } : Jvm.MethodName)) ∈ lw_all := lw_g (lw_at lw_m5 79 rfl) rfl
theorem q1109 : (Jvm.Cond.code ({ cls := "MorrisTablesModel", name := "look", desc := "()V" } : Jvm.MethodName) prog_8_method_16_code (4 : Nat) (Option.none : Option Jvm.ClassFile.FieldType)) ∈ lw_all := lw_g (lw_at lw_m5 80 rfl) rfl
theorem q1110 : (Jvm.Cond.methodLink "MorrisTablesModel" (72 : Nat) ({ cls := "MorrisTablesModel", name := "hasLine", desc := "(I)Z" } : Jvm.MethodName)) ∈ lw_all := lw_g (lw_at lw_m5 81 rfl) rfl
theorem q1111 : (Jvm.Cond.privateMethod ({ cls := "MorrisTablesModel", name := "hasLine", desc := "(I)Z" } : Jvm.MethodName)) ∈ lw_tbl := lw_at lw_m5 82 rfl
theorem q1112 : (Jvm.Cond.instanceMethod ({ cls := "MorrisTablesModel", name := "hasLine", desc := "(I)Z" } : Jvm.MethodName)) ∈ lw_all := lw_g (lw_at lw_m5 83 rfl) rfl
theorem q1113 : (Jvm.Cond.code ({ cls := "MorrisTablesModel", name := "hasLine", desc := "(I)Z" } : Jvm.MethodName) prog_8_method_13_code (3 : Nat) (Option.some Jvm.ClassFile.FieldType.boolean)) ∈ lw_all := lw_g (lw_at lw_m5 84 rfl) rfl
theorem q1114 : (Jvm.Cond.methodLink "MorrisTablesModel" (65 : Nat) ({ cls := "MorrisTablesModel", name := "three", desc := "(III)Z" } : Jvm.MethodName)) ∈ lw_all := lw_g (lw_at lw_m5 85 rfl) rfl
theorem q1115 : (Jvm.Cond.privateMethod ({ cls := "MorrisTablesModel", name := "three", desc := "(III)Z" } : Jvm.MethodName)) ∈ lw_tbl := lw_at lw_m5 86 rfl
theorem q1116 : (Jvm.Cond.instanceMethod ({ cls := "MorrisTablesModel", name := "three", desc := "(III)Z" } : Jvm.MethodName)) ∈ lw_all := lw_g (lw_at lw_m5 87 rfl) rfl
theorem q1117 : (Jvm.Cond.code ({ cls := "MorrisTablesModel", name := "three", desc := "(III)Z" } : Jvm.MethodName) prog_8_method_12_code (5 : Nat) (Option.some Jvm.ClassFile.FieldType.boolean)) ∈ lw_all := lw_g (lw_at lw_m5 88 rfl) rfl
theorem q1118 : (Jvm.Cond.methodLink "MorrisTablesModel" (69 : Nat) ({ cls := "MorrisTablesModel", name := "men", desc := "(I)I" } : Jvm.MethodName)) ∈ lw_all := lw_g (lw_at lw_m5 89 rfl) rfl
theorem q1119 : (Jvm.Cond.privateMethod ({ cls := "MorrisTablesModel", name := "men", desc := "(I)I" } : Jvm.MethodName)) ∈ lw_tbl := lw_at lw_m5 90 rfl
theorem q1120 : (Jvm.Cond.instanceMethod ({ cls := "MorrisTablesModel", name := "men", desc := "(I)I" } : Jvm.MethodName)) ∈ lw_all := lw_g (lw_at lw_m5 91 rfl) rfl
theorem q1121 : (Jvm.Cond.code ({ cls := "MorrisTablesModel", name := "men", desc := "(I)I" } : Jvm.MethodName) prog_8_method_11_code (4 : Nat) (Option.some Jvm.ClassFile.FieldType.int)) ∈ lw_all := lw_g (lw_at lw_m5 92 rfl) rfl
theorem q1122 : (Jvm.Cond.methodLink "MorrisTablesModel" (79 : Nat) ({ cls := "MorrisTablesModel", name := "areNeighbours", desc := "(II)Z" } : Jvm.MethodName)) ∈ lw_all := lw_g (lw_at lw_m5 93 rfl) rfl
theorem q1123 : (Jvm.Cond.privateMethod ({ cls := "MorrisTablesModel", name := "areNeighbours", desc := "(II)Z" } : Jvm.MethodName)) ∈ lw_tbl := lw_at lw_m5 94 rfl
theorem q1124 : (Jvm.Cond.instanceMethod ({ cls := "MorrisTablesModel", name := "areNeighbours", desc := "(II)Z" } : Jvm.MethodName)) ∈ lw_all := lw_g (lw_at lw_m5 95 rfl) rfl
theorem q1125 : (Jvm.Cond.code ({ cls := "MorrisTablesModel", name := "areNeighbours", desc := "(II)Z" } : Jvm.MethodName) prog_8_method_14_code (6 : Nat) (Option.some Jvm.ClassFile.FieldType.boolean)) ∈ lw_all := lw_g (lw_at lw_m5 96 rfl) rfl
theorem q1126 : (Jvm.Cond.methodLink "MorrisTablesModel" (115 : Nat) ({ cls := "MorrisTablesModel", name := "often", desc := "()I" } : Jvm.MethodName)) ∈ lw_all := lw_g (lw_at lw_m5 97 rfl) rfl
theorem q1127 : (Jvm.Cond.privateMethod ({ cls := "MorrisTablesModel", name := "often", desc := "()I" } : Jvm.MethodName)) ∈ lw_tbl := lw_at lw_m5 98 rfl
theorem q1128 : (Jvm.Cond.instanceMethod ({ cls := "MorrisTablesModel", name := "often", desc := "()I" } : Jvm.MethodName)) ∈ lw_all := lw_g (lw_at lw_m5 99 rfl) rfl
theorem q1129 : (Jvm.Cond.code ({ cls := "MorrisTablesModel", name := "often", desc := "()I" } : Jvm.MethodName) prog_8_method_23_code (3 : Nat) (Option.some Jvm.ClassFile.FieldType.int)) ∈ lw_all := lw_g (lw_at lw_m5 100 rfl) rfl
theorem q1130 : (Jvm.Cond.methodLink "MorrisTablesModel" (133 : Nat) ({ cls := "MorrisTablesModel", name := "goes", desc := "(I)V" } : Jvm.MethodName)) ∈ lw_all := lw_g (lw_at lw_m5 101 rfl) rfl
theorem q1131 : (Jvm.Cond.privateMethod ({ cls := "MorrisTablesModel", name := "goes", desc := "(I)V" } : Jvm.MethodName)) ∈ lw_tbl := lw_at lw_m5 102 rfl
theorem q1132 : (Jvm.Cond.instanceMethod ({ cls := "MorrisTablesModel", name := "goes", desc := "(I)V" } : Jvm.MethodName)) ∈ lw_all := lw_g (lw_at lw_m5 103 rfl) rfl
theorem q1133 : (Jvm.Cond.code ({ cls := "MorrisTablesModel", name := "goes", desc := "(I)V" } : Jvm.MethodName) prog_8_method_28_code (3 : Nat) (Option.none : Option Jvm.ClassFile.FieldType)) ∈ lw_all := lw_g (lw_at lw_m5 104 rfl) rfl
theorem q1134 : (Jvm.Cond.methodLink "MorrisTablesModel" (106 : Nat) ({ cls := "MorrisTablesModel", name := "next", desc := "(I)I" } : Jvm.MethodName)) ∈ lw_all := lw_g (lw_at lw_m5 105 rfl) rfl
theorem q1135 : (Jvm.Cond.privateMethod ({ cls := "MorrisTablesModel", name := "next", desc := "(I)I" } : Jvm.MethodName)) ∈ lw_tbl := lw_at lw_m5 106 rfl
theorem q1136 : (Jvm.Cond.instanceMethod ({ cls := "MorrisTablesModel", name := "next", desc := "(I)I" } : Jvm.MethodName)) ∈ lw_all := lw_g (lw_at lw_m5 107 rfl) rfl
theorem q1137 : (Jvm.Cond.code ({ cls := "MorrisTablesModel", name := "next", desc := "(I)I" } : Jvm.MethodName) prog_8_method_17_code (4 : Nat) (Option.some Jvm.ClassFile.FieldType.int)) ∈ lw_all := lw_g (lw_at lw_m5 108 rfl) rfl
theorem q1138 : (Jvm.Cond.methodLink "MorrisTablesModel" (83 : Nat) ({ cls := "MorrisTablesModel", name := "code", desc := "()I" } : Jvm.MethodName)) ∈ lw_all := lw_g (lw_at lw_m5 109 rfl) rfl
theorem q1139 : (Jvm.Cond.privateMethod ({ cls := "MorrisTablesModel", name := "code", desc := "()I" } : Jvm.MethodName)) ∈ lw_tbl := lw_at lw_m5 110 rfl
theorem q1140 : (Jvm.Cond.instanceMethod ({ cls := "MorrisTablesModel", name := "code", desc := "()I" } : Jvm.MethodName)) ∈ lw_all := lw_g (lw_at lw_m5 111 rfl) rfl
theorem q1141 : (Jvm.Cond.code ({ cls := "MorrisTablesModel", name := "code", desc := "()I" } : Jvm.MethodName) prog_8_method_10_code (3 : Nat) (Option.some Jvm.ClassFile.FieldType.int)) ∈ lw_all := lw_g (lw_at lw_m5 112 rfl) rfl
theorem q1143 : (Jvm.Cond.instanceMethod ({ cls := "MorrisTablesModel", name := "slide", desc := "(II)I" } : Jvm.MethodName)) ∈ lw_all := lw_g (lw_at lw_m5 114 rfl) rfl
theorem q1144 : (Jvm.Cond.selects "MorrisTablesModel" ({ cls := "MorrisTablesModel", name := "slide", desc := "(II)I" } : Jvm.MethodName) ({ cls := "MorrisTablesModel", name := "slide", desc := "(II)I" } : Jvm.MethodName)) ∈ lw_all := lw_g (lw_at lw_m5 115 rfl) rfl
theorem q1145 : (Jvm.Cond.code ({ cls := "MorrisTablesModel", name := "slide", desc := "(II)I" } : Jvm.MethodName) prog_8_method_38_code (3 : Nat) (Option.some Jvm.ClassFile.FieldType.int)) ∈ lw_all := lw_g (lw_at lw_m5 116 rfl) rfl
theorem q1146 : (Jvm.Cond.methodLink "MorrisTablesModel" (149 : Nat) ({ cls := "MorrisTablesModel", name := "slides", desc := "(II)I" } : Jvm.MethodName)) ∈ lw_all := lw_g (lw_at lw_m5 117 rfl) rfl
theorem q1147 : (Jvm.Cond.privateMethod ({ cls := "MorrisTablesModel", name := "slides", desc := "(II)I" } : Jvm.MethodName)) ∈ lw_tbl := lw_at lw_m5 118 rfl
theorem q1148 : (Jvm.Cond.instanceMethod ({ cls := "MorrisTablesModel", name := "slides", desc := "(II)I" } : Jvm.MethodName)) ∈ lw_all := lw_g (lw_at lw_m5 119 rfl) rfl
theorem q1149 : (Jvm.Cond.code ({ cls := "MorrisTablesModel", name := "slides", desc := "(II)I" } : Jvm.MethodName) prog_8_method_33_code (3 : Nat) (Option.some Jvm.ClassFile.FieldType.int)) ∈ lw_all := lw_g (lw_at lw_m5 120 rfl) rfl
theorem q1151 : (Jvm.Cond.instanceMethod ({ cls := "MorrisTablesModel", name := "pass", desc := "()I" } : Jvm.MethodName)) ∈ lw_all := lw_g (lw_at lw_m5 122 rfl) rfl
theorem q1152 : (Jvm.Cond.selects "MorrisTablesModel" ({ cls := "MorrisTablesModel", name := "pass", desc := "()I" } : Jvm.MethodName) ({ cls := "MorrisTablesModel", name := "pass", desc := "()I" } : Jvm.MethodName)) ∈ lw_all := lw_g (lw_at lw_m5 123 rfl) rfl
theorem q1153 : (Jvm.Cond.code ({ cls := "MorrisTablesModel", name := "pass", desc := "()I" } : Jvm.MethodName) prog_8_method_39_code (1 : Nat) (Option.some Jvm.ClassFile.FieldType.int)) ∈ lw_all := lw_g (lw_at lw_m5 124 rfl) rfl
theorem q1155 : (Jvm.Cond.instanceMethod ({ cls := "MorrisTablesModel", name := "play", desc := "(I)I" } : Jvm.MethodName)) ∈ lw_all := lw_g (lw_at lw_m5 126 rfl) rfl
theorem q1156 : (Jvm.Cond.selects "MorrisTablesModel" ({ cls := "MorrisTablesModel", name := "play", desc := "(I)I" } : Jvm.MethodName) ({ cls := "MorrisTablesModel", name := "play", desc := "(I)I" } : Jvm.MethodName)) ∈ lw_all := lw_g (lw_at lw_m5 127 rfl) rfl
theorem q1157 : (Jvm.Cond.code ({ cls := "MorrisTablesModel", name := "play", desc := "(I)I" } : Jvm.MethodName) prog_8_method_40_code (2 : Nat) (Option.some Jvm.ClassFile.FieldType.int)) ∈ lw_all := lw_g (lw_at lw_m5 128 rfl) rfl
theorem q1158 : (Jvm.Cond.methodLink "MorrisTablesModel" (153 : Nat) ({ cls := "MorrisTablesModel", name := "plays", desc := "(I)I" } : Jvm.MethodName)) ∈ lw_all := lw_g (lw_at lw_m5 129 rfl) rfl
theorem q1159 : (Jvm.Cond.privateMethod ({ cls := "MorrisTablesModel", name := "plays", desc := "(I)I" } : Jvm.MethodName)) ∈ lw_tbl := lw_at lw_m5 130 rfl
theorem q1160 : (Jvm.Cond.instanceMethod ({ cls := "MorrisTablesModel", name := "plays", desc := "(I)I" } : Jvm.MethodName)) ∈ lw_all := lw_g (lw_at lw_m5 131 rfl) rfl
theorem q1161 : (Jvm.Cond.code ({ cls := "MorrisTablesModel", name := "plays", desc := "(I)I" } : Jvm.MethodName) prog_8_method_34_code (3 : Nat) (Option.some Jvm.ClassFile.FieldType.int)) ∈ lw_all := lw_g (lw_at lw_m5 132 rfl) rfl
theorem q1162 : (Jvm.Cond.methodLink "MorrisTablesModel" (140 : Nat) ({ cls := "MorrisTablesModel", name := "bestMove", desc := "()I" } : Jvm.MethodName)) ∈ lw_all := lw_g (lw_at lw_m5 133 rfl) rfl
theorem q1163 : (Jvm.Cond.privateMethod ({ cls := "MorrisTablesModel", name := "bestMove", desc := "()I" } : Jvm.MethodName)) ∈ lw_tbl := lw_at lw_m5 134 rfl
theorem q1164 : (Jvm.Cond.instanceMethod ({ cls := "MorrisTablesModel", name := "bestMove", desc := "()I" } : Jvm.MethodName)) ∈ lw_all := lw_g (lw_at lw_m5 135 rfl) rfl
theorem q1165 : (Jvm.Cond.code ({ cls := "MorrisTablesModel", name := "bestMove", desc := "()I" } : Jvm.MethodName) prog_8_method_29_code (4 : Nat) (Option.some Jvm.ClassFile.FieldType.int)) ∈ lw_all := lw_g (lw_at lw_m5 136 rfl) rfl
theorem q1166 : (Jvm.Cond.methodLink "MorrisTablesModel" (127 : Nat) ({ cls := "MorrisTablesModel", name := "worthAt", desc := "(I)I" } : Jvm.MethodName)) ∈ lw_all := lw_g (lw_at lw_m5 137 rfl) rfl
theorem q1167 : (Jvm.Cond.privateMethod ({ cls := "MorrisTablesModel", name := "worthAt", desc := "(I)I" } : Jvm.MethodName)) ∈ lw_tbl := lw_at lw_m5 138 rfl
theorem q1168 : (Jvm.Cond.instanceMethod ({ cls := "MorrisTablesModel", name := "worthAt", desc := "(I)I" } : Jvm.MethodName)) ∈ lw_all := lw_g (lw_at lw_m5 139 rfl) rfl
theorem q1169 : (Jvm.Cond.code ({ cls := "MorrisTablesModel", name := "worthAt", desc := "(I)I" } : Jvm.MethodName) prog_8_method_21_code (2 : Nat) (Option.some Jvm.ClassFile.FieldType.int)) ∈ lw_all := lw_g (lw_at lw_m5 140 rfl) rfl
theorem q1170 : (Jvm.Cond.methodLink "MorrisTablesModel" (109 : Nat) ({ cls := "MorrisTablesModel", name := "table", desc := "()I" } : Jvm.MethodName)) ∈ lw_all := lw_g (lw_at lw_m5 141 rfl) rfl
theorem q1171 : (Jvm.Cond.privateMethod ({ cls := "MorrisTablesModel", name := "table", desc := "()I" } : Jvm.MethodName)) ∈ lw_tbl := lw_at lw_m5 142 rfl
theorem q1172 : (Jvm.Cond.instanceMethod ({ cls := "MorrisTablesModel", name := "table", desc := "()I" } : Jvm.MethodName)) ∈ lw_all := lw_g (lw_at lw_m5 143 rfl) rfl
theorem q1173 : (Jvm.Cond.code ({ cls := "MorrisTablesModel", name := "table", desc := "()I" } : Jvm.MethodName) prog_8_method_18_code (3 : Nat) (Option.some Jvm.ClassFile.FieldType.int)) ∈ lw_all := lw_g (lw_at lw_m5 144 rfl) rfl
theorem q1174 : (Jvm.Cond.constant "MorrisTablesModel" (91 : Nat) (39366 : Int32)) ∈ lw_all := lw_g (lw_at lw_m5 145 rfl) rfl
theorem q1175 : (Jvm.Cond.methodLink "MorrisTablesModel" (92 : Nat) ({ cls := "MorrisTablesModel", name := "make", desc := "(I)V" } : Jvm.MethodName)) ∈ lw_all := lw_g (lw_at lw_m5 146 rfl) rfl
theorem q1176 : (Jvm.Cond.privateMethod ({ cls := "MorrisTablesModel", name := "make", desc := "(I)V" } : Jvm.MethodName)) ∈ lw_tbl := lw_at lw_m5 147 rfl
theorem q1177 : (Jvm.Cond.instanceMethod ({ cls := "MorrisTablesModel", name := "make", desc := "(I)V" } : Jvm.MethodName)) ∈ lw_all := lw_g (lw_at lw_m5 148 rfl) rfl
theorem q1178 : (Jvm.Cond.code ({ cls := "MorrisTablesModel", name := "make", desc := "(I)V" } : Jvm.MethodName) prog_8_method_19_code (6 : Nat) (Option.none : Option Jvm.ClassFile.FieldType)) ∈ lw_all := lw_g (lw_at lw_m5 149 rfl) rfl
theorem q1179 : (Jvm.Cond.methodLink "MorrisTablesModel" (95 : Nat) ({ cls := "MorrisTablesModel", name := "isLegal", desc := "()Z" } : Jvm.MethodName)) ∈ lw_all := lw_g (lw_at lw_m5 150 rfl) rfl
theorem q1180 : (Jvm.Cond.privateMethod ({ cls := "MorrisTablesModel", name := "isLegal", desc := "()Z" } : Jvm.MethodName)) ∈ lw_tbl := lw_at lw_m5 151 rfl
theorem q1181 : (Jvm.Cond.instanceMethod ({ cls := "MorrisTablesModel", name := "isLegal", desc := "()Z" } : Jvm.MethodName)) ∈ lw_all := lw_g (lw_at lw_m5 152 rfl) rfl
theorem q1182 : (Jvm.Cond.code ({ cls := "MorrisTablesModel", name := "isLegal", desc := "()Z" } : Jvm.MethodName) prog_8_method_15_code (4 : Nat) (Option.some Jvm.ClassFile.FieldType.boolean)) ∈ lw_all := lw_g (lw_at lw_m5 153 rfl) rfl
theorem q1183 : (Jvm.Cond.methodLink "MorrisTablesModel" (102 : Nat) ({ cls := "MorrisTablesModel", name := "found", desc := "(III)I" } : Jvm.MethodName)) ∈ lw_all := lw_g (lw_at lw_m5 154 rfl) rfl
theorem q1184 : (Jvm.Cond.privateMethod ({ cls := "MorrisTablesModel", name := "found", desc := "(III)I" } : Jvm.MethodName)) ∈ lw_tbl := lw_at lw_m5 155 rfl
theorem q1185 : (Jvm.Cond.instanceMethod ({ cls := "MorrisTablesModel", name := "found", desc := "(III)I" } : Jvm.MethodName)) ∈ lw_all := lw_g (lw_at lw_m5 156 rfl) rfl
theorem q1186 : (Jvm.Cond.code ({ cls := "MorrisTablesModel", name := "found", desc := "(III)I" } : Jvm.MethodName) prog_8_method_20_code (7 : Nat) (Option.some Jvm.ClassFile.FieldType.int)) ∈ lw_all := lw_g (lw_at lw_m5 157 rfl) rfl
theorem q1188 : (Jvm.Cond.instanceMethod ({ cls := "MorrisTablesModel", name := "at", desc := "(I)I" } : Jvm.MethodName)) ∈ lw_all := lw_g (lw_at lw_m5 159 rfl) rfl
theorem q1189 : (Jvm.Cond.selects "MorrisTablesModel" ({ cls := "MorrisTablesModel", name := "at", desc := "(I)I" } : Jvm.MethodName) ({ cls := "MorrisTablesModel", name := "at", desc := "(I)I" } : Jvm.MethodName)) ∈ lw_all := lw_g (lw_at lw_m5 160 rfl) rfl
theorem q1190 : (Jvm.Cond.code ({ cls := "MorrisTablesModel", name := "at", desc := "(I)I" } : Jvm.MethodName) prog_8_method_41_code (2 : Nat) (Option.some Jvm.ClassFile.FieldType.int)) ∈ lw_all := lw_g (lw_at lw_m5 161 rfl) rfl
theorem q1192 : (Jvm.Cond.instanceMethod ({ cls := "MorrisTablesModel", name := "count", desc := "(I)I" } : Jvm.MethodName)) ∈ lw_all := lw_g (lw_at lw_m5 163 rfl) rfl
theorem q1193 : (Jvm.Cond.selects "MorrisTablesModel" ({ cls := "MorrisTablesModel", name := "count", desc := "(I)I" } : Jvm.MethodName) ({ cls := "MorrisTablesModel", name := "count", desc := "(I)I" } : Jvm.MethodName)) ∈ lw_all := lw_g (lw_at lw_m5 164 rfl) rfl
theorem q1194 : (Jvm.Cond.code ({ cls := "MorrisTablesModel", name := "count", desc := "(I)I" } : Jvm.MethodName) prog_8_method_42_code (2 : Nat) (Option.some Jvm.ClassFile.FieldType.int)) ∈ lw_all := lw_g (lw_at lw_m5 165 rfl) rfl
theorem q1195 : (Jvm.Cond.methodLink "MorrisTablesModel" (156 : Nat) ({ cls := "MorrisTablesModel", name := "isDrawn", desc := "()Z" } : Jvm.MethodName)) ∈ lw_all := lw_g (lw_at lw_m5 166 rfl) rfl
theorem q1196 : (Jvm.Cond.privateMethod ({ cls := "MorrisTablesModel", name := "isDrawn", desc := "()Z" } : Jvm.MethodName)) ∈ lw_tbl := lw_at lw_m5 167 rfl
theorem q1197 : (Jvm.Cond.instanceMethod ({ cls := "MorrisTablesModel", name := "isDrawn", desc := "()Z" } : Jvm.MethodName)) ∈ lw_all := lw_g (lw_at lw_m5 168 rfl) rfl
theorem q1198 : (Jvm.Cond.code ({ cls := "MorrisTablesModel", name := "isDrawn", desc := "()Z" } : Jvm.MethodName) prog_8_method_24_code (1 : Nat) (Option.some Jvm.ClassFile.FieldType.boolean)) ∈ lw_all := lw_g (lw_at lw_m5 169 rfl) rfl
theorem q1200 : (Jvm.Cond.instanceMethod ({ cls := "MorrisTablesModel", name := "neighbours", desc := "(I)I" } : Jvm.MethodName)) ∈ lw_all := lw_g (lw_at lw_m5 171 rfl) rfl
theorem q1201 : (Jvm.Cond.selects "MorrisTablesModel" ({ cls := "MorrisTablesModel", name := "neighbours", desc := "(I)I" } : Jvm.MethodName) ({ cls := "MorrisTablesModel", name := "neighbours", desc := "(I)I" } : Jvm.MethodName)) ∈ lw_all := lw_g (lw_at lw_m5 172 rfl) rfl
theorem q1202 : (Jvm.Cond.code ({ cls := "MorrisTablesModel", name := "neighbours", desc := "(I)I" } : Jvm.MethodName) prog_8_method_43_code (4 : Nat) (Option.some Jvm.ClassFile.FieldType.int)) ∈ lw_all := lw_g (lw_at lw_m5 173 rfl) rfl
theorem q1204 : (Jvm.Cond.instanceMethod ({ cls := "MorrisTablesModel", name := "move", desc := "(I)I" } : Jvm.MethodName)) ∈ lw_all := lw_g (lw_at lw_m5 175 rfl) rfl
theorem q1205 : (Jvm.Cond.selects "MorrisTablesModel" ({ cls := "MorrisTablesModel", name := "move", desc := "(I)I" } : Jvm.MethodName) ({ cls := "MorrisTablesModel", name := "move", desc := "(I)I" } : Jvm.MethodName)) ∈ lw_all := lw_g (lw_at lw_m5 176 rfl) rfl
theorem q1206 : (Jvm.Cond.code ({ cls := "MorrisTablesModel", name := "move", desc := "(I)I" } : Jvm.MethodName) prog_8_method_44_code (2 : Nat) (Option.some Jvm.ClassFile.FieldType.int)) ∈ lw_all := lw_g (lw_at lw_m5 177 rfl) rfl
theorem q1208 : (Jvm.Cond.instanceMethod ({ cls := "MorrisTablesModel", name := "worth", desc := "()I" } : Jvm.MethodName)) ∈ lw_all := lw_g (lw_at lw_m5 179 rfl) rfl
theorem q1209 : (Jvm.Cond.selects "MorrisTablesModel" ({ cls := "MorrisTablesModel", name := "worth", desc := "()I" } : Jvm.MethodName) ({ cls := "MorrisTablesModel", name := "worth", desc := "()I" } : Jvm.MethodName)) ∈ lw_all := lw_g (lw_at lw_m5 180 rfl) rfl
theorem q1210 : (Jvm.Cond.code ({ cls := "MorrisTablesModel", name := "worth", desc := "()I" } : Jvm.MethodName) prog_8_method_45_code (1 : Nat) (Option.some Jvm.ClassFile.FieldType.int)) ∈ lw_all := lw_g (lw_at lw_m5 181 rfl) rfl
theorem q1212 : (Jvm.Cond.instanceMethod ({ cls := "MorrisTablesModel", name := "behind", desc := "(I)I" } : Jvm.MethodName)) ∈ lw_all := lw_g (lw_at lw_m5 183 rfl) rfl
theorem q1213 : (Jvm.Cond.selects "MorrisTablesModel" ({ cls := "MorrisTablesModel", name := "behind", desc := "(I)I" } : Jvm.MethodName) ({ cls := "MorrisTablesModel", name := "behind", desc := "(I)I" } : Jvm.MethodName)) ∈ lw_all := lw_g (lw_at lw_m5 184 rfl) rfl
theorem q1214 : (Jvm.Cond.code ({ cls := "MorrisTablesModel", name := "behind", desc := "(I)I" } : Jvm.MethodName) prog_8_method_46_code (3 : Nat) (Option.some Jvm.ClassFile.FieldType.int)) ∈ lw_all := lw_g (lw_at lw_m5 185 rfl) rfl
theorem q1216 : (Jvm.Cond.instanceMethod ({ cls := "MorrisTablesModel", name := "best", desc := "()I" } : Jvm.MethodName)) ∈ lw_all := lw_g (lw_at lw_m5 187 rfl) rfl
theorem q1217 : (Jvm.Cond.selects "MorrisTablesModel" ({ cls := "MorrisTablesModel", name := "best", desc := "()I" } : Jvm.MethodName) ({ cls := "MorrisTablesModel", name := "best", desc := "()I" } : Jvm.MethodName)) ∈ lw_all := lw_g (lw_at lw_m5 188 rfl) rfl
theorem q1218 : (Jvm.Cond.code ({ cls := "MorrisTablesModel", name := "best", desc := "()I" } : Jvm.MethodName) prog_8_method_47_code (1 : Nat) (Option.some Jvm.ClassFile.FieldType.int)) ∈ lw_all := lw_g (lw_at lw_m5 189 rfl) rfl
theorem q1220 : (Jvm.Cond.instanceMethod ({ cls := "MorrisTablesModel", name := "worthOf", desc := "(III)I" } : Jvm.MethodName)) ∈ lw_all := lw_g (lw_at lw_m5 191 rfl) rfl
theorem q1221 : (Jvm.Cond.selects "MorrisTablesModel" ({ cls := "MorrisTablesModel", name := "worthOf", desc := "(III)I" } : Jvm.MethodName) ({ cls := "MorrisTablesModel", name := "worthOf", desc := "(III)I" } : Jvm.MethodName)) ∈ lw_all := lw_g (lw_at lw_m5 192 rfl) rfl
theorem q1222 : (Jvm.Cond.code ({ cls := "MorrisTablesModel", name := "worthOf", desc := "(III)I" } : Jvm.MethodName) prog_8_method_48_code (5 : Nat) (Option.some Jvm.ClassFile.FieldType.int)) ∈ lw_all := lw_g (lw_at lw_m5 193 rfl) rfl
theorem q1224 : (Jvm.Cond.instanceMethod ({ cls := "MorrisTablesModel", name := "tally", desc := "(I)I" } : Jvm.MethodName)) ∈ lw_all := lw_g (lw_at lw_m5 195 rfl) rfl
theorem q1225 : (Jvm.Cond.selects "MorrisTablesModel" ({ cls := "MorrisTablesModel", name := "tally", desc := "(I)I" } : Jvm.MethodName) ({ cls := "MorrisTablesModel", name := "tally", desc := "(I)I" } : Jvm.MethodName)) ∈ lw_all := lw_g (lw_at lw_m5 196 rfl) rfl
theorem q1226 : (Jvm.Cond.code ({ cls := "MorrisTablesModel", name := "tally", desc := "(I)I" } : Jvm.MethodName) prog_8_method_49_code (8 : Nat) (Option.some Jvm.ClassFile.FieldType.int)) ∈ lw_all := lw_g (lw_at lw_m5 197 rfl) rfl
theorem q1228 : (Jvm.Cond.instanceMethod ({ cls := "MorrisTablesModel", name := "share", desc := "()I" } : Jvm.MethodName)) ∈ lw_all := lw_g (lw_at lw_m5 199 rfl) rfl
theorem q1229 : (Jvm.Cond.selects "MorrisTablesModel" ({ cls := "MorrisTablesModel", name := "share", desc := "()I" } : Jvm.MethodName) ({ cls := "MorrisTablesModel", name := "share", desc := "()I" } : Jvm.MethodName)) ∈ lw_all := lw_g (lw_at lw_m5 200 rfl) rfl
theorem q1230 : (Jvm.Cond.code ({ cls := "MorrisTablesModel", name := "share", desc := "()I" } : Jvm.MethodName) prog_8_method_50_code (1 : Nat) (Option.some Jvm.ClassFile.FieldType.int)) ∈ lw_all := lw_g (lw_at lw_m5 201 rfl) rfl
theorem q1231 : (Jvm.Cond.methodLink "MorrisTablesModel" (162 : Nat) ({ cls := "MorrisTablesModel", name := "tally", desc := "(I)I" } : Jvm.MethodName)) ∈ lw_all := lw_g (lw_at lw_m5 202 rfl) rfl
theorem q1232 : (Jvm.Cond.methodLink "MorrisTablesModel" (165 : Nat) ({ cls := "java/lang/Float", name := "floatToIntBits", desc := "(F)I" } : Jvm.MethodName)) ∈ lw_all := lw_g (lw_at lw_m5 203 rfl) rfl
theorem q1234 : (Jvm.Cond.instanceMethod ({ cls := "MorrisTablesModel", name := "many", desc := "(I)I" } : Jvm.MethodName)) ∈ lw_all := lw_g (lw_at lw_m5 205 rfl) rfl
theorem q1235 : (Jvm.Cond.selects "MorrisTablesModel" ({ cls := "MorrisTablesModel", name := "many", desc := "(I)I" } : Jvm.MethodName) ({ cls := "MorrisTablesModel", name := "many", desc := "(I)I" } : Jvm.MethodName)) ∈ lw_all := lw_g (lw_at lw_m5 206 rfl) rfl
theorem q1236 : (Jvm.Cond.code ({ cls := "MorrisTablesModel", name := "many", desc := "(I)I" } : Jvm.MethodName) prog_8_method_51_code (5 : Nat) (Option.some Jvm.ClassFile.FieldType.int)) ∈ lw_all := lw_g (lw_at lw_m5 207 rfl) rfl
theorem q1238 : (Jvm.Cond.instanceMethod ({ cls := "MorrisTablesModel", name := "put", desc := "(J)I" } : Jvm.MethodName)) ∈ lw_all := lw_g (lw_at lw_m5 209 rfl) rfl
theorem q1239 : (Jvm.Cond.selects "MorrisTablesModel" ({ cls := "MorrisTablesModel", name := "put", desc := "(J)I" } : Jvm.MethodName) ({ cls := "MorrisTablesModel", name := "put", desc := "(J)I" } : Jvm.MethodName)) ∈ lw_all := lw_g (lw_at lw_m5 210 rfl) rfl
theorem q1240 : (Jvm.Cond.code ({ cls := "MorrisTablesModel", name := "put", desc := "(J)I" } : Jvm.MethodName) prog_8_method_52_code (7 : Nat) (Option.some Jvm.ClassFile.FieldType.int)) ∈ lw_all := lw_g (lw_at lw_m5 211 rfl) rfl
theorem q1241 : (Jvm.Cond.constantLong "MorrisTablesModel" (171 : Nat) (255 : Int64)) ∈ lw_all := lw_g (lw_at lw_m5 212 rfl) rfl
theorem q1243 : (Jvm.Cond.instanceMethod ({ cls := "MorrisTablesModel", name := "wipe", desc := "()I" } : Jvm.MethodName)) ∈ lw_all := lw_g (lw_at lw_m5 214 rfl) rfl
theorem q1244 : (Jvm.Cond.selects "MorrisTablesModel" ({ cls := "MorrisTablesModel", name := "wipe", desc := "()I" } : Jvm.MethodName) ({ cls := "MorrisTablesModel", name := "wipe", desc := "()I" } : Jvm.MethodName)) ∈ lw_all := lw_g (lw_at lw_m5 215 rfl) rfl
theorem q1245 : (Jvm.Cond.code ({ cls := "MorrisTablesModel", name := "wipe", desc := "()I" } : Jvm.MethodName) prog_8_method_53_code (2 : Nat) (Option.some Jvm.ClassFile.FieldType.int)) ∈ lw_all := lw_g (lw_at lw_m5 216 rfl) rfl
theorem q1247 : (Jvm.Cond.instanceMethod ({ cls := "MorrisTablesModel", name := "fault", desc := "()I" } : Jvm.MethodName)) ∈ lw_all := lw_g (lw_at lw_m5 218 rfl) rfl
theorem q1248 : (Jvm.Cond.selects "MorrisTablesModel" ({ cls := "MorrisTablesModel", name := "fault", desc := "()I" } : Jvm.MethodName) ({ cls := "MorrisTablesModel", name := "fault", desc := "()I" } : Jvm.MethodName)) ∈ lw_all := lw_g (lw_at lw_m5 219 rfl) rfl
theorem q1249 : (Jvm.Cond.code ({ cls := "MorrisTablesModel", name := "fault", desc := "()I" } : Jvm.MethodName) prog_8_method_58_code (1 : Nat) (Option.some Jvm.ClassFile.FieldType.int)) ∈ lw_all := lw_g (lw_at lw_m5 220 rfl) rfl
theorem q1250 : (Jvm.Cond.methodLink "MorrisTablesModel" (186 : Nat) ({ cls := "MorrisTablesModel", name := "isWell", desc := "()Z" } : Jvm.MethodName)) ∈ lw_all := lw_g (lw_at lw_m5 221 rfl) rfl
theorem q1251 : (Jvm.Cond.privateMethod ({ cls := "MorrisTablesModel", name := "isWell", desc := "()Z" } : Jvm.MethodName)) ∈ lw_tbl := lw_at lw_m5 222 rfl
theorem q1252 : (Jvm.Cond.instanceMethod ({ cls := "MorrisTablesModel", name := "isWell", desc := "()Z" } : Jvm.MethodName)) ∈ lw_all := lw_g (lw_at lw_m5 223 rfl) rfl
theorem q1253 : (Jvm.Cond.code ({ cls := "MorrisTablesModel", name := "isWell", desc := "()Z" } : Jvm.MethodName) prog_8_method_57_code (2 : Nat) (Option.some Jvm.ClassFile.FieldType.boolean)) ∈ lw_all := lw_g (lw_at lw_m5 224 rfl) rfl
theorem q1254 : (Jvm.Cond.methodLink "MorrisTablesModel" (182 : Nat) ({ cls := "MorrisTablesModel", name := "order", desc := "(Z)I" } : Jvm.MethodName)) ∈ lw_all := lw_g (lw_at lw_m5 225 rfl) rfl
theorem q1255 : (Jvm.Cond.privateMethod ({ cls := "MorrisTablesModel", name := "order", desc := "(Z)I" } : Jvm.MethodName)) ∈ lw_tbl := lw_at lw_m5 226 rfl
theorem q1256 : (Jvm.Cond.instanceMethod ({ cls := "MorrisTablesModel", name := "order", desc := "(Z)I" } : Jvm.MethodName)) ∈ lw_all := lw_g (lw_at lw_m5 227 rfl) rfl
theorem q1257 : (Jvm.Cond.code ({ cls := "MorrisTablesModel", name := "order", desc := "(Z)I" } : Jvm.MethodName) prog_8_method_56_code (6 : Nat) (Option.some Jvm.ClassFile.FieldType.int)) ∈ lw_all := lw_g (lw_at lw_m5 228 rfl) rfl
theorem q1258 : (Jvm.Cond.methodLink "MorrisTablesModel" (179 : Nat) ({ cls := "MorrisTablesModel", name := "sign", desc := "(II)I" } : Jvm.MethodName)) ∈ lw_all := lw_g (lw_at lw_m5 229 rfl) rfl
theorem q1259 : (Jvm.Cond.privateMethod ({ cls := "MorrisTablesModel", name := "sign", desc := "(II)I" } : Jvm.MethodName)) ∈ lw_tbl := lw_at lw_m5 230 rfl
theorem q1260 : (Jvm.Cond.instanceMethod ({ cls := "MorrisTablesModel", name := "sign", desc := "(II)I" } : Jvm.MethodName)) ∈ lw_all := lw_g (lw_at lw_m5 231 rfl) rfl
theorem q1261 : (Jvm.Cond.code ({ cls := "MorrisTablesModel", name := "sign", desc := "(II)I" } : Jvm.MethodName) prog_8_method_55_code (3 : Nat) (Option.some Jvm.ClassFile.FieldType.int)) ∈ lw_all := lw_g (lw_at lw_m5 232 rfl) rfl
theorem q1262 : (Jvm.Cond.methodLink "MorrisTablesModel" (176 : Nat) ({ cls := "MorrisTablesModel", name := "sees", desc := "(II)Z" } : Jvm.MethodName)) ∈ lw_all := lw_g (lw_at lw_m5 233 rfl) rfl
theorem q1263 : (Jvm.Cond.privateMethod ({ cls := "MorrisTablesModel", name := "sees", desc := "(II)Z" } : Jvm.MethodName)) ∈ lw_tbl := lw_at lw_m5 234 rfl
theorem q1264 : (Jvm.Cond.instanceMethod ({ cls := "MorrisTablesModel", name := "sees", desc := "(II)Z" } : Jvm.MethodName)) ∈ lw_all := lw_g (lw_at lw_m5 235 rfl) rfl
theorem q1265 : (Jvm.Cond.code ({ cls := "MorrisTablesModel", name := "sees", desc := "(II)Z" } : Jvm.MethodName) prog_8_method_54_code (3 : Nat) (Option.some Jvm.ClassFile.FieldType.boolean)) ∈ lw_all := lw_g (lw_at lw_m5 236 rfl) rfl
theorem q1267 : (Jvm.Cond.instanceMethod ({ cls := "MorrisTablesModel", name := "carryOut", desc := "()I" } : Jvm.MethodName)) ∈ lw_all := lw_g (lw_at lw_m5 238 rfl) rfl
theorem q1268 : (Jvm.Cond.selects "MorrisTablesModel" ({ cls := "MorrisTablesModel", name := "carryOut", desc := "()I" } : Jvm.MethodName) ({ cls := "MorrisTablesModel", name := "carryOut", desc := "()I" } : Jvm.MethodName)) ∈ lw_all := lw_g (lw_at lw_m5 239 rfl) rfl
theorem q1269 : (Jvm.Cond.code ({ cls := "MorrisTablesModel", name := "carryOut", desc := "()I" } : Jvm.MethodName) prog_8_method_59_code (3 : Nat) (Option.some Jvm.ClassFile.FieldType.int)) ∈ lw_all := lw_g (lw_at lw_m6 0 rfl) rfl
theorem q1288 : (Jvm.Cond.castable "MorrisTablesModel" "java/lang/Object") ∈ lw_tbl := lw_at lw_m6 19 rfl
theorem in_X3 : ∀ w ∈ wsX30, w ∈ lw_all := lw_in wsX30 [1000, 1002, 1004, 1006, 1008, 1010, 1012, 1014, 1016, 1018, 1020, 1022, 1024, 1026, 1028, 1030] (by decide +kernel) (by decide +kernel)
end
