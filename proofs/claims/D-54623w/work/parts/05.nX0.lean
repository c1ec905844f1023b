section
/-! MorrisTables -/
set_option maxRecDepth 100000
def RX0 : String := "MorrisTables"
def TX0 : u_T := fun k => match k with
  | 0 => ("MorrisTables", "tables", "LMorrisTables$Store;", true)
  | 1 => ("MorrisTables", "now", "LMorrisTables$Game;", false)
  | 2 => ("MorrisTables", "past", "Ljava/util/List;", true)
  | 3 => ("MorrisTables", "saved", "[LMorrisTables$Game;", true)
  | _ => ("MorrisTables", "pad", "Ljava/lang/StringBuilder;", true)
def tyX0 : Nat → FieldType := fun k => match k with
  | 0 => .object "MorrisTables$Store"
  | 1 => .object "MorrisTables$Game"
  | 2 => .object "java/util/List"
  | 3 => .array (.object "MorrisTables$Game")
  | _ => .object "java/lang/StringBuilder"
abbrev wsX00 : List Cond := u_ws RX0 TX0 5
theorem nmX0 : ∀ a, a < 5 → ∀ b, b < 5 → a ≠ b → (TX0 a).2.1 ≠ (TX0 b).2.1 := by decide +kernel
theorem tyX0_ok : ∀ k, k < 5 → parseFieldDescriptor (TX0 k).2.2.1 = some (tyX0 k) := by decide +kernel
abbrev cX0_init : ByteArray := prog_1_method_3_code
def yX0_init : MethodName := ⟨RX0, "<init>", "()V"⟩
def dkwX0_init_2 : List UInt8 := [187, 0, 40, 89, 183, 0, 42, 181, 0, 43, 177]
abbrev dktX0_init_2 : List UInt8 := dkwX0_init_2 ++ []
def dkwX0_init_1 : List UInt8 := [181, 0, 25, 42, 187, 0, 29, 89, 183, 0, 31, 181, 0, 32, 42, 5, 189, 0, 22, 181, 0, 36, 42]
abbrev dktX0_init_1 : List UInt8 := dkwX0_init_1 ++ dktX0_init_2
def dkwX0_init_0 : List UInt8 := [42, 183, 0, 7, 42, 187, 0, 13, 89, 7, 183, 0, 15, 181, 0, 18, 42, 187, 0, 22, 89, 183, 0, 24]
abbrev dktX0_init_0 : List UInt8 := dkwX0_init_0 ++ dktX0_init_1
theorem dksX0_init_0 : cX0_init.data.toList.drop 0 = dktX0_init_0 := by decide +kernel
theorem dksX0_init_1 : cX0_init.data.toList.drop 24 = dktX0_init_1 := dk_seg dksX0_init_0 24 rfl rfl
theorem dksX0_init_2 : cX0_init.data.toList.drop 47 = dktX0_init_2 := dk_seg dksX0_init_1 23 rfl rfl
theorem dX0_init_0 : decode cX0_init 0 = .ok (.aload_n 0, 1) := dk_42 (dk_at dksX0_init_0 0 rfl rfl)
theorem dX0_init_1 : decode cX0_init 1 = .ok (.invokespecial 7, 3) := dk_183 0 7 (dk_at dksX0_init_0 1 rfl rfl)
theorem dX0_init_4 : decode cX0_init 4 = .ok (.aload_n 0, 1) := dk_42 (dk_at dksX0_init_0 4 rfl rfl)
theorem dX0_init_5 : decode cX0_init 5 = .ok (.new 13, 3) := dk_187 0 13 (dk_at dksX0_init_0 5 rfl rfl)
theorem dX0_init_8 : decode cX0_init 8 = .ok (.dup, 1) := dk_89 (dk_at dksX0_init_0 8 rfl rfl)
theorem dX0_init_9 : decode cX0_init 9 = .ok (.iconst 4, 1) := dk_7 (dk_at dksX0_init_0 9 rfl rfl)
theorem dX0_init_10 : decode cX0_init 10 = .ok (.invokespecial 15, 3) := dk_183 0 15 (dk_at dksX0_init_0 10 rfl rfl)
theorem dX0_init_13 : decode cX0_init 13 = .ok (.putfield 18, 3) := dk_181 0 18 (dk_at dksX0_init_0 13 rfl rfl)
theorem dX0_init_16 : decode cX0_init 16 = .ok (.aload_n 0, 1) := dk_42 (dk_at dksX0_init_0 16 rfl rfl)
theorem dX0_init_17 : decode cX0_init 17 = .ok (.new 22, 3) := dk_187 0 22 (dk_at dksX0_init_0 17 rfl rfl)
theorem dX0_init_20 : decode cX0_init 20 = .ok (.dup, 1) := dk_89 (dk_at dksX0_init_0 20 rfl rfl)
theorem dX0_init_21 : decode cX0_init 21 = .ok (.invokespecial 24, 3) := dk_183 0 24 (dk_at dksX0_init_0 21 rfl rfl)
theorem dX0_init_24 : decode cX0_init 24 = .ok (.putfield 25, 3) := dk_181 0 25 (dk_at dksX0_init_1 0 rfl rfl)
theorem dX0_init_27 : decode cX0_init 27 = .ok (.aload_n 0, 1) := dk_42 (dk_at dksX0_init_1 3 rfl rfl)
theorem dX0_init_28 : decode cX0_init 28 = .ok (.new 29, 3) := dk_187 0 29 (dk_at dksX0_init_1 4 rfl rfl)
theorem dX0_init_31 : decode cX0_init 31 = .ok (.dup, 1) := dk_89 (dk_at dksX0_init_1 7 rfl rfl)
theorem dX0_init_32 : decode cX0_init 32 = .ok (.invokespecial 31, 3) := dk_183 0 31 (dk_at dksX0_init_1 8 rfl rfl)
theorem dX0_init_35 : decode cX0_init 35 = .ok (.putfield 32, 3) := dk_181 0 32 (dk_at dksX0_init_1 11 rfl rfl)
theorem dX0_init_38 : decode cX0_init 38 = .ok (.aload_n 0, 1) := dk_42 (dk_at dksX0_init_1 14 rfl rfl)
theorem dX0_init_39 : decode cX0_init 39 = .ok (.iconst 2, 1) := dk_5 (dk_at dksX0_init_1 15 rfl rfl)
theorem dX0_init_40 : decode cX0_init 40 = .ok (.anewarray 22, 3) := dk_189 0 22 (dk_at dksX0_init_1 16 rfl rfl)
theorem dX0_init_43 : decode cX0_init 43 = .ok (.putfield 36, 3) := dk_181 0 36 (dk_at dksX0_init_1 19 rfl rfl)
theorem dX0_init_46 : decode cX0_init 46 = .ok (.aload_n 0, 1) := dk_42 (dk_at dksX0_init_1 22 rfl rfl)
theorem dX0_init_47 : decode cX0_init 47 = .ok (.new 40, 3) := dk_187 0 40 (dk_at dksX0_init_2 0 rfl rfl)
theorem dX0_init_50 : decode cX0_init 50 = .ok (.dup, 1) := dk_89 (dk_at dksX0_init_2 3 rfl rfl)
theorem dX0_init_51 : decode cX0_init 51 = .ok (.invokespecial 42, 3) := dk_183 0 42 (dk_at dksX0_init_2 4 rfl rfl)
theorem dX0_init_54 : decode cX0_init 54 = .ok (.putfield 43, 3) := dk_181 0 43 (dk_at dksX0_init_2 7 rfl rfl)
theorem dX0_init_57 : decode cX0_init 57 = .ok (.return_, 1) := dk_177 (dk_at dksX0_init_2 10 rfl rfl)
abbrev cX0_set : ByteArray := prog_1_method_13_code
def yX0_set : MethodName := ⟨RX0, "set", "(II)I"⟩
def dkwX0_set_2 : List UInt8 := [42, 180, 0, 25, 180, 0, 65, 27, 28, 79, 42, 180, 0, 25, 182, 0, 126, 21, 4, 172]
abbrev dktX0_set_2 : List UInt8 := dkwX0_set_2 ++ []
def dkwX0_set_1 : List UInt8 := [16, 254, 4, 182, 0, 122, 62, 29, 156, 0, 5, 29, 172, 42, 180, 0, 25, 180, 0, 65, 27, 46, 54, 4]
abbrev dktX0_set_1 : List UInt8 := dkwX0_set_1 ++ dktX0_set_2
def dkwX0_set_0 : List UInt8 := [42, 27, 3, 4, 184, 0, 3, 153, 0, 16, 28, 3, 4, 184, 0, 3, 153, 0, 7, 3, 167, 0, 5]
abbrev dktX0_set_0 : List UInt8 := dkwX0_set_0 ++ dktX0_set_1
theorem dksX0_set_0 : cX0_set.data.toList.drop 0 = dktX0_set_0 := by decide +kernel
theorem dksX0_set_1 : cX0_set.data.toList.drop 23 = dktX0_set_1 := dk_seg dksX0_set_0 23 rfl rfl
theorem dksX0_set_2 : cX0_set.data.toList.drop 47 = dktX0_set_2 := dk_seg dksX0_set_1 24 rfl rfl
theorem dX0_set_0 : decode cX0_set 0 = .ok (.aload_n 0, 1) := dk_42 (dk_at dksX0_set_0 0 rfl rfl)
theorem dX0_set_1 : decode cX0_set 1 = .ok (.iload_n 1, 1) := dk_27 (dk_at dksX0_set_0 1 rfl rfl)
theorem dX0_set_2 : decode cX0_set 2 = .ok (.iconst 0, 1) := dk_3 (dk_at dksX0_set_0 2 rfl rfl)
theorem dX0_set_3 : decode cX0_set 3 = .ok (.iconst 1, 1) := dk_4 (dk_at dksX0_set_0 3 rfl rfl)
theorem dX0_set_4 : decode cX0_set 4 = .ok (.invokestatic 3, 3) := dk_184 0 3 (dk_at dksX0_set_0 4 rfl rfl)
theorem dX0_set_7 : decode cX0_set 7 = .ok (.ifCond .eq 16, 3) := dk_153 0 16 (dk_at dksX0_set_0 7 rfl rfl)
theorem dX0_set_10 : decode cX0_set 10 = .ok (.iload_n 2, 1) := dk_28 (dk_at dksX0_set_0 10 rfl rfl)
theorem dX0_set_11 : decode cX0_set 11 = .ok (.iconst 0, 1) := dk_3 (dk_at dksX0_set_0 11 rfl rfl)
theorem dX0_set_12 : decode cX0_set 12 = .ok (.iconst 1, 1) := dk_4 (dk_at dksX0_set_0 12 rfl rfl)
theorem dX0_set_13 : decode cX0_set 13 = .ok (.invokestatic 3, 3) := dk_184 0 3 (dk_at dksX0_set_0 13 rfl rfl)
theorem dX0_set_16 : decode cX0_set 16 = .ok (.ifCond .eq 7, 3) := dk_153 0 7 (dk_at dksX0_set_0 16 rfl rfl)
theorem dX0_set_19 : decode cX0_set 19 = .ok (.iconst 0, 1) := dk_3 (dk_at dksX0_set_0 19 rfl rfl)
theorem dX0_set_20 : decode cX0_set 20 = .ok (.goto 5, 3) := dk_167 0 5 (dk_at dksX0_set_0 20 rfl rfl)
theorem dX0_set_23 : decode cX0_set 23 = .ok (.bipush (-2), 2) := dk_16 254 (dk_at dksX0_set_1 0 rfl rfl)
theorem dX0_set_25 : decode cX0_set 25 = .ok (.iconst 1, 1) := dk_4 (dk_at dksX0_set_1 2 rfl rfl)
theorem dX0_set_26 : decode cX0_set 26 = .ok (.invokevirtual 122, 3) := dk_182 0 122 (dk_at dksX0_set_1 3 rfl rfl)
theorem dX0_set_29 : decode cX0_set 29 = .ok (.istore_n 3, 1) := dk_62 (dk_at dksX0_set_1 6 rfl rfl)
theorem dX0_set_30 : decode cX0_set 30 = .ok (.iload_n 3, 1) := dk_29 (dk_at dksX0_set_1 7 rfl rfl)
theorem dX0_set_31 : decode cX0_set 31 = .ok (.ifCond .ge 5, 3) := dk_156 0 5 (dk_at dksX0_set_1 8 rfl rfl)
theorem dX0_set_34 : decode cX0_set 34 = .ok (.iload_n 3, 1) := dk_29 (dk_at dksX0_set_1 11 rfl rfl)
theorem dX0_set_35 : decode cX0_set 35 = .ok (.ireturn, 1) := dk_172 (dk_at dksX0_set_1 12 rfl rfl)
theorem dX0_set_36 : decode cX0_set 36 = .ok (.aload_n 0, 1) := dk_42 (dk_at dksX0_set_1 13 rfl rfl)
theorem dX0_set_37 : decode cX0_set 37 = .ok (.getfield 25, 3) := dk_180 0 25 (dk_at dksX0_set_1 14 rfl rfl)
theorem dX0_set_40 : decode cX0_set 40 = .ok (.getfield 65, 3) := dk_180 0 65 (dk_at dksX0_set_1 17 rfl rfl)
theorem dX0_set_43 : decode cX0_set 43 = .ok (.iload_n 1, 1) := dk_27 (dk_at dksX0_set_1 20 rfl rfl)
theorem dX0_set_44 : decode cX0_set 44 = .ok (.iaload, 1) := dk_46 (dk_at dksX0_set_1 21 rfl rfl)
theorem dX0_set_45 : decode cX0_set 45 = .ok (.istore 4, 2) := dk_54 4 (dk_at dksX0_set_1 22 rfl rfl)
theorem dX0_set_47 : decode cX0_set 47 = .ok (.aload_n 0, 1) := dk_42 (dk_at dksX0_set_2 0 rfl rfl)
theorem dX0_set_48 : decode cX0_set 48 = .ok (.getfield 25, 3) := dk_180 0 25 (dk_at dksX0_set_2 1 rfl rfl)
theorem dX0_set_51 : decode cX0_set 51 = .ok (.getfield 65, 3) := dk_180 0 65 (dk_at dksX0_set_2 4 rfl rfl)
theorem dX0_set_54 : decode cX0_set 54 = .ok (.iload_n 1, 1) := dk_27 (dk_at dksX0_set_2 7 rfl rfl)
theorem dX0_set_55 : decode cX0_set 55 = .ok (.iload_n 2, 1) := dk_28 (dk_at dksX0_set_2 8 rfl rfl)
theorem dX0_set_56 : decode cX0_set 56 = .ok (.iastore, 1) := dk_79 (dk_at dksX0_set_2 9 rfl rfl)
theorem dX0_set_57 : decode cX0_set 57 = .ok (.aload_n 0, 1) := dk_42 (dk_at dksX0_set_2 10 rfl rfl)
theorem dX0_set_58 : decode cX0_set 58 = .ok (.getfield 25, 3) := dk_180 0 25 (dk_at dksX0_set_2 11 rfl rfl)
theorem dX0_set_61 : decode cX0_set 61 = .ok (.invokevirtual 126, 3) := dk_182 0 126 (dk_at dksX0_set_2 14 rfl rfl)
theorem dX0_set_64 : decode cX0_set 64 = .ok (.iload 4, 2) := dk_21 4 (dk_at dksX0_set_2 17 rfl rfl)
theorem dX0_set_66 : decode cX0_set 66 = .ok (.ireturn, 1) := dk_172 (dk_at dksX0_set_2 19 rfl rfl)
abbrev cX0_isIn : ByteArray := prog_1_method_1_code
def yX0_isIn : MethodName := ⟨RX0, "isIn", "(III)Z"⟩
def dkwX0_isIn_0 : List UInt8 := [26, 27, 161, 0, 12, 26, 28, 163, 0, 7, 4, 167, 0, 4, 3, 172]
abbrev dktX0_isIn_0 : List UInt8 := dkwX0_isIn_0 ++ []
theorem dksX0_isIn_0 : cX0_isIn.data.toList.drop 0 = dktX0_isIn_0 := by decide +kernel
theorem dX0_isIn_0 : decode cX0_isIn 0 = .ok (.iload_n 0, 1) := dk_26 (dk_at dksX0_isIn_0 0 rfl rfl)
theorem dX0_isIn_1 : decode cX0_isIn 1 = .ok (.iload_n 1, 1) := dk_27 (dk_at dksX0_isIn_0 1 rfl rfl)
theorem dX0_isIn_2 : decode cX0_isIn 2 = .ok (.if_icmp .lt 12, 3) := dk_161 0 12 (dk_at dksX0_isIn_0 2 rfl rfl)
theorem dX0_isIn_5 : decode cX0_isIn 5 = .ok (.iload_n 0, 1) := dk_26 (dk_at dksX0_isIn_0 5 rfl rfl)
theorem dX0_isIn_6 : decode cX0_isIn 6 = .ok (.iload_n 2, 1) := dk_28 (dk_at dksX0_isIn_0 6 rfl rfl)
theorem dX0_isIn_7 : decode cX0_isIn 7 = .ok (.if_icmp .gt 7, 3) := dk_163 0 7 (dk_at dksX0_isIn_0 7 rfl rfl)
theorem dX0_isIn_10 : decode cX0_isIn 10 = .ok (.iconst 1, 1) := dk_4 (dk_at dksX0_isIn_0 10 rfl rfl)
theorem dX0_isIn_11 : decode cX0_isIn 11 = .ok (.goto 4, 3) := dk_167 0 4 (dk_at dksX0_isIn_0 11 rfl rfl)
theorem dX0_isIn_14 : decode cX0_isIn 14 = .ok (.iconst 0, 1) := dk_3 (dk_at dksX0_isIn_0 14 rfl rfl)
theorem dX0_isIn_15 : decode cX0_isIn 15 = .ok (.ireturn, 1) := dk_172 (dk_at dksX0_isIn_0 15 rfl rfl)
abbrev cX0_begun : ByteArray := prog_1_method_12_code
def yX0_begun : MethodName := ⟨RX0, "begun", "(IZ)I"⟩
def dkwX0_begun_0 : List UInt8 := [27, 154, 0, 11, 28, 153, 0, 7, 42, 182, 0, 119, 27, 172]
abbrev dktX0_begun_0 : List UInt8 := dkwX0_begun_0 ++ []
theorem dksX0_begun_0 : cX0_begun.data.toList.drop 0 = dktX0_begun_0 := by decide +kernel
theorem dX0_begun_0 : decode cX0_begun 0 = .ok (.iload_n 1, 1) := dk_27 (dk_at dksX0_begun_0 0 rfl rfl)
theorem dX0_begun_1 : decode cX0_begun 1 = .ok (.ifCond .ne 11, 3) := dk_154 0 11 (dk_at dksX0_begun_0 1 rfl rfl)
theorem dX0_begun_4 : decode cX0_begun 4 = .ok (.iload_n 2, 1) := dk_28 (dk_at dksX0_begun_0 4 rfl rfl)
theorem dX0_begun_5 : decode cX0_begun 5 = .ok (.ifCond .eq 7, 3) := dk_153 0 7 (dk_at dksX0_begun_0 5 rfl rfl)
theorem dX0_begun_8 : decode cX0_begun 8 = .ok (.aload_n 0, 1) := dk_42 (dk_at dksX0_begun_0 8 rfl rfl)
theorem dX0_begun_9 : decode cX0_begun 9 = .ok (.invokevirtual 119, 3) := dk_182 0 119 (dk_at dksX0_begun_0 9 rfl rfl)
theorem dX0_begun_12 : decode cX0_begun 12 = .ok (.iload_n 1, 1) := dk_27 (dk_at dksX0_begun_0 12 rfl rfl)
theorem dX0_begun_13 : decode cX0_begun 13 = .ok (.ireturn, 1) := dk_172 (dk_at dksX0_begun_0 13 rfl rfl)
abbrev cX0_record : ByteArray := prog_1_method_4_code
def yX0_record : MethodName := ⟨RX0, "record", "()V"⟩
def dkwX0_record_1 : List UInt8 := [87, 42, 180, 0, 32, 42, 180, 0, 25, 182, 0, 57, 185, 0, 61, 2, 0, 87, 177]
abbrev dktX0_record_1 : List UInt8 := dkwX0_record_1 ++ []
def dkwX0_record_0 : List UInt8 := [42, 180, 0, 32, 185, 0, 47, 1, 0, 16, 6, 160, 0, 14, 42, 180, 0, 32, 3, 185, 0, 53, 2, 0]
abbrev dktX0_record_0 : List UInt8 := dkwX0_record_0 ++ dktX0_record_1
theorem dksX0_record_0 : cX0_record.data.toList.drop 0 = dktX0_record_0 := by decide +kernel
theorem dksX0_record_1 : cX0_record.data.toList.drop 24 = dktX0_record_1 := dk_seg dksX0_record_0 24 rfl rfl
theorem dX0_record_0 : decode cX0_record 0 = .ok (.aload_n 0, 1) := dk_42 (dk_at dksX0_record_0 0 rfl rfl)
theorem dX0_record_1 : decode cX0_record 1 = .ok (.getfield 32, 3) := dk_180 0 32 (dk_at dksX0_record_0 1 rfl rfl)
theorem dX0_record_4 : decode cX0_record 4 = .ok (.invokeinterface 47 1, 5) := by decide +kernel
theorem dX0_record_9 : decode cX0_record 9 = .ok (.bipush 6, 2) := dk_16 6 (dk_at dksX0_record_0 9 rfl rfl)
theorem dX0_record_11 : decode cX0_record 11 = .ok (.if_icmp .ne 14, 3) := dk_160 0 14 (dk_at dksX0_record_0 11 rfl rfl)
theorem dX0_record_14 : decode cX0_record 14 = .ok (.aload_n 0, 1) := dk_42 (dk_at dksX0_record_0 14 rfl rfl)
theorem dX0_record_15 : decode cX0_record 15 = .ok (.getfield 32, 3) := dk_180 0 32 (dk_at dksX0_record_0 15 rfl rfl)
theorem dX0_record_18 : decode cX0_record 18 = .ok (.iconst 0, 1) := dk_3 (dk_at dksX0_record_0 18 rfl rfl)
theorem dX0_record_19 : decode cX0_record 19 = .ok (.invokeinterface 53 2, 5) := by decide +kernel
theorem dX0_record_24 : decode cX0_record 24 = .ok (.pop, 1) := dk_87 (dk_at dksX0_record_1 0 rfl rfl)
theorem dX0_record_25 : decode cX0_record 25 = .ok (.aload_n 0, 1) := dk_42 (dk_at dksX0_record_1 1 rfl rfl)
theorem dX0_record_26 : decode cX0_record 26 = .ok (.getfield 32, 3) := dk_180 0 32 (dk_at dksX0_record_1 2 rfl rfl)
theorem dX0_record_29 : decode cX0_record 29 = .ok (.aload_n 0, 1) := dk_42 (dk_at dksX0_record_1 5 rfl rfl)
theorem dX0_record_30 : decode cX0_record 30 = .ok (.getfield 25, 3) := dk_180 0 25 (dk_at dksX0_record_1 6 rfl rfl)
theorem dX0_record_33 : decode cX0_record 33 = .ok (.invokevirtual 57, 3) := dk_182 0 57 (dk_at dksX0_record_1 9 rfl rfl)
theorem dX0_record_36 : decode cX0_record 36 = .ok (.invokeinterface 61 2, 5) := by decide +kernel
theorem dX0_record_41 : decode cX0_record 41 = .ok (.pop, 1) := dk_87 (dk_at dksX0_record_1 17 rfl rfl)
theorem dX0_record_42 : decode cX0_record 42 = .ok (.return_, 1) := dk_177 (dk_at dksX0_record_1 18 rfl rfl)
abbrev cX0_begin : ByteArray := prog_1_method_14_code
def yX0_begin : MethodName := ⟨RX0, "begin", "()I"⟩
def dkwX0_begin_0 : List UInt8 := [42, 182, 0, 119, 42, 180, 0, 25, 180, 0, 129, 60, 42, 180, 0, 25, 182, 0, 126, 27, 172]
abbrev dktX0_begin_0 : List UInt8 := dkwX0_begin_0 ++ []
theorem dksX0_begin_0 : cX0_begin.data.toList.drop 0 = dktX0_begin_0 := by decide +kernel
theorem dX0_begin_0 : decode cX0_begin 0 = .ok (.aload_n 0, 1) := dk_42 (dk_at dksX0_begin_0 0 rfl rfl)
theorem dX0_begin_1 : decode cX0_begin 1 = .ok (.invokevirtual 119, 3) := dk_182 0 119 (dk_at dksX0_begin_0 1 rfl rfl)
theorem dX0_begin_4 : decode cX0_begin 4 = .ok (.aload_n 0, 1) := dk_42 (dk_at dksX0_begin_0 4 rfl rfl)
theorem dX0_begin_5 : decode cX0_begin 5 = .ok (.getfield 25, 3) := dk_180 0 25 (dk_at dksX0_begin_0 5 rfl rfl)
theorem dX0_begin_8 : decode cX0_begin 8 = .ok (.getfield 129, 3) := dk_180 0 129 (dk_at dksX0_begin_0 8 rfl rfl)
theorem dX0_begin_11 : decode cX0_begin 11 = .ok (.istore_n 1, 1) := dk_60 (dk_at dksX0_begin_0 11 rfl rfl)
theorem dX0_begin_12 : decode cX0_begin 12 = .ok (.aload_n 0, 1) := dk_42 (dk_at dksX0_begin_0 12 rfl rfl)
theorem dX0_begin_13 : decode cX0_begin 13 = .ok (.getfield 25, 3) := dk_180 0 25 (dk_at dksX0_begin_0 13 rfl rfl)
theorem dX0_begin_16 : decode cX0_begin 16 = .ok (.invokevirtual 126, 3) := dk_182 0 126 (dk_at dksX0_begin_0 16 rfl rfl)
theorem dX0_begin_19 : decode cX0_begin 19 = .ok (.iload_n 1, 1) := dk_27 (dk_at dksX0_begin_0 19 rfl rfl)
theorem dX0_begin_20 : decode cX0_begin 20 = .ok (.ireturn, 1) := dk_172 (dk_at dksX0_begin_0 20 rfl rfl)
abbrev cX0_place : ByteArray := prog_1_method_16_code
def yX0_place : MethodName := ⟨RX0, "place", "(I)I"⟩
def dkwX0_place_0 : List UInt8 := [42, 27, 4, 182, 0, 146, 172]
abbrev dktX0_place_0 : List UInt8 := dkwX0_place_0 ++ []
theorem dksX0_place_0 : cX0_place.data.toList.drop 0 = dktX0_place_0 := by decide +kernel
theorem dX0_place_0 : decode cX0_place 0 = .ok (.aload_n 0, 1) := dk_42 (dk_at dksX0_place_0 0 rfl rfl)
theorem dX0_place_1 : decode cX0_place 1 = .ok (.iload_n 1, 1) := dk_27 (dk_at dksX0_place_0 1 rfl rfl)
theorem dX0_place_2 : decode cX0_place 2 = .ok (.iconst 1, 1) := dk_4 (dk_at dksX0_place_0 2 rfl rfl)
theorem dX0_place_3 : decode cX0_place 3 = .ok (.invokevirtual 146, 3) := dk_182 0 146 (dk_at dksX0_place_0 3 rfl rfl)
theorem dX0_place_6 : decode cX0_place 6 = .ok (.ireturn, 1) := dk_172 (dk_at dksX0_place_0 6 rfl rfl)
abbrev cX0_places : ByteArray := prog_1_method_15_code
def yX0_places : MethodName := ⟨RX0, "places", "(IZ)I"⟩
def dkwX0_places_2 : List UInt8 := [182, 0, 100, 184, 0, 140, 172]
abbrev dktX0_places_2 : List UInt8 := dkwX0_places_2 ++ []
def dkwX0_places_1 : List UInt8 := [16, 251, 28, 182, 0, 122, 62, 29, 156, 0, 5, 29, 172, 42, 180, 0, 25, 27, 182, 0, 137, 42]
abbrev dktX0_places_1 : List UInt8 := dkwX0_places_1 ++ dktX0_places_2
def dkwX0_places_0 : List UInt8 := [42, 27, 184, 0, 132, 154, 0, 7, 2, 167, 0, 17, 42, 27, 182, 0, 135, 153, 0, 7, 3, 167, 0, 5]
abbrev dktX0_places_0 : List UInt8 := dkwX0_places_0 ++ dktX0_places_1
theorem dksX0_places_0 : cX0_places.data.toList.drop 0 = dktX0_places_0 := by decide +kernel
theorem dksX0_places_1 : cX0_places.data.toList.drop 24 = dktX0_places_1 := dk_seg dksX0_places_0 24 rfl rfl
theorem dksX0_places_2 : cX0_places.data.toList.drop 46 = dktX0_places_2 := dk_seg dksX0_places_1 22 rfl rfl
theorem dX0_places_0 : decode cX0_places 0 = .ok (.aload_n 0, 1) := dk_42 (dk_at dksX0_places_0 0 rfl rfl)
theorem dX0_places_1 : decode cX0_places 1 = .ok (.iload_n 1, 1) := dk_27 (dk_at dksX0_places_0 1 rfl rfl)
theorem dX0_places_2 : decode cX0_places 2 = .ok (.invokestatic 132, 3) := dk_184 0 132 (dk_at dksX0_places_0 2 rfl rfl)
theorem dX0_places_5 : decode cX0_places 5 = .ok (.ifCond .ne 7, 3) := dk_154 0 7 (dk_at dksX0_places_0 5 rfl rfl)
theorem dX0_places_8 : decode cX0_places 8 = .ok (.iconst (-1), 1) := dk_2 (dk_at dksX0_places_0 8 rfl rfl)
theorem dX0_places_9 : decode cX0_places 9 = .ok (.goto 17, 3) := dk_167 0 17 (dk_at dksX0_places_0 9 rfl rfl)
theorem dX0_places_12 : decode cX0_places 12 = .ok (.aload_n 0, 1) := dk_42 (dk_at dksX0_places_0 12 rfl rfl)
theorem dX0_places_13 : decode cX0_places 13 = .ok (.iload_n 1, 1) := dk_27 (dk_at dksX0_places_0 13 rfl rfl)
theorem dX0_places_14 : decode cX0_places 14 = .ok (.invokevirtual 135, 3) := dk_182 0 135 (dk_at dksX0_places_0 14 rfl rfl)
theorem dX0_places_17 : decode cX0_places 17 = .ok (.ifCond .eq 7, 3) := dk_153 0 7 (dk_at dksX0_places_0 17 rfl rfl)
theorem dX0_places_20 : decode cX0_places 20 = .ok (.iconst 0, 1) := dk_3 (dk_at dksX0_places_0 20 rfl rfl)
theorem dX0_places_21 : decode cX0_places 21 = .ok (.goto 5, 3) := dk_167 0 5 (dk_at dksX0_places_0 21 rfl rfl)
theorem dX0_places_24 : decode cX0_places 24 = .ok (.bipush (-5), 2) := dk_16 251 (dk_at dksX0_places_1 0 rfl rfl)
theorem dX0_places_26 : decode cX0_places 26 = .ok (.iload_n 2, 1) := dk_28 (dk_at dksX0_places_1 2 rfl rfl)
theorem dX0_places_27 : decode cX0_places 27 = .ok (.invokevirtual 122, 3) := dk_182 0 122 (dk_at dksX0_places_1 3 rfl rfl)
theorem dX0_places_30 : decode cX0_places 30 = .ok (.istore_n 3, 1) := dk_62 (dk_at dksX0_places_1 6 rfl rfl)
theorem dX0_places_31 : decode cX0_places 31 = .ok (.iload_n 3, 1) := dk_29 (dk_at dksX0_places_1 7 rfl rfl)
theorem dX0_places_32 : decode cX0_places 32 = .ok (.ifCond .ge 5, 3) := dk_156 0 5 (dk_at dksX0_places_1 8 rfl rfl)
theorem dX0_places_35 : decode cX0_places 35 = .ok (.iload_n 3, 1) := dk_29 (dk_at dksX0_places_1 11 rfl rfl)
theorem dX0_places_36 : decode cX0_places 36 = .ok (.ireturn, 1) := dk_172 (dk_at dksX0_places_1 12 rfl rfl)
theorem dX0_places_37 : decode cX0_places 37 = .ok (.aload_n 0, 1) := dk_42 (dk_at dksX0_places_1 13 rfl rfl)
theorem dX0_places_38 : decode cX0_places 38 = .ok (.getfield 25, 3) := dk_180 0 25 (dk_at dksX0_places_1 14 rfl rfl)
theorem dX0_places_41 : decode cX0_places 41 = .ok (.iload_n 1, 1) := dk_27 (dk_at dksX0_places_1 17 rfl rfl)
theorem dX0_places_42 : decode cX0_places 42 = .ok (.invokevirtual 137, 3) := dk_182 0 137 (dk_at dksX0_places_1 18 rfl rfl)
theorem dX0_places_45 : decode cX0_places 45 = .ok (.aload_n 0, 1) := dk_42 (dk_at dksX0_places_1 21 rfl rfl)
theorem dX0_places_46 : decode cX0_places 46 = .ok (.invokevirtual 100, 3) := dk_182 0 100 (dk_at dksX0_places_2 0 rfl rfl)
theorem dX0_places_49 : decode cX0_places 49 = .ok (.invokestatic 140, 3) := dk_184 0 140 (dk_at dksX0_places_2 3 rfl rfl)
theorem dX0_places_52 : decode cX0_places 52 = .ok (.ireturn, 1) := dk_172 (dk_at dksX0_places_2 6 rfl rfl)
abbrev cX0_isPoint : ByteArray := prog_1_method_2_code
def yX0_isPoint : MethodName := ⟨RX0, "isPoint", "(I)Z"⟩
def dkwX0_isPoint_0 : List UInt8 := [26, 3, 16, 8, 184, 0, 3, 172]
abbrev dktX0_isPoint_0 : List UInt8 := dkwX0_isPoint_0 ++ []
theorem dksX0_isPoint_0 : cX0_isPoint.data.toList.drop 0 = dktX0_isPoint_0 := by decide +kernel
theorem dX0_isPoint_0 : decode cX0_isPoint 0 = .ok (.iload_n 0, 1) := dk_26 (dk_at dksX0_isPoint_0 0 rfl rfl)
theorem dX0_isPoint_1 : decode cX0_isPoint 1 = .ok (.iconst 0, 1) := dk_3 (dk_at dksX0_isPoint_0 1 rfl rfl)
theorem dX0_isPoint_2 : decode cX0_isPoint 2 = .ok (.bipush 8, 2) := dk_16 8 (dk_at dksX0_isPoint_0 2 rfl rfl)
theorem dX0_isPoint_4 : decode cX0_isPoint 4 = .ok (.invokestatic 3, 3) := dk_184 0 3 (dk_at dksX0_isPoint_0 4 rfl rfl)
theorem dX0_isPoint_7 : decode cX0_isPoint 7 = .ok (.ireturn, 1) := dk_172 (dk_at dksX0_isPoint_0 7 rfl rfl)
abbrev cX0_isMove : ByteArray := prog_1_method_11_code
def yX0_isMove : MethodName := ⟨RX0, "isMove", "(I)Z"⟩
def dkwX0_isMove_1 : List UInt8 := [153, 0, 7, 4, 167, 0, 4, 3, 172]
abbrev dktX0_isMove_1 : List UInt8 := dkwX0_isMove_1 ++ []
def dkwX0_isMove_0 : List UInt8 := [42, 182, 0, 113, 154, 0, 26, 42, 182, 0, 93, 42, 182, 0, 97, 42, 182, 0, 100, 27, 182, 0, 116]
abbrev dktX0_isMove_0 : List UInt8 := dkwX0_isMove_0 ++ dktX0_isMove_1
theorem dksX0_isMove_0 : cX0_isMove.data.toList.drop 0 = dktX0_isMove_0 := by decide +kernel
theorem dksX0_isMove_1 : cX0_isMove.data.toList.drop 23 = dktX0_isMove_1 := dk_seg dksX0_isMove_0 23 rfl rfl
theorem dX0_isMove_0 : decode cX0_isMove 0 = .ok (.aload_n 0, 1) := dk_42 (dk_at dksX0_isMove_0 0 rfl rfl)
theorem dX0_isMove_1 : decode cX0_isMove 1 = .ok (.invokevirtual 113, 3) := dk_182 0 113 (dk_at dksX0_isMove_0 1 rfl rfl)
theorem dX0_isMove_4 : decode cX0_isMove 4 = .ok (.ifCond .ne 26, 3) := dk_154 0 26 (dk_at dksX0_isMove_0 4 rfl rfl)
theorem dX0_isMove_7 : decode cX0_isMove 7 = .ok (.aload_n 0, 1) := dk_42 (dk_at dksX0_isMove_0 7 rfl rfl)
theorem dX0_isMove_8 : decode cX0_isMove 8 = .ok (.invokevirtual 93, 3) := dk_182 0 93 (dk_at dksX0_isMove_0 8 rfl rfl)
theorem dX0_isMove_11 : decode cX0_isMove 11 = .ok (.aload_n 0, 1) := dk_42 (dk_at dksX0_isMove_0 11 rfl rfl)
theorem dX0_isMove_12 : decode cX0_isMove 12 = .ok (.invokevirtual 97, 3) := dk_182 0 97 (dk_at dksX0_isMove_0 12 rfl rfl)
theorem dX0_isMove_15 : decode cX0_isMove 15 = .ok (.aload_n 0, 1) := dk_42 (dk_at dksX0_isMove_0 15 rfl rfl)
theorem dX0_isMove_16 : decode cX0_isMove 16 = .ok (.invokevirtual 100, 3) := dk_182 0 100 (dk_at dksX0_isMove_0 16 rfl rfl)
theorem dX0_isMove_19 : decode cX0_isMove 19 = .ok (.iload_n 1, 1) := dk_27 (dk_at dksX0_isMove_0 19 rfl rfl)
theorem dX0_isMove_20 : decode cX0_isMove 20 = .ok (.invokevirtual 116, 3) := dk_182 0 116 (dk_at dksX0_isMove_0 20 rfl rfl)
theorem dX0_isMove_23 : decode cX0_isMove 23 = .ok (.ifCond .eq 7, 3) := dk_153 0 7 (dk_at dksX0_isMove_1 0 rfl rfl)
theorem dX0_isMove_26 : decode cX0_isMove 26 = .ok (.iconst 1, 1) := dk_4 (dk_at dksX0_isMove_1 3 rfl rfl)
theorem dX0_isMove_27 : decode cX0_isMove 27 = .ok (.goto 4, 3) := dk_167 0 4 (dk_at dksX0_isMove_1 4 rfl rfl)
theorem dX0_isMove_30 : decode cX0_isMove 30 = .ok (.iconst 0, 1) := dk_3 (dk_at dksX0_isMove_1 7 rfl rfl)
theorem dX0_isMove_31 : decode cX0_isMove 31 = .ok (.ireturn, 1) := dk_172 (dk_at dksX0_isMove_1 8 rfl rfl)
abbrev cX0_isOver : ByteArray := prog_1_method_10_code
def yX0_isOver : MethodName := ⟨RX0, "isOver", "()Z"⟩
def dkwX0_isOver_0 : List UInt8 := [42, 182, 0, 107, 154, 0, 14, 42, 180, 0, 25, 182, 0, 110, 6, 161, 0, 7, 4, 167, 0, 4, 3, 172]
abbrev dktX0_isOver_0 : List UInt8 := dkwX0_isOver_0 ++ []
theorem dksX0_isOver_0 : cX0_isOver.data.toList.drop 0 = dktX0_isOver_0 := by decide +kernel
theorem dX0_isOver_0 : decode cX0_isOver 0 = .ok (.aload_n 0, 1) := dk_42 (dk_at dksX0_isOver_0 0 rfl rfl)
theorem dX0_isOver_1 : decode cX0_isOver 1 = .ok (.invokevirtual 107, 3) := dk_182 0 107 (dk_at dksX0_isOver_0 1 rfl rfl)
theorem dX0_isOver_4 : decode cX0_isOver 4 = .ok (.ifCond .ne 14, 3) := dk_154 0 14 (dk_at dksX0_isOver_0 4 rfl rfl)
theorem dX0_isOver_7 : decode cX0_isOver 7 = .ok (.aload_n 0, 1) := dk_42 (dk_at dksX0_isOver_0 7 rfl rfl)
theorem dX0_isOver_8 : decode cX0_isOver 8 = .ok (.getfield 25, 3) := dk_180 0 25 (dk_at dksX0_isOver_0 8 rfl rfl)
theorem dX0_isOver_11 : decode cX0_isOver 11 = .ok (.invokevirtual 110, 3) := dk_182 0 110 (dk_at dksX0_isOver_0 11 rfl rfl)
theorem dX0_isOver_14 : decode cX0_isOver 14 = .ok (.iconst 3, 1) := dk_6 (dk_at dksX0_isOver_0 14 rfl rfl)
theorem dX0_isOver_15 : decode cX0_isOver 15 = .ok (.if_icmp .lt 7, 3) := dk_161 0 7 (dk_at dksX0_isOver_0 15 rfl rfl)
theorem dX0_isOver_18 : decode cX0_isOver 18 = .ok (.iconst 1, 1) := dk_4 (dk_at dksX0_isOver_0 18 rfl rfl)
theorem dX0_isOver_19 : decode cX0_isOver 19 = .ok (.goto 4, 3) := dk_167 0 4 (dk_at dksX0_isOver_0 19 rfl rfl)
theorem dX0_isOver_22 : decode cX0_isOver 22 = .ok (.iconst 0, 1) := dk_3 (dk_at dksX0_isOver_0 22 rfl rfl)
theorem dX0_isOver_23 : decode cX0_isOver 23 = .ok (.ireturn, 1) := dk_172 (dk_at dksX0_isOver_0 23 rfl rfl)
abbrev cX0_hasLost : ByteArray := prog_1_method_8_code
def yX0_hasLost : MethodName := ⟨RX0, "hasLost", "()Z"⟩
def dkwX0_hasLost_0 : List UInt8 := [42, 182, 0, 93, 42, 182, 0, 97, 42, 182, 0, 100, 182, 0, 103, 172]
abbrev dktX0_hasLost_0 : List UInt8 := dkwX0_hasLost_0 ++ []
theorem dksX0_hasLost_0 : cX0_hasLost.data.toList.drop 0 = dktX0_hasLost_0 := by decide +kernel
theorem dX0_hasLost_0 : decode cX0_hasLost 0 = .ok (.aload_n 0, 1) := dk_42 (dk_at dksX0_hasLost_0 0 rfl rfl)
theorem dX0_hasLost_1 : decode cX0_hasLost 1 = .ok (.invokevirtual 93, 3) := dk_182 0 93 (dk_at dksX0_hasLost_0 1 rfl rfl)
theorem dX0_hasLost_4 : decode cX0_hasLost 4 = .ok (.aload_n 0, 1) := dk_42 (dk_at dksX0_hasLost_0 4 rfl rfl)
theorem dX0_hasLost_5 : decode cX0_hasLost 5 = .ok (.invokevirtual 97, 3) := dk_182 0 97 (dk_at dksX0_hasLost_0 5 rfl rfl)
theorem dX0_hasLost_8 : decode cX0_hasLost 8 = .ok (.aload_n 0, 1) := dk_42 (dk_at dksX0_hasLost_0 8 rfl rfl)
theorem dX0_hasLost_9 : decode cX0_hasLost 9 = .ok (.invokevirtual 100, 3) := dk_182 0 100 (dk_at dksX0_hasLost_0 9 rfl rfl)
theorem dX0_hasLost_12 : decode cX0_hasLost 12 = .ok (.invokevirtual 103, 3) := dk_182 0 103 (dk_at dksX0_hasLost_0 12 rfl rfl)
theorem dX0_hasLost_15 : decode cX0_hasLost 15 = .ok (.ireturn, 1) := dk_172 (dk_at dksX0_hasLost_0 15 rfl rfl)
abbrev cX0_table : ByteArray := prog_1_method_5_code
def yX0_table : MethodName := ⟨RX0, "table", "()LMorrisTables$Table;"⟩
def dkwX0_table_3 : List UInt8 := [180, 0, 65, 4, 46, 183, 0, 79, 182, 0, 82, 192, 0, 77, 176]
abbrev dktX0_table_3 : List UInt8 := dkwX0_table_3 ++ []
def dkwX0_table_2 : List UInt8 := [42, 180, 0, 18, 27, 187, 0, 77, 89, 42, 180, 0, 25, 180, 0, 65, 3, 46, 42, 180, 0, 25]
abbrev dktX0_table_2 : List UInt8 := dkwX0_table_2 ++ dktX0_table_3
def dkwX0_table_1 : List UInt8 := [180, 0, 18, 27, 182, 0, 69, 153, 0, 17, 42, 180, 0, 18, 27, 182, 0, 73, 192, 0, 77, 167, 0, 39]
abbrev dktX0_table_1 : List UInt8 := dkwX0_table_1 ++ dktX0_table_2
def dkwX0_table_0 : List UInt8 := [5, 42, 180, 0, 25, 180, 0, 65, 3, 46, 104, 42, 180, 0, 25, 180, 0, 65, 4, 46, 96, 60, 42]
abbrev dktX0_table_0 : List UInt8 := dkwX0_table_0 ++ dktX0_table_1
theorem dksX0_table_0 : cX0_table.data.toList.drop 0 = dktX0_table_0 := by decide +kernel
theorem dksX0_table_1 : cX0_table.data.toList.drop 23 = dktX0_table_1 := dk_seg dksX0_table_0 23 rfl rfl
theorem dksX0_table_2 : cX0_table.data.toList.drop 47 = dktX0_table_2 := dk_seg dksX0_table_1 24 rfl rfl
theorem dksX0_table_3 : cX0_table.data.toList.drop 69 = dktX0_table_3 := dk_seg dksX0_table_2 22 rfl rfl
theorem dX0_table_0 : decode cX0_table 0 = .ok (.iconst 2, 1) := dk_5 (dk_at dksX0_table_0 0 rfl rfl)
theorem dX0_table_1 : decode cX0_table 1 = .ok (.aload_n 0, 1) := dk_42 (dk_at dksX0_table_0 1 rfl rfl)
theorem dX0_table_2 : decode cX0_table 2 = .ok (.getfield 25, 3) := dk_180 0 25 (dk_at dksX0_table_0 2 rfl rfl)
theorem dX0_table_5 : decode cX0_table 5 = .ok (.getfield 65, 3) := dk_180 0 65 (dk_at dksX0_table_0 5 rfl rfl)
theorem dX0_table_8 : decode cX0_table 8 = .ok (.iconst 0, 1) := dk_3 (dk_at dksX0_table_0 8 rfl rfl)
theorem dX0_table_9 : decode cX0_table 9 = .ok (.iaload, 1) := dk_46 (dk_at dksX0_table_0 9 rfl rfl)
theorem dX0_table_10 : decode cX0_table 10 = .ok (.imul, 1) := dk_104 (dk_at dksX0_table_0 10 rfl rfl)
theorem dX0_table_11 : decode cX0_table 11 = .ok (.aload_n 0, 1) := dk_42 (dk_at dksX0_table_0 11 rfl rfl)
theorem dX0_table_12 : decode cX0_table 12 = .ok (.getfield 25, 3) := dk_180 0 25 (dk_at dksX0_table_0 12 rfl rfl)
theorem dX0_table_15 : decode cX0_table 15 = .ok (.getfield 65, 3) := dk_180 0 65 (dk_at dksX0_table_0 15 rfl rfl)
theorem dX0_table_18 : decode cX0_table 18 = .ok (.iconst 1, 1) := dk_4 (dk_at dksX0_table_0 18 rfl rfl)
theorem dX0_table_19 : decode cX0_table 19 = .ok (.iaload, 1) := dk_46 (dk_at dksX0_table_0 19 rfl rfl)
theorem dX0_table_20 : decode cX0_table 20 = .ok (.iadd, 1) := dk_96 (dk_at dksX0_table_0 20 rfl rfl)
theorem dX0_table_21 : decode cX0_table 21 = .ok (.istore_n 1, 1) := dk_60 (dk_at dksX0_table_0 21 rfl rfl)
theorem dX0_table_22 : decode cX0_table 22 = .ok (.aload_n 0, 1) := dk_42 (dk_at dksX0_table_0 22 rfl rfl)
theorem dX0_table_23 : decode cX0_table 23 = .ok (.getfield 18, 3) := dk_180 0 18 (dk_at dksX0_table_1 0 rfl rfl)
theorem dX0_table_26 : decode cX0_table 26 = .ok (.iload_n 1, 1) := dk_27 (dk_at dksX0_table_1 3 rfl rfl)
theorem dX0_table_27 : decode cX0_table 27 = .ok (.invokevirtual 69, 3) := dk_182 0 69 (dk_at dksX0_table_1 4 rfl rfl)
theorem dX0_table_30 : decode cX0_table 30 = .ok (.ifCond .eq 17, 3) := dk_153 0 17 (dk_at dksX0_table_1 7 rfl rfl)
theorem dX0_table_33 : decode cX0_table 33 = .ok (.aload_n 0, 1) := dk_42 (dk_at dksX0_table_1 10 rfl rfl)
theorem dX0_table_34 : decode cX0_table 34 = .ok (.getfield 18, 3) := dk_180 0 18 (dk_at dksX0_table_1 11 rfl rfl)
theorem dX0_table_37 : decode cX0_table 37 = .ok (.iload_n 1, 1) := dk_27 (dk_at dksX0_table_1 14 rfl rfl)
theorem dX0_table_38 : decode cX0_table 38 = .ok (.invokevirtual 73, 3) := dk_182 0 73 (dk_at dksX0_table_1 15 rfl rfl)
theorem dX0_table_41 : decode cX0_table 41 = .ok (.checkcast 77, 3) := dk_192 0 77 (dk_at dksX0_table_1 18 rfl rfl)
theorem dX0_table_44 : decode cX0_table 44 = .ok (.goto 39, 3) := dk_167 0 39 (dk_at dksX0_table_1 21 rfl rfl)
theorem dX0_table_47 : decode cX0_table 47 = .ok (.aload_n 0, 1) := dk_42 (dk_at dksX0_table_2 0 rfl rfl)
theorem dX0_table_48 : decode cX0_table 48 = .ok (.getfield 18, 3) := dk_180 0 18 (dk_at dksX0_table_2 1 rfl rfl)
theorem dX0_table_51 : decode cX0_table 51 = .ok (.iload_n 1, 1) := dk_27 (dk_at dksX0_table_2 4 rfl rfl)
theorem dX0_table_52 : decode cX0_table 52 = .ok (.new 77, 3) := dk_187 0 77 (dk_at dksX0_table_2 5 rfl rfl)
theorem dX0_table_55 : decode cX0_table 55 = .ok (.dup, 1) := dk_89 (dk_at dksX0_table_2 8 rfl rfl)
theorem dX0_table_56 : decode cX0_table 56 = .ok (.aload_n 0, 1) := dk_42 (dk_at dksX0_table_2 9 rfl rfl)
theorem dX0_table_57 : decode cX0_table 57 = .ok (.getfield 25, 3) := dk_180 0 25 (dk_at dksX0_table_2 10 rfl rfl)
theorem dX0_table_60 : decode cX0_table 60 = .ok (.getfield 65, 3) := dk_180 0 65 (dk_at dksX0_table_2 13 rfl rfl)
theorem dX0_table_63 : decode cX0_table 63 = .ok (.iconst 0, 1) := dk_3 (dk_at dksX0_table_2 16 rfl rfl)
theorem dX0_table_64 : decode cX0_table 64 = .ok (.iaload, 1) := dk_46 (dk_at dksX0_table_2 17 rfl rfl)
theorem dX0_table_65 : decode cX0_table 65 = .ok (.aload_n 0, 1) := dk_42 (dk_at dksX0_table_2 18 rfl rfl)
theorem dX0_table_66 : decode cX0_table 66 = .ok (.getfield 25, 3) := dk_180 0 25 (dk_at dksX0_table_2 19 rfl rfl)
theorem dX0_table_69 : decode cX0_table 69 = .ok (.getfield 65, 3) := dk_180 0 65 (dk_at dksX0_table_3 0 rfl rfl)
theorem dX0_table_72 : decode cX0_table 72 = .ok (.iconst 1, 1) := dk_4 (dk_at dksX0_table_3 3 rfl rfl)
theorem dX0_table_73 : decode cX0_table 73 = .ok (.iaload, 1) := dk_46 (dk_at dksX0_table_3 4 rfl rfl)
theorem dX0_table_74 : decode cX0_table 74 = .ok (.invokespecial 79, 3) := dk_183 0 79 (dk_at dksX0_table_3 5 rfl rfl)
theorem dX0_table_77 : decode cX0_table 77 = .ok (.invokevirtual 82, 3) := dk_182 0 82 (dk_at dksX0_table_3 8 rfl rfl)
theorem dX0_table_80 : decode cX0_table 80 = .ok (.checkcast 77, 3) := dk_192 0 77 (dk_at dksX0_table_3 11 rfl rfl)
theorem dX0_table_83 : decode cX0_table 83 = .ok (.areturn, 1) := dk_176 (dk_at dksX0_table_3 14 rfl rfl)
abbrev cX0_own : ByteArray := prog_1_method_6_code
def yX0_own : MethodName := ⟨RX0, "own", "()I"⟩
def dkwX0_own_0 : List UInt8 := [42, 180, 0, 25, 180, 0, 86, 42, 180, 0, 25, 180, 0, 89, 46, 172]
abbrev dktX0_own_0 : List UInt8 := dkwX0_own_0 ++ []
theorem dksX0_own_0 : cX0_own.data.toList.drop 0 = dktX0_own_0 := by decide +kernel
theorem dX0_own_0 : decode cX0_own 0 = .ok (.aload_n 0, 1) := dk_42 (dk_at dksX0_own_0 0 rfl rfl)
theorem dX0_own_1 : decode cX0_own 1 = .ok (.getfield 25, 3) := dk_180 0 25 (dk_at dksX0_own_0 1 rfl rfl)
theorem dX0_own_4 : decode cX0_own 4 = .ok (.getfield 86, 3) := dk_180 0 86 (dk_at dksX0_own_0 4 rfl rfl)
theorem dX0_own_7 : decode cX0_own 7 = .ok (.aload_n 0, 1) := dk_42 (dk_at dksX0_own_0 7 rfl rfl)
theorem dX0_own_8 : decode cX0_own 8 = .ok (.getfield 25, 3) := dk_180 0 25 (dk_at dksX0_own_0 8 rfl rfl)
theorem dX0_own_11 : decode cX0_own 11 = .ok (.getfield 89, 3) := dk_180 0 89 (dk_at dksX0_own_0 11 rfl rfl)
theorem dX0_own_14 : decode cX0_own 14 = .ok (.iaload, 1) := dk_46 (dk_at dksX0_own_0 14 rfl rfl)
theorem dX0_own_15 : decode cX0_own 15 = .ok (.ireturn, 1) := dk_172 (dk_at dksX0_own_0 15 rfl rfl)
abbrev cX0_others : ByteArray := prog_1_method_7_code
def yX0_others : MethodName := ⟨RX0, "others", "()I"⟩
def dkwX0_others_0 : List UInt8 := [42, 180, 0, 25, 180, 0, 86, 4, 42, 180, 0, 25, 180, 0, 89, 100, 46, 172]
abbrev dktX0_others_0 : List UInt8 := dkwX0_others_0 ++ []
theorem dksX0_others_0 : cX0_others.data.toList.drop 0 = dktX0_others_0 := by decide +kernel
theorem dX0_others_0 : decode cX0_others 0 = .ok (.aload_n 0, 1) := dk_42 (dk_at dksX0_others_0 0 rfl rfl)
theorem dX0_others_1 : decode cX0_others 1 = .ok (.getfield 25, 3) := dk_180 0 25 (dk_at dksX0_others_0 1 rfl rfl)
theorem dX0_others_4 : decode cX0_others 4 = .ok (.getfield 86, 3) := dk_180 0 86 (dk_at dksX0_others_0 4 rfl rfl)
theorem dX0_others_7 : decode cX0_others 7 = .ok (.iconst 1, 1) := dk_4 (dk_at dksX0_others_0 7 rfl rfl)
theorem dX0_others_8 : decode cX0_others 8 = .ok (.aload_n 0, 1) := dk_42 (dk_at dksX0_others_0 8 rfl rfl)
theorem dX0_others_9 : decode cX0_others 9 = .ok (.getfield 25, 3) := dk_180 0 25 (dk_at dksX0_others_0 9 rfl rfl)
theorem dX0_others_12 : decode cX0_others 12 = .ok (.getfield 89, 3) := dk_180 0 89 (dk_at dksX0_others_0 12 rfl rfl)
theorem dX0_others_15 : decode cX0_others 15 = .ok (.isub, 1) := dk_100 (dk_at dksX0_others_0 15 rfl rfl)
theorem dX0_others_16 : decode cX0_others 16 = .ok (.iaload, 1) := dk_46 (dk_at dksX0_others_0 16 rfl rfl)
theorem dX0_others_17 : decode cX0_others 17 = .ok (.ireturn, 1) := dk_172 (dk_at dksX0_others_0 17 rfl rfl)
abbrev cX0_slide : ByteArray := prog_1_method_18_code
def yX0_slide : MethodName := ⟨RX0, "slide", "(II)I"⟩
def dkwX0_slide_0 : List UInt8 := [42, 27, 28, 4, 182, 0, 149, 172]
abbrev dktX0_slide_0 : List UInt8 := dkwX0_slide_0 ++ []
theorem dksX0_slide_0 : cX0_slide.data.toList.drop 0 = dktX0_slide_0 := by decide +kernel
theorem dX0_slide_0 : decode cX0_slide 0 = .ok (.aload_n 0, 1) := dk_42 (dk_at dksX0_slide_0 0 rfl rfl)
theorem dX0_slide_1 : decode cX0_slide 1 = .ok (.iload_n 1, 1) := dk_27 (dk_at dksX0_slide_0 1 rfl rfl)
theorem dX0_slide_2 : decode cX0_slide 2 = .ok (.iload_n 2, 1) := dk_28 (dk_at dksX0_slide_0 2 rfl rfl)
theorem dX0_slide_3 : decode cX0_slide 3 = .ok (.iconst 1, 1) := dk_4 (dk_at dksX0_slide_0 3 rfl rfl)
theorem dX0_slide_4 : decode cX0_slide 4 = .ok (.invokevirtual 149, 3) := dk_182 0 149 (dk_at dksX0_slide_0 4 rfl rfl)
theorem dX0_slide_7 : decode cX0_slide 7 = .ok (.ireturn, 1) := dk_172 (dk_at dksX0_slide_0 7 rfl rfl)
abbrev cX0_slides : ByteArray := prog_1_method_17_code
def yX0_slides : MethodName := ⟨RX0, "slides", "(IIZ)I"⟩
def dkwX0_slides_3 : List UInt8 := [16, 9, 16, 9, 27, 104, 96, 28, 96, 182, 0, 137, 42, 180, 0, 25, 180, 0, 89, 172]
abbrev dktX0_slides_3 : List UInt8 := dkwX0_slides_3 ++ []
def dkwX0_slides_2 : List UInt8 := [167, 0, 5, 16, 251, 29, 182, 0, 122, 54, 5, 21, 5, 156, 0, 6, 21, 5, 172, 42, 180, 0, 25]
abbrev dktX0_slides_2 : List UInt8 := dkwX0_slides_2 ++ dktX0_slides_3
def dkwX0_slides_1 : List UInt8 := [154, 0, 7, 2, 167, 0, 25, 42, 16, 9, 16, 9, 27, 104, 96, 28, 96, 182, 0, 135, 153, 0, 7, 3]
abbrev dktX0_slides_1 : List UInt8 := dkwX0_slides_1 ++ dktX0_slides_2
def dkwX0_slides_0 : List UInt8 := [27, 184, 0, 132, 153, 0, 14, 28, 184, 0, 132, 153, 0, 7, 4, 167, 0, 4, 3, 54, 4, 42, 21, 4]
abbrev dktX0_slides_0 : List UInt8 := dkwX0_slides_0 ++ dktX0_slides_1
theorem dksX0_slides_0 : cX0_slides.data.toList.drop 0 = dktX0_slides_0 := by decide +kernel
theorem dksX0_slides_1 : cX0_slides.data.toList.drop 24 = dktX0_slides_1 := dk_seg dksX0_slides_0 24 rfl rfl
theorem dksX0_slides_2 : cX0_slides.data.toList.drop 48 = dktX0_slides_2 := dk_seg dksX0_slides_1 24 rfl rfl
theorem dksX0_slides_3 : cX0_slides.data.toList.drop 71 = dktX0_slides_3 := dk_seg dksX0_slides_2 23 rfl rfl
theorem dX0_slides_0 : decode cX0_slides 0 = .ok (.iload_n 1, 1) := dk_27 (dk_at dksX0_slides_0 0 rfl rfl)
theorem dX0_slides_1 : decode cX0_slides 1 = .ok (.invokestatic 132, 3) := dk_184 0 132 (dk_at dksX0_slides_0 1 rfl rfl)
theorem dX0_slides_4 : decode cX0_slides 4 = .ok (.ifCond .eq 14, 3) := dk_153 0 14 (dk_at dksX0_slides_0 4 rfl rfl)
theorem dX0_slides_7 : decode cX0_slides 7 = .ok (.iload_n 2, 1) := dk_28 (dk_at dksX0_slides_0 7 rfl rfl)
theorem dX0_slides_8 : decode cX0_slides 8 = .ok (.invokestatic 132, 3) := dk_184 0 132 (dk_at dksX0_slides_0 8 rfl rfl)
theorem dX0_slides_11 : decode cX0_slides 11 = .ok (.ifCond .eq 7, 3) := dk_153 0 7 (dk_at dksX0_slides_0 11 rfl rfl)
theorem dX0_slides_14 : decode cX0_slides 14 = .ok (.iconst 1, 1) := dk_4 (dk_at dksX0_slides_0 14 rfl rfl)
theorem dX0_slides_15 : decode cX0_slides 15 = .ok (.goto 4, 3) := dk_167 0 4 (dk_at dksX0_slides_0 15 rfl rfl)
theorem dX0_slides_18 : decode cX0_slides 18 = .ok (.iconst 0, 1) := dk_3 (dk_at dksX0_slides_0 18 rfl rfl)
theorem dX0_slides_19 : decode cX0_slides 19 = .ok (.istore 4, 2) := dk_54 4 (dk_at dksX0_slides_0 19 rfl rfl)
theorem dX0_slides_21 : decode cX0_slides 21 = .ok (.aload_n 0, 1) := dk_42 (dk_at dksX0_slides_0 21 rfl rfl)
theorem dX0_slides_22 : decode cX0_slides 22 = .ok (.iload 4, 2) := dk_21 4 (dk_at dksX0_slides_0 22 rfl rfl)
theorem dX0_slides_24 : decode cX0_slides 24 = .ok (.ifCond .ne 7, 3) := dk_154 0 7 (dk_at dksX0_slides_1 0 rfl rfl)
theorem dX0_slides_27 : decode cX0_slides 27 = .ok (.iconst (-1), 1) := dk_2 (dk_at dksX0_slides_1 3 rfl rfl)
theorem dX0_slides_28 : decode cX0_slides 28 = .ok (.goto 25, 3) := dk_167 0 25 (dk_at dksX0_slides_1 4 rfl rfl)
theorem dX0_slides_31 : decode cX0_slides 31 = .ok (.aload_n 0, 1) := dk_42 (dk_at dksX0_slides_1 7 rfl rfl)
theorem dX0_slides_32 : decode cX0_slides 32 = .ok (.bipush 9, 2) := dk_16 9 (dk_at dksX0_slides_1 8 rfl rfl)
theorem dX0_slides_34 : decode cX0_slides 34 = .ok (.bipush 9, 2) := dk_16 9 (dk_at dksX0_slides_1 10 rfl rfl)
theorem dX0_slides_36 : decode cX0_slides 36 = .ok (.iload_n 1, 1) := dk_27 (dk_at dksX0_slides_1 12 rfl rfl)
theorem dX0_slides_37 : decode cX0_slides 37 = .ok (.imul, 1) := dk_104 (dk_at dksX0_slides_1 13 rfl rfl)
theorem dX0_slides_38 : decode cX0_slides 38 = .ok (.iadd, 1) := dk_96 (dk_at dksX0_slides_1 14 rfl rfl)
theorem dX0_slides_39 : decode cX0_slides 39 = .ok (.iload_n 2, 1) := dk_28 (dk_at dksX0_slides_1 15 rfl rfl)
theorem dX0_slides_40 : decode cX0_slides 40 = .ok (.iadd, 1) := dk_96 (dk_at dksX0_slides_1 16 rfl rfl)
theorem dX0_slides_41 : decode cX0_slides 41 = .ok (.invokevirtual 135, 3) := dk_182 0 135 (dk_at dksX0_slides_1 17 rfl rfl)
theorem dX0_slides_44 : decode cX0_slides 44 = .ok (.ifCond .eq 7, 3) := dk_153 0 7 (dk_at dksX0_slides_1 20 rfl rfl)
theorem dX0_slides_47 : decode cX0_slides 47 = .ok (.iconst 0, 1) := dk_3 (dk_at dksX0_slides_1 23 rfl rfl)
theorem dX0_slides_48 : decode cX0_slides 48 = .ok (.goto 5, 3) := dk_167 0 5 (dk_at dksX0_slides_2 0 rfl rfl)
theorem dX0_slides_51 : decode cX0_slides 51 = .ok (.bipush (-5), 2) := dk_16 251 (dk_at dksX0_slides_2 3 rfl rfl)
theorem dX0_slides_53 : decode cX0_slides 53 = .ok (.iload_n 3, 1) := dk_29 (dk_at dksX0_slides_2 5 rfl rfl)
theorem dX0_slides_54 : decode cX0_slides 54 = .ok (.invokevirtual 122, 3) := dk_182 0 122 (dk_at dksX0_slides_2 6 rfl rfl)
theorem dX0_slides_57 : decode cX0_slides 57 = .ok (.istore 5, 2) := dk_54 5 (dk_at dksX0_slides_2 9 rfl rfl)
theorem dX0_slides_59 : decode cX0_slides 59 = .ok (.iload 5, 2) := dk_21 5 (dk_at dksX0_slides_2 11 rfl rfl)
theorem dX0_slides_61 : decode cX0_slides 61 = .ok (.ifCond .ge 6, 3) := dk_156 0 6 (dk_at dksX0_slides_2 13 rfl rfl)
theorem dX0_slides_64 : decode cX0_slides 64 = .ok (.iload 5, 2) := dk_21 5 (dk_at dksX0_slides_2 16 rfl rfl)
theorem dX0_slides_66 : decode cX0_slides 66 = .ok (.ireturn, 1) := dk_172 (dk_at dksX0_slides_2 18 rfl rfl)
theorem dX0_slides_67 : decode cX0_slides 67 = .ok (.aload_n 0, 1) := dk_42 (dk_at dksX0_slides_2 19 rfl rfl)
theorem dX0_slides_68 : decode cX0_slides 68 = .ok (.getfield 25, 3) := dk_180 0 25 (dk_at dksX0_slides_2 20 rfl rfl)
theorem dX0_slides_71 : decode cX0_slides 71 = .ok (.bipush 9, 2) := dk_16 9 (dk_at dksX0_slides_3 0 rfl rfl)
theorem dX0_slides_73 : decode cX0_slides 73 = .ok (.bipush 9, 2) := dk_16 9 (dk_at dksX0_slides_3 2 rfl rfl)
theorem dX0_slides_75 : decode cX0_slides 75 = .ok (.iload_n 1, 1) := dk_27 (dk_at dksX0_slides_3 4 rfl rfl)
theorem dX0_slides_76 : decode cX0_slides 76 = .ok (.imul, 1) := dk_104 (dk_at dksX0_slides_3 5 rfl rfl)
theorem dX0_slides_77 : decode cX0_slides 77 = .ok (.iadd, 1) := dk_96 (dk_at dksX0_slides_3 6 rfl rfl)
theorem dX0_slides_78 : decode cX0_slides 78 = .ok (.iload_n 2, 1) := dk_28 (dk_at dksX0_slides_3 7 rfl rfl)
theorem dX0_slides_79 : decode cX0_slides 79 = .ok (.iadd, 1) := dk_96 (dk_at dksX0_slides_3 8 rfl rfl)
theorem dX0_slides_80 : decode cX0_slides 80 = .ok (.invokevirtual 137, 3) := dk_182 0 137 (dk_at dksX0_slides_3 9 rfl rfl)
theorem dX0_slides_83 : decode cX0_slides 83 = .ok (.aload_n 0, 1) := dk_42 (dk_at dksX0_slides_3 12 rfl rfl)
theorem dX0_slides_84 : decode cX0_slides 84 = .ok (.getfield 25, 3) := dk_180 0 25 (dk_at dksX0_slides_3 13 rfl rfl)
theorem dX0_slides_87 : decode cX0_slides 87 = .ok (.getfield 89, 3) := dk_180 0 89 (dk_at dksX0_slides_3 16 rfl rfl)
theorem dX0_slides_90 : decode cX0_slides 90 = .ok (.ireturn, 1) := dk_172 (dk_at dksX0_slides_3 19 rfl rfl)
abbrev cX0_pass : ByteArray := prog_1_method_20_code
def yX0_pass : MethodName := ⟨RX0, "pass", "()I"⟩
def dkwX0_pass_0 : List UInt8 := [42, 4, 182, 0, 153, 172]
abbrev dktX0_pass_0 : List UInt8 := dkwX0_pass_0 ++ []
theorem dksX0_pass_0 : cX0_pass.data.toList.drop 0 = dktX0_pass_0 := by decide +kernel
theorem dX0_pass_0 : decode cX0_pass 0 = .ok (.aload_n 0, 1) := dk_42 (dk_at dksX0_pass_0 0 rfl rfl)
theorem dX0_pass_1 : decode cX0_pass 1 = .ok (.iconst 1, 1) := dk_4 (dk_at dksX0_pass_0 1 rfl rfl)
theorem dX0_pass_2 : decode cX0_pass 2 = .ok (.invokevirtual 153, 3) := dk_182 0 153 (dk_at dksX0_pass_0 2 rfl rfl)
theorem dX0_pass_5 : decode cX0_pass 5 = .ok (.ireturn, 1) := dk_172 (dk_at dksX0_pass_0 5 rfl rfl)
abbrev cX0_passes : ByteArray := prog_1_method_19_code
def yX0_passes : MethodName := ⟨RX0, "passes", "(Z)I"⟩
def dkwX0_passes_1 : List UInt8 := [156, 0, 5, 28, 172, 42, 180, 0, 25, 16, 90, 182, 0, 137, 42, 180, 0, 25, 180, 0, 89, 172]
abbrev dktX0_passes_1 : List UInt8 := dkwX0_passes_1 ++ []
def dkwX0_passes_0 : List UInt8 := [42, 42, 16, 90, 182, 0, 135, 153, 0, 7, 3, 167, 0, 5, 16, 251, 27, 182, 0, 122, 61, 28]
abbrev dktX0_passes_0 : List UInt8 := dkwX0_passes_0 ++ dktX0_passes_1
theorem dksX0_passes_0 : cX0_passes.data.toList.drop 0 = dktX0_passes_0 := by decide +kernel
theorem dksX0_passes_1 : cX0_passes.data.toList.drop 22 = dktX0_passes_1 := dk_seg dksX0_passes_0 22 rfl rfl
theorem dX0_passes_0 : decode cX0_passes 0 = .ok (.aload_n 0, 1) := dk_42 (dk_at dksX0_passes_0 0 rfl rfl)
theorem dX0_passes_1 : decode cX0_passes 1 = .ok (.aload_n 0, 1) := dk_42 (dk_at dksX0_passes_0 1 rfl rfl)
theorem dX0_passes_2 : decode cX0_passes 2 = .ok (.bipush 90, 2) := dk_16 90 (dk_at dksX0_passes_0 2 rfl rfl)
theorem dX0_passes_4 : decode cX0_passes 4 = .ok (.invokevirtual 135, 3) := dk_182 0 135 (dk_at dksX0_passes_0 4 rfl rfl)
theorem dX0_passes_7 : decode cX0_passes 7 = .ok (.ifCond .eq 7, 3) := dk_153 0 7 (dk_at dksX0_passes_0 7 rfl rfl)
theorem dX0_passes_10 : decode cX0_passes 10 = .ok (.iconst 0, 1) := dk_3 (dk_at dksX0_passes_0 10 rfl rfl)
theorem dX0_passes_11 : decode cX0_passes 11 = .ok (.goto 5, 3) := dk_167 0 5 (dk_at dksX0_passes_0 11 rfl rfl)
theorem dX0_passes_14 : decode cX0_passes 14 = .ok (.bipush (-5), 2) := dk_16 251 (dk_at dksX0_passes_0 14 rfl rfl)
theorem dX0_passes_16 : decode cX0_passes 16 = .ok (.iload_n 1, 1) := dk_27 (dk_at dksX0_passes_0 16 rfl rfl)
theorem dX0_passes_17 : decode cX0_passes 17 = .ok (.invokevirtual 122, 3) := dk_182 0 122 (dk_at dksX0_passes_0 17 rfl rfl)
theorem dX0_passes_20 : decode cX0_passes 20 = .ok (.istore_n 2, 1) := dk_61 (dk_at dksX0_passes_0 20 rfl rfl)
theorem dX0_passes_21 : decode cX0_passes 21 = .ok (.iload_n 2, 1) := dk_28 (dk_at dksX0_passes_0 21 rfl rfl)
theorem dX0_passes_22 : decode cX0_passes 22 = .ok (.ifCond .ge 5, 3) := dk_156 0 5 (dk_at dksX0_passes_1 0 rfl rfl)
theorem dX0_passes_25 : decode cX0_passes 25 = .ok (.iload_n 2, 1) := dk_28 (dk_at dksX0_passes_1 3 rfl rfl)
theorem dX0_passes_26 : decode cX0_passes 26 = .ok (.ireturn, 1) := dk_172 (dk_at dksX0_passes_1 4 rfl rfl)
theorem dX0_passes_27 : decode cX0_passes 27 = .ok (.aload_n 0, 1) := dk_42 (dk_at dksX0_passes_1 5 rfl rfl)
theorem dX0_passes_28 : decode cX0_passes 28 = .ok (.getfield 25, 3) := dk_180 0 25 (dk_at dksX0_passes_1 6 rfl rfl)
theorem dX0_passes_31 : decode cX0_passes 31 = .ok (.bipush 90, 2) := dk_16 90 (dk_at dksX0_passes_1 9 rfl rfl)
theorem dX0_passes_33 : decode cX0_passes 33 = .ok (.invokevirtual 137, 3) := dk_182 0 137 (dk_at dksX0_passes_1 11 rfl rfl)
theorem dX0_passes_36 : decode cX0_passes 36 = .ok (.aload_n 0, 1) := dk_42 (dk_at dksX0_passes_1 14 rfl rfl)
theorem dX0_passes_37 : decode cX0_passes 37 = .ok (.getfield 25, 3) := dk_180 0 25 (dk_at dksX0_passes_1 15 rfl rfl)
theorem dX0_passes_40 : decode cX0_passes 40 = .ok (.getfield 89, 3) := dk_180 0 89 (dk_at dksX0_passes_1 18 rfl rfl)
theorem dX0_passes_43 : decode cX0_passes 43 = .ok (.ireturn, 1) := dk_172 (dk_at dksX0_passes_1 21 rfl rfl)
abbrev cX0_play : ByteArray := prog_1_method_22_code
def yX0_play : MethodName := ⟨RX0, "play", "(I)I"⟩
def dkwX0_play_0 : List UInt8 := [42, 27, 4, 182, 0, 160, 172]
abbrev dktX0_play_0 : List UInt8 := dkwX0_play_0 ++ []
theorem dksX0_play_0 : cX0_play.data.toList.drop 0 = dktX0_play_0 := by decide +kernel
theorem dX0_play_0 : decode cX0_play 0 = .ok (.aload_n 0, 1) := dk_42 (dk_at dksX0_play_0 0 rfl rfl)
theorem dX0_play_1 : decode cX0_play 1 = .ok (.iload_n 1, 1) := dk_27 (dk_at dksX0_play_0 1 rfl rfl)
theorem dX0_play_2 : decode cX0_play 2 = .ok (.iconst 1, 1) := dk_4 (dk_at dksX0_play_0 2 rfl rfl)
theorem dX0_play_3 : decode cX0_play 3 = .ok (.invokevirtual 160, 3) := dk_182 0 160 (dk_at dksX0_play_0 3 rfl rfl)
theorem dX0_play_6 : decode cX0_play 6 = .ok (.ireturn, 1) := dk_172 (dk_at dksX0_play_0 6 rfl rfl)
abbrev cX0_plays : ByteArray := prog_1_method_21_code
def yX0_plays : MethodName := ⟨RX0, "plays", "(IZ)I"⟩
def dkwX0_plays_3 : List UInt8 := [167, 255, 229, 21, 4, 172]
abbrev dktX0_plays_3 : List UInt8 := dkwX0_plays_3 ++ []
def dkwX0_plays_2 : List UInt8 := [162, 0, 27, 42, 182, 0, 113, 154, 0, 20, 42, 180, 0, 25, 42, 182, 0, 157, 182, 0, 137, 132, 4, 1]
abbrev dktX0_plays_2 : List UInt8 := dkwX0_plays_2 ++ dktX0_plays_3
def dkwX0_plays_1 : List UInt8 := [16, 251, 167, 0, 4, 3, 28, 182, 0, 122, 62, 29, 156, 0, 5, 29, 172, 3, 54, 4, 21, 4, 27]
abbrev dktX0_plays_1 : List UInt8 := dkwX0_plays_1 ++ dktX0_plays_2
def dkwX0_plays_0 : List UInt8 := [42, 27, 4, 16, 60, 184, 0, 3, 154, 0, 8, 16, 254, 167, 0, 16, 42, 182, 0, 113, 153, 0, 8]
abbrev dktX0_plays_0 : List UInt8 := dkwX0_plays_0 ++ dktX0_plays_1
theorem dksX0_plays_0 : cX0_plays.data.toList.drop 0 = dktX0_plays_0 := by decide +kernel
theorem dksX0_plays_1 : cX0_plays.data.toList.drop 23 = dktX0_plays_1 := dk_seg dksX0_plays_0 23 rfl rfl
theorem dksX0_plays_2 : cX0_plays.data.toList.drop 46 = dktX0_plays_2 := dk_seg dksX0_plays_1 23 rfl rfl
theorem dksX0_plays_3 : cX0_plays.data.toList.drop 70 = dktX0_plays_3 := dk_seg dksX0_plays_2 24 rfl rfl
theorem dX0_plays_0 : decode cX0_plays 0 = .ok (.aload_n 0, 1) := dk_42 (dk_at dksX0_plays_0 0 rfl rfl)
theorem dX0_plays_1 : decode cX0_plays 1 = .ok (.iload_n 1, 1) := dk_27 (dk_at dksX0_plays_0 1 rfl rfl)
theorem dX0_plays_2 : decode cX0_plays 2 = .ok (.iconst 1, 1) := dk_4 (dk_at dksX0_plays_0 2 rfl rfl)
theorem dX0_plays_3 : decode cX0_plays 3 = .ok (.bipush 60, 2) := dk_16 60 (dk_at dksX0_plays_0 3 rfl rfl)
theorem dX0_plays_5 : decode cX0_plays 5 = .ok (.invokestatic 3, 3) := dk_184 0 3 (dk_at dksX0_plays_0 5 rfl rfl)
theorem dX0_plays_8 : decode cX0_plays 8 = .ok (.ifCond .ne 8, 3) := dk_154 0 8 (dk_at dksX0_plays_0 8 rfl rfl)
theorem dX0_plays_11 : decode cX0_plays 11 = .ok (.bipush (-2), 2) := dk_16 254 (dk_at dksX0_plays_0 11 rfl rfl)
theorem dX0_plays_13 : decode cX0_plays 13 = .ok (.goto 16, 3) := dk_167 0 16 (dk_at dksX0_plays_0 13 rfl rfl)
theorem dX0_plays_16 : decode cX0_plays 16 = .ok (.aload_n 0, 1) := dk_42 (dk_at dksX0_plays_0 16 rfl rfl)
theorem dX0_plays_17 : decode cX0_plays 17 = .ok (.invokevirtual 113, 3) := dk_182 0 113 (dk_at dksX0_plays_0 17 rfl rfl)
theorem dX0_plays_20 : decode cX0_plays 20 = .ok (.ifCond .eq 8, 3) := dk_153 0 8 (dk_at dksX0_plays_0 20 rfl rfl)
theorem dX0_plays_23 : decode cX0_plays 23 = .ok (.bipush (-5), 2) := dk_16 251 (dk_at dksX0_plays_1 0 rfl rfl)
theorem dX0_plays_25 : decode cX0_plays 25 = .ok (.goto 4, 3) := dk_167 0 4 (dk_at dksX0_plays_1 2 rfl rfl)
theorem dX0_plays_28 : decode cX0_plays 28 = .ok (.iconst 0, 1) := dk_3 (dk_at dksX0_plays_1 5 rfl rfl)
theorem dX0_plays_29 : decode cX0_plays 29 = .ok (.iload_n 2, 1) := dk_28 (dk_at dksX0_plays_1 6 rfl rfl)
theorem dX0_plays_30 : decode cX0_plays 30 = .ok (.invokevirtual 122, 3) := dk_182 0 122 (dk_at dksX0_plays_1 7 rfl rfl)
theorem dX0_plays_33 : decode cX0_plays 33 = .ok (.istore_n 3, 1) := dk_62 (dk_at dksX0_plays_1 10 rfl rfl)
theorem dX0_plays_34 : decode cX0_plays 34 = .ok (.iload_n 3, 1) := dk_29 (dk_at dksX0_plays_1 11 rfl rfl)
theorem dX0_plays_35 : decode cX0_plays 35 = .ok (.ifCond .ge 5, 3) := dk_156 0 5 (dk_at dksX0_plays_1 12 rfl rfl)
theorem dX0_plays_38 : decode cX0_plays 38 = .ok (.iload_n 3, 1) := dk_29 (dk_at dksX0_plays_1 15 rfl rfl)
theorem dX0_plays_39 : decode cX0_plays 39 = .ok (.ireturn, 1) := dk_172 (dk_at dksX0_plays_1 16 rfl rfl)
theorem dX0_plays_40 : decode cX0_plays 40 = .ok (.iconst 0, 1) := dk_3 (dk_at dksX0_plays_1 17 rfl rfl)
theorem dX0_plays_41 : decode cX0_plays 41 = .ok (.istore 4, 2) := dk_54 4 (dk_at dksX0_plays_1 18 rfl rfl)
theorem dX0_plays_43 : decode cX0_plays 43 = .ok (.iload 4, 2) := dk_21 4 (dk_at dksX0_plays_1 20 rfl rfl)
theorem dX0_plays_45 : decode cX0_plays 45 = .ok (.iload_n 1, 1) := dk_27 (dk_at dksX0_plays_1 22 rfl rfl)
theorem dX0_plays_46 : decode cX0_plays 46 = .ok (.if_icmp .ge 27, 3) := dk_162 0 27 (dk_at dksX0_plays_2 0 rfl rfl)
theorem dX0_plays_49 : decode cX0_plays 49 = .ok (.aload_n 0, 1) := dk_42 (dk_at dksX0_plays_2 3 rfl rfl)
theorem dX0_plays_50 : decode cX0_plays 50 = .ok (.invokevirtual 113, 3) := dk_182 0 113 (dk_at dksX0_plays_2 4 rfl rfl)
theorem dX0_plays_53 : decode cX0_plays 53 = .ok (.ifCond .ne 20, 3) := dk_154 0 20 (dk_at dksX0_plays_2 7 rfl rfl)
theorem dX0_plays_56 : decode cX0_plays 56 = .ok (.aload_n 0, 1) := dk_42 (dk_at dksX0_plays_2 10 rfl rfl)
theorem dX0_plays_57 : decode cX0_plays 57 = .ok (.getfield 25, 3) := dk_180 0 25 (dk_at dksX0_plays_2 11 rfl rfl)
theorem dX0_plays_60 : decode cX0_plays 60 = .ok (.aload_n 0, 1) := dk_42 (dk_at dksX0_plays_2 14 rfl rfl)
theorem dX0_plays_61 : decode cX0_plays 61 = .ok (.invokevirtual 157, 3) := dk_182 0 157 (dk_at dksX0_plays_2 15 rfl rfl)
theorem dX0_plays_64 : decode cX0_plays 64 = .ok (.invokevirtual 137, 3) := dk_182 0 137 (dk_at dksX0_plays_2 18 rfl rfl)
theorem dX0_plays_67 : decode cX0_plays 67 = .ok (.iinc 4 1, 3) := dk_132 4 1 (dk_at dksX0_plays_2 21 rfl rfl)
theorem dX0_plays_70 : decode cX0_plays 70 = .ok (.goto (-27), 3) := dk_167 255 229 (dk_at dksX0_plays_3 0 rfl rfl)
theorem dX0_plays_73 : decode cX0_plays 73 = .ok (.iload 4, 2) := dk_21 4 (dk_at dksX0_plays_3 3 rfl rfl)
theorem dX0_plays_75 : decode cX0_plays 75 = .ok (.ireturn, 1) := dk_172 (dk_at dksX0_plays_3 5 rfl rfl)
abbrev cX0_bestMove : ByteArray := prog_1_method_31_code
def yX0_bestMove : MethodName := ⟨RX0, "bestMove", "()I"⟩
def dkwX0_bestMove_2 : List UInt8 := [153, 0, 12, 42, 29, 182, 0, 183, 28, 159, 0, 9, 132, 3, 1, 167, 255, 225, 29, 172]
abbrev dktX0_bestMove_2 : List UInt8 := dkwX0_bestMove_2 ++ []
def dkwX0_bestMove_1 : List UInt8 := [167, 0, 4, 3, 61, 3, 62, 42, 182, 0, 93, 42, 182, 0, 97, 42, 182, 0, 100, 29, 182, 0, 116]
abbrev dktX0_bestMove_1 : List UInt8 := dkwX0_bestMove_1 ++ dktX0_bestMove_2
def dkwX0_bestMove_0 : List UInt8 := [42, 182, 0, 180, 60, 27, 158, 0, 8, 27, 116, 167, 0, 15, 27, 156, 0, 10, 16, 254, 27, 100]
abbrev dktX0_bestMove_0 : List UInt8 := dkwX0_bestMove_0 ++ dktX0_bestMove_1
theorem dksX0_bestMove_0 : cX0_bestMove.data.toList.drop 0 = dktX0_bestMove_0 := by decide +kernel
theorem dksX0_bestMove_1 : cX0_bestMove.data.toList.drop 22 = dktX0_bestMove_1 := dk_seg dksX0_bestMove_0 22 rfl rfl
theorem dksX0_bestMove_2 : cX0_bestMove.data.toList.drop 45 = dktX0_bestMove_2 := dk_seg dksX0_bestMove_1 23 rfl rfl
theorem dX0_bestMove_0 : decode cX0_bestMove 0 = .ok (.aload_n 0, 1) := dk_42 (dk_at dksX0_bestMove_0 0 rfl rfl)
theorem dX0_bestMove_1 : decode cX0_bestMove 1 = .ok (.invokevirtual 180, 3) := dk_182 0 180 (dk_at dksX0_bestMove_0 1 rfl rfl)
theorem dX0_bestMove_4 : decode cX0_bestMove 4 = .ok (.istore_n 1, 1) := dk_60 (dk_at dksX0_bestMove_0 4 rfl rfl)
theorem dX0_bestMove_5 : decode cX0_bestMove 5 = .ok (.iload_n 1, 1) := dk_27 (dk_at dksX0_bestMove_0 5 rfl rfl)
theorem dX0_bestMove_6 : decode cX0_bestMove 6 = .ok (.ifCond .le 8, 3) := dk_158 0 8 (dk_at dksX0_bestMove_0 6 rfl rfl)
theorem dX0_bestMove_9 : decode cX0_bestMove 9 = .ok (.iload_n 1, 1) := dk_27 (dk_at dksX0_bestMove_0 9 rfl rfl)
theorem dX0_bestMove_10 : decode cX0_bestMove 10 = .ok (.ineg, 1) := dk_116 (dk_at dksX0_bestMove_0 10 rfl rfl)
theorem dX0_bestMove_11 : decode cX0_bestMove 11 = .ok (.goto 15, 3) := dk_167 0 15 (dk_at dksX0_bestMove_0 11 rfl rfl)
theorem dX0_bestMove_14 : decode cX0_bestMove 14 = .ok (.iload_n 1, 1) := dk_27 (dk_at dksX0_bestMove_0 14 rfl rfl)
theorem dX0_bestMove_15 : decode cX0_bestMove 15 = .ok (.ifCond .ge 10, 3) := dk_156 0 10 (dk_at dksX0_bestMove_0 15 rfl rfl)
theorem dX0_bestMove_18 : decode cX0_bestMove 18 = .ok (.bipush (-2), 2) := dk_16 254 (dk_at dksX0_bestMove_0 18 rfl rfl)
theorem dX0_bestMove_20 : decode cX0_bestMove 20 = .ok (.iload_n 1, 1) := dk_27 (dk_at dksX0_bestMove_0 20 rfl rfl)
theorem dX0_bestMove_21 : decode cX0_bestMove 21 = .ok (.isub, 1) := dk_100 (dk_at dksX0_bestMove_0 21 rfl rfl)
theorem dX0_bestMove_22 : decode cX0_bestMove 22 = .ok (.goto 4, 3) := dk_167 0 4 (dk_at dksX0_bestMove_1 0 rfl rfl)
theorem dX0_bestMove_25 : decode cX0_bestMove 25 = .ok (.iconst 0, 1) := dk_3 (dk_at dksX0_bestMove_1 3 rfl rfl)
theorem dX0_bestMove_26 : decode cX0_bestMove 26 = .ok (.istore_n 2, 1) := dk_61 (dk_at dksX0_bestMove_1 4 rfl rfl)
theorem dX0_bestMove_27 : decode cX0_bestMove 27 = .ok (.iconst 0, 1) := dk_3 (dk_at dksX0_bestMove_1 5 rfl rfl)
theorem dX0_bestMove_28 : decode cX0_bestMove 28 = .ok (.istore_n 3, 1) := dk_62 (dk_at dksX0_bestMove_1 6 rfl rfl)
theorem dX0_bestMove_29 : decode cX0_bestMove 29 = .ok (.aload_n 0, 1) := dk_42 (dk_at dksX0_bestMove_1 7 rfl rfl)
theorem dX0_bestMove_30 : decode cX0_bestMove 30 = .ok (.invokevirtual 93, 3) := dk_182 0 93 (dk_at dksX0_bestMove_1 8 rfl rfl)
theorem dX0_bestMove_33 : decode cX0_bestMove 33 = .ok (.aload_n 0, 1) := dk_42 (dk_at dksX0_bestMove_1 11 rfl rfl)
theorem dX0_bestMove_34 : decode cX0_bestMove 34 = .ok (.invokevirtual 97, 3) := dk_182 0 97 (dk_at dksX0_bestMove_1 12 rfl rfl)
theorem dX0_bestMove_37 : decode cX0_bestMove 37 = .ok (.aload_n 0, 1) := dk_42 (dk_at dksX0_bestMove_1 15 rfl rfl)
theorem dX0_bestMove_38 : decode cX0_bestMove 38 = .ok (.invokevirtual 100, 3) := dk_182 0 100 (dk_at dksX0_bestMove_1 16 rfl rfl)
theorem dX0_bestMove_41 : decode cX0_bestMove 41 = .ok (.iload_n 3, 1) := dk_29 (dk_at dksX0_bestMove_1 19 rfl rfl)
theorem dX0_bestMove_42 : decode cX0_bestMove 42 = .ok (.invokevirtual 116, 3) := dk_182 0 116 (dk_at dksX0_bestMove_1 20 rfl rfl)
theorem dX0_bestMove_45 : decode cX0_bestMove 45 = .ok (.ifCond .eq 12, 3) := dk_153 0 12 (dk_at dksX0_bestMove_2 0 rfl rfl)
theorem dX0_bestMove_48 : decode cX0_bestMove 48 = .ok (.aload_n 0, 1) := dk_42 (dk_at dksX0_bestMove_2 3 rfl rfl)
theorem dX0_bestMove_49 : decode cX0_bestMove 49 = .ok (.iload_n 3, 1) := dk_29 (dk_at dksX0_bestMove_2 4 rfl rfl)
theorem dX0_bestMove_50 : decode cX0_bestMove 50 = .ok (.invokevirtual 183, 3) := dk_182 0 183 (dk_at dksX0_bestMove_2 5 rfl rfl)
theorem dX0_bestMove_53 : decode cX0_bestMove 53 = .ok (.iload_n 2, 1) := dk_28 (dk_at dksX0_bestMove_2 8 rfl rfl)
theorem dX0_bestMove_54 : decode cX0_bestMove 54 = .ok (.if_icmp .eq 9, 3) := dk_159 0 9 (dk_at dksX0_bestMove_2 9 rfl rfl)
theorem dX0_bestMove_57 : decode cX0_bestMove 57 = .ok (.iinc 3 1, 3) := dk_132 3 1 (dk_at dksX0_bestMove_2 12 rfl rfl)
theorem dX0_bestMove_60 : decode cX0_bestMove 60 = .ok (.goto (-31), 3) := dk_167 255 225 (dk_at dksX0_bestMove_2 15 rfl rfl)
theorem dX0_bestMove_63 : decode cX0_bestMove 63 = .ok (.iload_n 3, 1) := dk_29 (dk_at dksX0_bestMove_2 18 rfl rfl)
theorem dX0_bestMove_64 : decode cX0_bestMove 64 = .ok (.ireturn, 1) := dk_172 (dk_at dksX0_bestMove_2 19 rfl rfl)
abbrev cX0_worthNow : ByteArray := prog_1_method_27_code
def yX0_worthNow : MethodName := ⟨RX0, "worthNow", "()I"⟩
def dkwX0_worthNow_1 : List UInt8 := [180, 0, 25, 180, 0, 89, 182, 0, 172, 172]
abbrev dktX0_worthNow_1 : List UInt8 := dkwX0_worthNow_1 ++ []
def dkwX0_worthNow_0 : List UInt8 := [42, 182, 0, 93, 42, 180, 0, 25, 180, 0, 86, 3, 46, 42, 180, 0, 25, 180, 0, 86, 4, 46, 42]
abbrev dktX0_worthNow_0 : List UInt8 := dkwX0_worthNow_0 ++ dktX0_worthNow_1
theorem dksX0_worthNow_0 : cX0_worthNow.data.toList.drop 0 = dktX0_worthNow_0 := by decide +kernel
theorem dksX0_worthNow_1 : cX0_worthNow.data.toList.drop 23 = dktX0_worthNow_1 := dk_seg dksX0_worthNow_0 23 rfl rfl
theorem dX0_worthNow_0 : decode cX0_worthNow 0 = .ok (.aload_n 0, 1) := dk_42 (dk_at dksX0_worthNow_0 0 rfl rfl)
theorem dX0_worthNow_1 : decode cX0_worthNow 1 = .ok (.invokevirtual 93, 3) := dk_182 0 93 (dk_at dksX0_worthNow_0 1 rfl rfl)
theorem dX0_worthNow_4 : decode cX0_worthNow 4 = .ok (.aload_n 0, 1) := dk_42 (dk_at dksX0_worthNow_0 4 rfl rfl)
theorem dX0_worthNow_5 : decode cX0_worthNow 5 = .ok (.getfield 25, 3) := dk_180 0 25 (dk_at dksX0_worthNow_0 5 rfl rfl)
theorem dX0_worthNow_8 : decode cX0_worthNow 8 = .ok (.getfield 86, 3) := dk_180 0 86 (dk_at dksX0_worthNow_0 8 rfl rfl)
theorem dX0_worthNow_11 : decode cX0_worthNow 11 = .ok (.iconst 0, 1) := dk_3 (dk_at dksX0_worthNow_0 11 rfl rfl)
theorem dX0_worthNow_12 : decode cX0_worthNow 12 = .ok (.iaload, 1) := dk_46 (dk_at dksX0_worthNow_0 12 rfl rfl)
theorem dX0_worthNow_13 : decode cX0_worthNow 13 = .ok (.aload_n 0, 1) := dk_42 (dk_at dksX0_worthNow_0 13 rfl rfl)
theorem dX0_worthNow_14 : decode cX0_worthNow 14 = .ok (.getfield 25, 3) := dk_180 0 25 (dk_at dksX0_worthNow_0 14 rfl rfl)
theorem dX0_worthNow_17 : decode cX0_worthNow 17 = .ok (.getfield 86, 3) := dk_180 0 86 (dk_at dksX0_worthNow_0 17 rfl rfl)
theorem dX0_worthNow_20 : decode cX0_worthNow 20 = .ok (.iconst 1, 1) := dk_4 (dk_at dksX0_worthNow_0 20 rfl rfl)
theorem dX0_worthNow_21 : decode cX0_worthNow 21 = .ok (.iaload, 1) := dk_46 (dk_at dksX0_worthNow_0 21 rfl rfl)
theorem dX0_worthNow_22 : decode cX0_worthNow 22 = .ok (.aload_n 0, 1) := dk_42 (dk_at dksX0_worthNow_0 22 rfl rfl)
theorem dX0_worthNow_23 : decode cX0_worthNow 23 = .ok (.getfield 25, 3) := dk_180 0 25 (dk_at dksX0_worthNow_1 0 rfl rfl)
theorem dX0_worthNow_26 : decode cX0_worthNow 26 = .ok (.getfield 89, 3) := dk_180 0 89 (dk_at dksX0_worthNow_1 3 rfl rfl)
theorem dX0_worthNow_29 : decode cX0_worthNow 29 = .ok (.invokevirtual 172, 3) := dk_182 0 172 (dk_at dksX0_worthNow_1 6 rfl rfl)
theorem dX0_worthNow_32 : decode cX0_worthNow 32 = .ok (.ireturn, 1) := dk_172 (dk_at dksX0_worthNow_1 9 rfl rfl)
abbrev cX0_behindNow : ByteArray := prog_1_method_28_code
def yX0_behindNow : MethodName := ⟨RX0, "behindNow", "(I)I"⟩
def dkwX0_behindNow_1 : List UInt8 := [180, 0, 25, 180, 0, 89, 27, 182, 0, 176, 172]
abbrev dktX0_behindNow_1 : List UInt8 := dkwX0_behindNow_1 ++ []
def dkwX0_behindNow_0 : List UInt8 := [42, 182, 0, 93, 42, 180, 0, 25, 180, 0, 86, 3, 46, 42, 180, 0, 25, 180, 0, 86, 4, 46, 42]
abbrev dktX0_behindNow_0 : List UInt8 := dkwX0_behindNow_0 ++ dktX0_behindNow_1
theorem dksX0_behindNow_0 : cX0_behindNow.data.toList.drop 0 = dktX0_behindNow_0 := by decide +kernel
theorem dksX0_behindNow_1 : cX0_behindNow.data.toList.drop 23 = dktX0_behindNow_1 := dk_seg dksX0_behindNow_0 23 rfl rfl
theorem dX0_behindNow_0 : decode cX0_behindNow 0 = .ok (.aload_n 0, 1) := dk_42 (dk_at dksX0_behindNow_0 0 rfl rfl)
theorem dX0_behindNow_1 : decode cX0_behindNow 1 = .ok (.invokevirtual 93, 3) := dk_182 0 93 (dk_at dksX0_behindNow_0 1 rfl rfl)
theorem dX0_behindNow_4 : decode cX0_behindNow 4 = .ok (.aload_n 0, 1) := dk_42 (dk_at dksX0_behindNow_0 4 rfl rfl)
theorem dX0_behindNow_5 : decode cX0_behindNow 5 = .ok (.getfield 25, 3) := dk_180 0 25 (dk_at dksX0_behindNow_0 5 rfl rfl)
theorem dX0_behindNow_8 : decode cX0_behindNow 8 = .ok (.getfield 86, 3) := dk_180 0 86 (dk_at dksX0_behindNow_0 8 rfl rfl)
theorem dX0_behindNow_11 : decode cX0_behindNow 11 = .ok (.iconst 0, 1) := dk_3 (dk_at dksX0_behindNow_0 11 rfl rfl)
theorem dX0_behindNow_12 : decode cX0_behindNow 12 = .ok (.iaload, 1) := dk_46 (dk_at dksX0_behindNow_0 12 rfl rfl)
theorem dX0_behindNow_13 : decode cX0_behindNow 13 = .ok (.aload_n 0, 1) := dk_42 (dk_at dksX0_behindNow_0 13 rfl rfl)
theorem dX0_behindNow_14 : decode cX0_behindNow 14 = .ok (.getfield 25, 3) := dk_180 0 25 (dk_at dksX0_behindNow_0 14 rfl rfl)
theorem dX0_behindNow_17 : decode cX0_behindNow 17 = .ok (.getfield 86, 3) := dk_180 0 86 (dk_at dksX0_behindNow_0 17 rfl rfl)
theorem dX0_behindNow_20 : decode cX0_behindNow 20 = .ok (.iconst 1, 1) := dk_4 (dk_at dksX0_behindNow_0 20 rfl rfl)
theorem dX0_behindNow_21 : decode cX0_behindNow 21 = .ok (.iaload, 1) := dk_46 (dk_at dksX0_behindNow_0 21 rfl rfl)
theorem dX0_behindNow_22 : decode cX0_behindNow 22 = .ok (.aload_n 0, 1) := dk_42 (dk_at dksX0_behindNow_0 22 rfl rfl)
theorem dX0_behindNow_23 : decode cX0_behindNow 23 = .ok (.getfield 25, 3) := dk_180 0 25 (dk_at dksX0_behindNow_1 0 rfl rfl)
theorem dX0_behindNow_26 : decode cX0_behindNow 26 = .ok (.getfield 89, 3) := dk_180 0 89 (dk_at dksX0_behindNow_1 3 rfl rfl)
theorem dX0_behindNow_29 : decode cX0_behindNow 29 = .ok (.iload_n 1, 1) := dk_27 (dk_at dksX0_behindNow_1 6 rfl rfl)
theorem dX0_behindNow_30 : decode cX0_behindNow 30 = .ok (.invokevirtual 176, 3) := dk_182 0 176 (dk_at dksX0_behindNow_1 7 rfl rfl)
theorem dX0_behindNow_33 : decode cX0_behindNow 33 = .ok (.ireturn, 1) := dk_172 (dk_at dksX0_behindNow_1 10 rfl rfl)
abbrev cX0_at : ByteArray := prog_1_method_23_code
def yX0_at : MethodName := ⟨RX0, "at", "(I)I"⟩
def dkwX0_at_2 : List UInt8 := [4, 167, 0, 5, 16, 250, 172]
abbrev dktX0_at_2 : List UInt8 := dkwX0_at_2 ++ []
def dkwX0_at_1 : List UInt8 := [160, 0, 7, 3, 167, 0, 26, 42, 180, 0, 25, 180, 0, 86, 4, 46, 27, 122, 4, 126, 4, 160, 0, 7]
abbrev dktX0_at_1 : List UInt8 := dkwX0_at_1 ++ dktX0_at_2
def dkwX0_at_0 : List UInt8 := [27, 184, 0, 132, 154, 0, 5, 2, 172, 42, 180, 0, 25, 180, 0, 86, 3, 46, 27, 122, 4, 126, 4]
abbrev dktX0_at_0 : List UInt8 := dkwX0_at_0 ++ dktX0_at_1
theorem dksX0_at_0 : cX0_at.data.toList.drop 0 = dktX0_at_0 := by decide +kernel
theorem dksX0_at_1 : cX0_at.data.toList.drop 23 = dktX0_at_1 := dk_seg dksX0_at_0 23 rfl rfl
theorem dksX0_at_2 : cX0_at.data.toList.drop 47 = dktX0_at_2 := dk_seg dksX0_at_1 24 rfl rfl
theorem dX0_at_0 : decode cX0_at 0 = .ok (.iload_n 1, 1) := dk_27 (dk_at dksX0_at_0 0 rfl rfl)
theorem dX0_at_1 : decode cX0_at 1 = .ok (.invokestatic 132, 3) := dk_184 0 132 (dk_at dksX0_at_0 1 rfl rfl)
theorem dX0_at_4 : decode cX0_at 4 = .ok (.ifCond .ne 5, 3) := dk_154 0 5 (dk_at dksX0_at_0 4 rfl rfl)
theorem dX0_at_7 : decode cX0_at 7 = .ok (.iconst (-1), 1) := dk_2 (dk_at dksX0_at_0 7 rfl rfl)
theorem dX0_at_8 : decode cX0_at 8 = .ok (.ireturn, 1) := dk_172 (dk_at dksX0_at_0 8 rfl rfl)
theorem dX0_at_9 : decode cX0_at 9 = .ok (.aload_n 0, 1) := dk_42 (dk_at dksX0_at_0 9 rfl rfl)
theorem dX0_at_10 : decode cX0_at 10 = .ok (.getfield 25, 3) := dk_180 0 25 (dk_at dksX0_at_0 10 rfl rfl)
theorem dX0_at_13 : decode cX0_at 13 = .ok (.getfield 86, 3) := dk_180 0 86 (dk_at dksX0_at_0 13 rfl rfl)
theorem dX0_at_16 : decode cX0_at 16 = .ok (.iconst 0, 1) := dk_3 (dk_at dksX0_at_0 16 rfl rfl)
theorem dX0_at_17 : decode cX0_at 17 = .ok (.iaload, 1) := dk_46 (dk_at dksX0_at_0 17 rfl rfl)
theorem dX0_at_18 : decode cX0_at 18 = .ok (.iload_n 1, 1) := dk_27 (dk_at dksX0_at_0 18 rfl rfl)
theorem dX0_at_19 : decode cX0_at 19 = .ok (.ishr, 1) := dk_122 (dk_at dksX0_at_0 19 rfl rfl)
theorem dX0_at_20 : decode cX0_at 20 = .ok (.iconst 1, 1) := dk_4 (dk_at dksX0_at_0 20 rfl rfl)
theorem dX0_at_21 : decode cX0_at 21 = .ok (.iand, 1) := dk_126 (dk_at dksX0_at_0 21 rfl rfl)
theorem dX0_at_22 : decode cX0_at 22 = .ok (.iconst 1, 1) := dk_4 (dk_at dksX0_at_0 22 rfl rfl)
theorem dX0_at_23 : decode cX0_at 23 = .ok (.if_icmp .ne 7, 3) := dk_160 0 7 (dk_at dksX0_at_1 0 rfl rfl)
theorem dX0_at_26 : decode cX0_at 26 = .ok (.iconst 0, 1) := dk_3 (dk_at dksX0_at_1 3 rfl rfl)
theorem dX0_at_27 : decode cX0_at 27 = .ok (.goto 26, 3) := dk_167 0 26 (dk_at dksX0_at_1 4 rfl rfl)
theorem dX0_at_30 : decode cX0_at 30 = .ok (.aload_n 0, 1) := dk_42 (dk_at dksX0_at_1 7 rfl rfl)
theorem dX0_at_31 : decode cX0_at 31 = .ok (.getfield 25, 3) := dk_180 0 25 (dk_at dksX0_at_1 8 rfl rfl)
theorem dX0_at_34 : decode cX0_at 34 = .ok (.getfield 86, 3) := dk_180 0 86 (dk_at dksX0_at_1 11 rfl rfl)
theorem dX0_at_37 : decode cX0_at 37 = .ok (.iconst 1, 1) := dk_4 (dk_at dksX0_at_1 14 rfl rfl)
theorem dX0_at_38 : decode cX0_at 38 = .ok (.iaload, 1) := dk_46 (dk_at dksX0_at_1 15 rfl rfl)
theorem dX0_at_39 : decode cX0_at 39 = .ok (.iload_n 1, 1) := dk_27 (dk_at dksX0_at_1 16 rfl rfl)
theorem dX0_at_40 : decode cX0_at 40 = .ok (.ishr, 1) := dk_122 (dk_at dksX0_at_1 17 rfl rfl)
theorem dX0_at_41 : decode cX0_at 41 = .ok (.iconst 1, 1) := dk_4 (dk_at dksX0_at_1 18 rfl rfl)
theorem dX0_at_42 : decode cX0_at 42 = .ok (.iand, 1) := dk_126 (dk_at dksX0_at_1 19 rfl rfl)
theorem dX0_at_43 : decode cX0_at 43 = .ok (.iconst 1, 1) := dk_4 (dk_at dksX0_at_1 20 rfl rfl)
theorem dX0_at_44 : decode cX0_at 44 = .ok (.if_icmp .ne 7, 3) := dk_160 0 7 (dk_at dksX0_at_1 21 rfl rfl)
theorem dX0_at_47 : decode cX0_at 47 = .ok (.iconst 1, 1) := dk_4 (dk_at dksX0_at_2 0 rfl rfl)
theorem dX0_at_48 : decode cX0_at 48 = .ok (.goto 5, 3) := dk_167 0 5 (dk_at dksX0_at_2 1 rfl rfl)
theorem dX0_at_51 : decode cX0_at 51 = .ok (.bipush (-6), 2) := dk_16 250 (dk_at dksX0_at_2 4 rfl rfl)
theorem dX0_at_53 : decode cX0_at 53 = .ok (.ireturn, 1) := dk_172 (dk_at dksX0_at_2 6 rfl rfl)
abbrev cX0_count : ByteArray := prog_1_method_24_code
def yX0_count : MethodName := ⟨RX0, "count", "(I)I"⟩
def dkwX0_count_7 : List UInt8 := [16, 254, 172]
abbrev dktX0_count_7 : List UInt8 := dkwX0_count_7 ++ []
def dkwX0_count_6 : List UInt8 := [27, 16, 8, 100, 46, 172, 42, 180, 0, 43, 182, 0, 166, 172, 42, 180, 0, 32, 185, 0, 47, 1, 0, 172]
abbrev dktX0_count_6 : List UInt8 := dkwX0_count_6 ++ dktX0_count_7
def dkwX0_count_5 : List UInt8 := [153, 0, 7, 4, 167, 0, 4, 3, 172, 42, 180, 0, 25, 182, 0, 110, 172, 42, 180, 0, 25, 180, 0, 65]
abbrev dktX0_count_5 : List UInt8 := dkwX0_count_5 ++ dktX0_count_6
def dkwX0_count_4 : List UInt8 := [153, 0, 15, 4, 42, 180, 0, 25, 180, 0, 89, 100, 167, 0, 5, 16, 250, 172, 42, 182, 0, 163]
abbrev dktX0_count_4 : List UInt8 := dkwX0_count_4 ++ dktX0_count_5
def dkwX0_count_3 : List UInt8 := [5, 100, 46, 184, 0, 140, 172, 42, 182, 0, 113, 153, 0, 7, 4, 167, 0, 4, 3, 172, 42, 182, 0, 107]
abbrev dktX0_count_3 : List UInt8 := dkwX0_count_3 ++ dktX0_count_4
def dkwX0_count_2 : List UInt8 := [42, 180, 0, 25, 180, 0, 89, 172, 42, 180, 0, 25, 180, 0, 129, 172, 42, 180, 0, 25, 180, 0, 86, 27]
abbrev dktX0_count_2 : List UInt8 := dkwX0_count_2 ++ dktX0_count_3
def dkwX0_count_1 : List UInt8 := [170, 0, 0, 0, 0, 0, 181, 0, 0, 0, 0, 0, 0, 0, 11, 0, 0, 0, 63, 0, 0, 0, 71, 0, 0, 0, 79, 0, 0, 0, 79, 0, 0, 0, 94, 0, 0, 0, 107, 0, 0, 0, 129, 0, 0, 0, 142, 0, 0, 0, 150, 0, 0, 0, 150, 0, 0, 0, 163, 0, 0, 0, 171]
abbrev dktX0_count_1 : List UInt8 := dkwX0_count_1 ++ dktX0_count_2
def dkwX0_count_0 : List UInt8 := [27]
abbrev dktX0_count_0 : List UInt8 := dkwX0_count_0 ++ dktX0_count_1
theorem dksX0_count_0 : cX0_count.data.toList.drop 0 = dktX0_count_0 := by decide +kernel
theorem dksX0_count_1 : cX0_count.data.toList.drop 1 = dktX0_count_1 := dk_seg dksX0_count_0 1 rfl rfl
theorem dksX0_count_2 : cX0_count.data.toList.drop 64 = dktX0_count_2 := dk_seg dksX0_count_1 63 rfl rfl
theorem dksX0_count_3 : cX0_count.data.toList.drop 88 = dktX0_count_3 := dk_seg dksX0_count_2 24 rfl rfl
theorem dksX0_count_4 : cX0_count.data.toList.drop 112 = dktX0_count_4 := dk_seg dksX0_count_3 24 rfl rfl
theorem dksX0_count_5 : cX0_count.data.toList.drop 134 = dktX0_count_5 := dk_seg dksX0_count_4 22 rfl rfl
theorem dksX0_count_6 : cX0_count.data.toList.drop 158 = dktX0_count_6 := dk_seg dksX0_count_5 24 rfl rfl
theorem dksX0_count_7 : cX0_count.data.toList.drop 182 = dktX0_count_7 := dk_seg dksX0_count_6 24 rfl rfl
theorem dX0_count_0 : decode cX0_count 0 = .ok (.iload_n 1, 1) := dk_27 (dk_at dksX0_count_0 0 rfl rfl)
theorem dX0_count_1 : decode cX0_count 1 = .ok (.tableswitch 181 0 11 #[63, 71, 79, 79, 94, 107, 129, 142, 150, 150, 163, 171], 63) := by decide +kernel
theorem dX0_count_64 : decode cX0_count 64 = .ok (.aload_n 0, 1) := dk_42 (dk_at dksX0_count_2 0 rfl rfl)
theorem dX0_count_65 : decode cX0_count 65 = .ok (.getfield 25, 3) := dk_180 0 25 (dk_at dksX0_count_2 1 rfl rfl)
theorem dX0_count_68 : decode cX0_count 68 = .ok (.getfield 89, 3) := dk_180 0 89 (dk_at dksX0_count_2 4 rfl rfl)
theorem dX0_count_71 : decode cX0_count 71 = .ok (.ireturn, 1) := dk_172 (dk_at dksX0_count_2 7 rfl rfl)
theorem dX0_count_72 : decode cX0_count 72 = .ok (.aload_n 0, 1) := dk_42 (dk_at dksX0_count_2 8 rfl rfl)
theorem dX0_count_73 : decode cX0_count 73 = .ok (.getfield 25, 3) := dk_180 0 25 (dk_at dksX0_count_2 9 rfl rfl)
theorem dX0_count_76 : decode cX0_count 76 = .ok (.getfield 129, 3) := dk_180 0 129 (dk_at dksX0_count_2 12 rfl rfl)
theorem dX0_count_79 : decode cX0_count 79 = .ok (.ireturn, 1) := dk_172 (dk_at dksX0_count_2 15 rfl rfl)
theorem dX0_count_80 : decode cX0_count 80 = .ok (.aload_n 0, 1) := dk_42 (dk_at dksX0_count_2 16 rfl rfl)
theorem dX0_count_81 : decode cX0_count 81 = .ok (.getfield 25, 3) := dk_180 0 25 (dk_at dksX0_count_2 17 rfl rfl)
theorem dX0_count_84 : decode cX0_count 84 = .ok (.getfield 86, 3) := dk_180 0 86 (dk_at dksX0_count_2 20 rfl rfl)
theorem dX0_count_87 : decode cX0_count 87 = .ok (.iload_n 1, 1) := dk_27 (dk_at dksX0_count_2 23 rfl rfl)
theorem dX0_count_88 : decode cX0_count 88 = .ok (.iconst 2, 1) := dk_5 (dk_at dksX0_count_3 0 rfl rfl)
theorem dX0_count_89 : decode cX0_count 89 = .ok (.isub, 1) := dk_100 (dk_at dksX0_count_3 1 rfl rfl)
theorem dX0_count_90 : decode cX0_count 90 = .ok (.iaload, 1) := dk_46 (dk_at dksX0_count_3 2 rfl rfl)
theorem dX0_count_91 : decode cX0_count 91 = .ok (.invokestatic 140, 3) := dk_184 0 140 (dk_at dksX0_count_3 3 rfl rfl)
theorem dX0_count_94 : decode cX0_count 94 = .ok (.ireturn, 1) := dk_172 (dk_at dksX0_count_3 6 rfl rfl)
theorem dX0_count_95 : decode cX0_count 95 = .ok (.aload_n 0, 1) := dk_42 (dk_at dksX0_count_3 7 rfl rfl)
theorem dX0_count_96 : decode cX0_count 96 = .ok (.invokevirtual 113, 3) := dk_182 0 113 (dk_at dksX0_count_3 8 rfl rfl)
theorem dX0_count_99 : decode cX0_count 99 = .ok (.ifCond .eq 7, 3) := dk_153 0 7 (dk_at dksX0_count_3 11 rfl rfl)
theorem dX0_count_102 : decode cX0_count 102 = .ok (.iconst 1, 1) := dk_4 (dk_at dksX0_count_3 14 rfl rfl)
theorem dX0_count_103 : decode cX0_count 103 = .ok (.goto 4, 3) := dk_167 0 4 (dk_at dksX0_count_3 15 rfl rfl)
theorem dX0_count_106 : decode cX0_count 106 = .ok (.iconst 0, 1) := dk_3 (dk_at dksX0_count_3 18 rfl rfl)
theorem dX0_count_107 : decode cX0_count 107 = .ok (.ireturn, 1) := dk_172 (dk_at dksX0_count_3 19 rfl rfl)
theorem dX0_count_108 : decode cX0_count 108 = .ok (.aload_n 0, 1) := dk_42 (dk_at dksX0_count_3 20 rfl rfl)
theorem dX0_count_109 : decode cX0_count 109 = .ok (.invokevirtual 107, 3) := dk_182 0 107 (dk_at dksX0_count_3 21 rfl rfl)
theorem dX0_count_112 : decode cX0_count 112 = .ok (.ifCond .eq 15, 3) := dk_153 0 15 (dk_at dksX0_count_4 0 rfl rfl)
theorem dX0_count_115 : decode cX0_count 115 = .ok (.iconst 1, 1) := dk_4 (dk_at dksX0_count_4 3 rfl rfl)
theorem dX0_count_116 : decode cX0_count 116 = .ok (.aload_n 0, 1) := dk_42 (dk_at dksX0_count_4 4 rfl rfl)
theorem dX0_count_117 : decode cX0_count 117 = .ok (.getfield 25, 3) := dk_180 0 25 (dk_at dksX0_count_4 5 rfl rfl)
theorem dX0_count_120 : decode cX0_count 120 = .ok (.getfield 89, 3) := dk_180 0 89 (dk_at dksX0_count_4 8 rfl rfl)
theorem dX0_count_123 : decode cX0_count 123 = .ok (.isub, 1) := dk_100 (dk_at dksX0_count_4 11 rfl rfl)
theorem dX0_count_124 : decode cX0_count 124 = .ok (.goto 5, 3) := dk_167 0 5 (dk_at dksX0_count_4 12 rfl rfl)
theorem dX0_count_127 : decode cX0_count 127 = .ok (.bipush (-6), 2) := dk_16 250 (dk_at dksX0_count_4 15 rfl rfl)
theorem dX0_count_129 : decode cX0_count 129 = .ok (.ireturn, 1) := dk_172 (dk_at dksX0_count_4 17 rfl rfl)
theorem dX0_count_130 : decode cX0_count 130 = .ok (.aload_n 0, 1) := dk_42 (dk_at dksX0_count_4 18 rfl rfl)
theorem dX0_count_131 : decode cX0_count 131 = .ok (.invokevirtual 163, 3) := dk_182 0 163 (dk_at dksX0_count_4 19 rfl rfl)
theorem dX0_count_134 : decode cX0_count 134 = .ok (.ifCond .eq 7, 3) := dk_153 0 7 (dk_at dksX0_count_5 0 rfl rfl)
theorem dX0_count_137 : decode cX0_count 137 = .ok (.iconst 1, 1) := dk_4 (dk_at dksX0_count_5 3 rfl rfl)
theorem dX0_count_138 : decode cX0_count 138 = .ok (.goto 4, 3) := dk_167 0 4 (dk_at dksX0_count_5 4 rfl rfl)
theorem dX0_count_141 : decode cX0_count 141 = .ok (.iconst 0, 1) := dk_3 (dk_at dksX0_count_5 7 rfl rfl)
theorem dX0_count_142 : decode cX0_count 142 = .ok (.ireturn, 1) := dk_172 (dk_at dksX0_count_5 8 rfl rfl)
theorem dX0_count_143 : decode cX0_count 143 = .ok (.aload_n 0, 1) := dk_42 (dk_at dksX0_count_5 9 rfl rfl)
theorem dX0_count_144 : decode cX0_count 144 = .ok (.getfield 25, 3) := dk_180 0 25 (dk_at dksX0_count_5 10 rfl rfl)
theorem dX0_count_147 : decode cX0_count 147 = .ok (.invokevirtual 110, 3) := dk_182 0 110 (dk_at dksX0_count_5 13 rfl rfl)
theorem dX0_count_150 : decode cX0_count 150 = .ok (.ireturn, 1) := dk_172 (dk_at dksX0_count_5 16 rfl rfl)
theorem dX0_count_151 : decode cX0_count 151 = .ok (.aload_n 0, 1) := dk_42 (dk_at dksX0_count_5 17 rfl rfl)
theorem dX0_count_152 : decode cX0_count 152 = .ok (.getfield 25, 3) := dk_180 0 25 (dk_at dksX0_count_5 18 rfl rfl)
theorem dX0_count_155 : decode cX0_count 155 = .ok (.getfield 65, 3) := dk_180 0 65 (dk_at dksX0_count_5 21 rfl rfl)
theorem dX0_count_158 : decode cX0_count 158 = .ok (.iload_n 1, 1) := dk_27 (dk_at dksX0_count_6 0 rfl rfl)
theorem dX0_count_159 : decode cX0_count 159 = .ok (.bipush 8, 2) := dk_16 8 (dk_at dksX0_count_6 1 rfl rfl)
theorem dX0_count_161 : decode cX0_count 161 = .ok (.isub, 1) := dk_100 (dk_at dksX0_count_6 3 rfl rfl)
theorem dX0_count_162 : decode cX0_count 162 = .ok (.iaload, 1) := dk_46 (dk_at dksX0_count_6 4 rfl rfl)
theorem dX0_count_163 : decode cX0_count 163 = .ok (.ireturn, 1) := dk_172 (dk_at dksX0_count_6 5 rfl rfl)
theorem dX0_count_164 : decode cX0_count 164 = .ok (.aload_n 0, 1) := dk_42 (dk_at dksX0_count_6 6 rfl rfl)
theorem dX0_count_165 : decode cX0_count 165 = .ok (.getfield 43, 3) := dk_180 0 43 (dk_at dksX0_count_6 7 rfl rfl)
theorem dX0_count_168 : decode cX0_count 168 = .ok (.invokevirtual 166, 3) := dk_182 0 166 (dk_at dksX0_count_6 10 rfl rfl)
theorem dX0_count_171 : decode cX0_count 171 = .ok (.ireturn, 1) := dk_172 (dk_at dksX0_count_6 13 rfl rfl)
theorem dX0_count_172 : decode cX0_count 172 = .ok (.aload_n 0, 1) := dk_42 (dk_at dksX0_count_6 14 rfl rfl)
theorem dX0_count_173 : decode cX0_count 173 = .ok (.getfield 32, 3) := dk_180 0 32 (dk_at dksX0_count_6 15 rfl rfl)
theorem dX0_count_176 : decode cX0_count 176 = .ok (.invokeinterface 47 1, 5) := by decide +kernel
theorem dX0_count_181 : decode cX0_count 181 = .ok (.ireturn, 1) := dk_172 (dk_at dksX0_count_6 23 rfl rfl)
theorem dX0_count_182 : decode cX0_count 182 = .ok (.bipush (-2), 2) := dk_16 254 (dk_at dksX0_count_7 0 rfl rfl)
theorem dX0_count_184 : decode cX0_count 184 = .ok (.ireturn, 1) := dk_172 (dk_at dksX0_count_7 2 rfl rfl)
abbrev cX0_isDrawn : ByteArray := prog_1_method_9_code
def yX0_isDrawn : MethodName := ⟨RX0, "isDrawn", "()Z"⟩
def dkwX0_isDrawn_0 : List UInt8 := [42, 182, 0, 107, 154, 0, 18, 42, 180, 0, 25, 182, 0, 110, 6, 161, 0, 7, 4, 167, 0, 4, 3, 172]
abbrev dktX0_isDrawn_0 : List UInt8 := dkwX0_isDrawn_0 ++ []
theorem dksX0_isDrawn_0 : cX0_isDrawn.data.toList.drop 0 = dktX0_isDrawn_0 := by decide +kernel
theorem dX0_isDrawn_0 : decode cX0_isDrawn 0 = .ok (.aload_n 0, 1) := dk_42 (dk_at dksX0_isDrawn_0 0 rfl rfl)
theorem dX0_isDrawn_1 : decode cX0_isDrawn 1 = .ok (.invokevirtual 107, 3) := dk_182 0 107 (dk_at dksX0_isDrawn_0 1 rfl rfl)
theorem dX0_isDrawn_4 : decode cX0_isDrawn 4 = .ok (.ifCond .ne 18, 3) := dk_154 0 18 (dk_at dksX0_isDrawn_0 4 rfl rfl)
theorem dX0_isDrawn_7 : decode cX0_isDrawn 7 = .ok (.aload_n 0, 1) := dk_42 (dk_at dksX0_isDrawn_0 7 rfl rfl)
theorem dX0_isDrawn_8 : decode cX0_isDrawn 8 = .ok (.getfield 25, 3) := dk_180 0 25 (dk_at dksX0_isDrawn_0 8 rfl rfl)
theorem dX0_isDrawn_11 : decode cX0_isDrawn 11 = .ok (.invokevirtual 110, 3) := dk_182 0 110 (dk_at dksX0_isDrawn_0 11 rfl rfl)
theorem dX0_isDrawn_14 : decode cX0_isDrawn 14 = .ok (.iconst 3, 1) := dk_6 (dk_at dksX0_isDrawn_0 14 rfl rfl)
theorem dX0_isDrawn_15 : decode cX0_isDrawn 15 = .ok (.if_icmp .lt 7, 3) := dk_161 0 7 (dk_at dksX0_isDrawn_0 15 rfl rfl)
theorem dX0_isDrawn_18 : decode cX0_isDrawn 18 = .ok (.iconst 1, 1) := dk_4 (dk_at dksX0_isDrawn_0 18 rfl rfl)
theorem dX0_isDrawn_19 : decode cX0_isDrawn 19 = .ok (.goto 4, 3) := dk_167 0 4 (dk_at dksX0_isDrawn_0 19 rfl rfl)
theorem dX0_isDrawn_22 : decode cX0_isDrawn 22 = .ok (.iconst 0, 1) := dk_3 (dk_at dksX0_isDrawn_0 22 rfl rfl)
theorem dX0_isDrawn_23 : decode cX0_isDrawn 23 = .ok (.ireturn, 1) := dk_172 (dk_at dksX0_isDrawn_0 23 rfl rfl)
abbrev cX0_neighbours : ByteArray := prog_1_method_25_code
def yX0_neighbours : MethodName := ⟨RX0, "neighbours", "(I)I"⟩
def dkwX0_neighbours_0 : List UInt8 := [27, 184, 0, 132, 153, 0, 14, 42, 182, 0, 93, 27, 182, 0, 169, 167, 0, 4, 2, 172]
abbrev dktX0_neighbours_0 : List UInt8 := dkwX0_neighbours_0 ++ []
theorem dksX0_neighbours_0 : cX0_neighbours.data.toList.drop 0 = dktX0_neighbours_0 := by decide +kernel
theorem dX0_neighbours_0 : decode cX0_neighbours 0 = .ok (.iload_n 1, 1) := dk_27 (dk_at dksX0_neighbours_0 0 rfl rfl)
theorem dX0_neighbours_1 : decode cX0_neighbours 1 = .ok (.invokestatic 132, 3) := dk_184 0 132 (dk_at dksX0_neighbours_0 1 rfl rfl)
theorem dX0_neighbours_4 : decode cX0_neighbours 4 = .ok (.ifCond .eq 14, 3) := dk_153 0 14 (dk_at dksX0_neighbours_0 4 rfl rfl)
theorem dX0_neighbours_7 : decode cX0_neighbours 7 = .ok (.aload_n 0, 1) := dk_42 (dk_at dksX0_neighbours_0 7 rfl rfl)
theorem dX0_neighbours_8 : decode cX0_neighbours 8 = .ok (.invokevirtual 93, 3) := dk_182 0 93 (dk_at dksX0_neighbours_0 8 rfl rfl)
theorem dX0_neighbours_11 : decode cX0_neighbours 11 = .ok (.iload_n 1, 1) := dk_27 (dk_at dksX0_neighbours_0 11 rfl rfl)
theorem dX0_neighbours_12 : decode cX0_neighbours 12 = .ok (.invokevirtual 169, 3) := dk_182 0 169 (dk_at dksX0_neighbours_0 12 rfl rfl)
theorem dX0_neighbours_15 : decode cX0_neighbours 15 = .ok (.goto 4, 3) := dk_167 0 4 (dk_at dksX0_neighbours_0 15 rfl rfl)
theorem dX0_neighbours_18 : decode cX0_neighbours 18 = .ok (.iconst (-1), 1) := dk_2 (dk_at dksX0_neighbours_0 18 rfl rfl)
theorem dX0_neighbours_19 : decode cX0_neighbours 19 = .ok (.ireturn, 1) := dk_172 (dk_at dksX0_neighbours_0 19 rfl rfl)
abbrev cX0_move : ByteArray := prog_1_method_26_code
def yX0_move : MethodName := ⟨RX0, "move", "(I)I"⟩
def dkwX0_move_3 : List UInt8 := [2, 172]
abbrev dktX0_move_3 : List UInt8 := dkwX0_move_3 ++ []
def dkwX0_move_2 : List UInt8 := [154, 0, 5, 29, 172, 28, 21, 4, 153, 0, 7, 4, 167, 0, 4, 3, 100, 61, 132, 3, 1, 167, 255, 205]
abbrev dktX0_move_2 : List UInt8 := dkwX0_move_2 ++ dktX0_move_3
def dkwX0_move_1 : List UInt8 := [182, 0, 93, 42, 182, 0, 97, 42, 182, 0, 100, 29, 182, 0, 116, 54, 4, 21, 4, 153, 0, 9, 28]
abbrev dktX0_move_1 : List UInt8 := dkwX0_move_1 ++ dktX0_move_2
def dkwX0_move_0 : List UInt8 := [42, 182, 0, 113, 154, 0, 7, 27, 156, 0, 5, 2, 172, 27, 61, 3, 62, 29, 16, 91, 162, 0, 51, 42]
abbrev dktX0_move_0 : List UInt8 := dkwX0_move_0 ++ dktX0_move_1
theorem dksX0_move_0 : cX0_move.data.toList.drop 0 = dktX0_move_0 := by decide +kernel
theorem dksX0_move_1 : cX0_move.data.toList.drop 24 = dktX0_move_1 := dk_seg dksX0_move_0 24 rfl rfl
theorem dksX0_move_2 : cX0_move.data.toList.drop 47 = dktX0_move_2 := dk_seg dksX0_move_1 23 rfl rfl
theorem dksX0_move_3 : cX0_move.data.toList.drop 71 = dktX0_move_3 := dk_seg dksX0_move_2 24 rfl rfl
theorem dX0_move_0 : decode cX0_move 0 = .ok (.aload_n 0, 1) := dk_42 (dk_at dksX0_move_0 0 rfl rfl)
theorem dX0_move_1 : decode cX0_move 1 = .ok (.invokevirtual 113, 3) := dk_182 0 113 (dk_at dksX0_move_0 1 rfl rfl)
theorem dX0_move_4 : decode cX0_move 4 = .ok (.ifCond .ne 7, 3) := dk_154 0 7 (dk_at dksX0_move_0 4 rfl rfl)
theorem dX0_move_7 : decode cX0_move 7 = .ok (.iload_n 1, 1) := dk_27 (dk_at dksX0_move_0 7 rfl rfl)
theorem dX0_move_8 : decode cX0_move 8 = .ok (.ifCond .ge 5, 3) := dk_156 0 5 (dk_at dksX0_move_0 8 rfl rfl)
theorem dX0_move_11 : decode cX0_move 11 = .ok (.iconst (-1), 1) := dk_2 (dk_at dksX0_move_0 11 rfl rfl)
theorem dX0_move_12 : decode cX0_move 12 = .ok (.ireturn, 1) := dk_172 (dk_at dksX0_move_0 12 rfl rfl)
theorem dX0_move_13 : decode cX0_move 13 = .ok (.iload_n 1, 1) := dk_27 (dk_at dksX0_move_0 13 rfl rfl)
theorem dX0_move_14 : decode cX0_move 14 = .ok (.istore_n 2, 1) := dk_61 (dk_at dksX0_move_0 14 rfl rfl)
theorem dX0_move_15 : decode cX0_move 15 = .ok (.iconst 0, 1) := dk_3 (dk_at dksX0_move_0 15 rfl rfl)
theorem dX0_move_16 : decode cX0_move 16 = .ok (.istore_n 3, 1) := dk_62 (dk_at dksX0_move_0 16 rfl rfl)
theorem dX0_move_17 : decode cX0_move 17 = .ok (.iload_n 3, 1) := dk_29 (dk_at dksX0_move_0 17 rfl rfl)
theorem dX0_move_18 : decode cX0_move 18 = .ok (.bipush 91, 2) := dk_16 91 (dk_at dksX0_move_0 18 rfl rfl)
theorem dX0_move_20 : decode cX0_move 20 = .ok (.if_icmp .ge 51, 3) := dk_162 0 51 (dk_at dksX0_move_0 20 rfl rfl)
theorem dX0_move_23 : decode cX0_move 23 = .ok (.aload_n 0, 1) := dk_42 (dk_at dksX0_move_0 23 rfl rfl)
theorem dX0_move_24 : decode cX0_move 24 = .ok (.invokevirtual 93, 3) := dk_182 0 93 (dk_at dksX0_move_1 0 rfl rfl)
theorem dX0_move_27 : decode cX0_move 27 = .ok (.aload_n 0, 1) := dk_42 (dk_at dksX0_move_1 3 rfl rfl)
theorem dX0_move_28 : decode cX0_move 28 = .ok (.invokevirtual 97, 3) := dk_182 0 97 (dk_at dksX0_move_1 4 rfl rfl)
theorem dX0_move_31 : decode cX0_move 31 = .ok (.aload_n 0, 1) := dk_42 (dk_at dksX0_move_1 7 rfl rfl)
theorem dX0_move_32 : decode cX0_move 32 = .ok (.invokevirtual 100, 3) := dk_182 0 100 (dk_at dksX0_move_1 8 rfl rfl)
theorem dX0_move_35 : decode cX0_move 35 = .ok (.iload_n 3, 1) := dk_29 (dk_at dksX0_move_1 11 rfl rfl)
theorem dX0_move_36 : decode cX0_move 36 = .ok (.invokevirtual 116, 3) := dk_182 0 116 (dk_at dksX0_move_1 12 rfl rfl)
theorem dX0_move_39 : decode cX0_move 39 = .ok (.istore 4, 2) := dk_54 4 (dk_at dksX0_move_1 15 rfl rfl)
theorem dX0_move_41 : decode cX0_move 41 = .ok (.iload 4, 2) := dk_21 4 (dk_at dksX0_move_1 17 rfl rfl)
theorem dX0_move_43 : decode cX0_move 43 = .ok (.ifCond .eq 9, 3) := dk_153 0 9 (dk_at dksX0_move_1 19 rfl rfl)
theorem dX0_move_46 : decode cX0_move 46 = .ok (.iload_n 2, 1) := dk_28 (dk_at dksX0_move_1 22 rfl rfl)
theorem dX0_move_47 : decode cX0_move 47 = .ok (.ifCond .ne 5, 3) := dk_154 0 5 (dk_at dksX0_move_2 0 rfl rfl)
theorem dX0_move_50 : decode cX0_move 50 = .ok (.iload_n 3, 1) := dk_29 (dk_at dksX0_move_2 3 rfl rfl)
theorem dX0_move_51 : decode cX0_move 51 = .ok (.ireturn, 1) := dk_172 (dk_at dksX0_move_2 4 rfl rfl)
theorem dX0_move_52 : decode cX0_move 52 = .ok (.iload_n 2, 1) := dk_28 (dk_at dksX0_move_2 5 rfl rfl)
theorem dX0_move_53 : decode cX0_move 53 = .ok (.iload 4, 2) := dk_21 4 (dk_at dksX0_move_2 6 rfl rfl)
theorem dX0_move_55 : decode cX0_move 55 = .ok (.ifCond .eq 7, 3) := dk_153 0 7 (dk_at dksX0_move_2 8 rfl rfl)
theorem dX0_move_58 : decode cX0_move 58 = .ok (.iconst 1, 1) := dk_4 (dk_at dksX0_move_2 11 rfl rfl)
theorem dX0_move_59 : decode cX0_move 59 = .ok (.goto 4, 3) := dk_167 0 4 (dk_at dksX0_move_2 12 rfl rfl)
theorem dX0_move_62 : decode cX0_move 62 = .ok (.iconst 0, 1) := dk_3 (dk_at dksX0_move_2 15 rfl rfl)
theorem dX0_move_63 : decode cX0_move 63 = .ok (.isub, 1) := dk_100 (dk_at dksX0_move_2 16 rfl rfl)
theorem dX0_move_64 : decode cX0_move 64 = .ok (.istore_n 2, 1) := dk_61 (dk_at dksX0_move_2 17 rfl rfl)
theorem dX0_move_65 : decode cX0_move 65 = .ok (.iinc 3 1, 3) := dk_132 3 1 (dk_at dksX0_move_2 18 rfl rfl)
theorem dX0_move_68 : decode cX0_move 68 = .ok (.goto (-51), 3) := dk_167 255 205 (dk_at dksX0_move_2 21 rfl rfl)
theorem dX0_move_71 : decode cX0_move 71 = .ok (.iconst (-1), 1) := dk_2 (dk_at dksX0_move_3 0 rfl rfl)
theorem dX0_move_72 : decode cX0_move 72 = .ok (.ireturn, 1) := dk_172 (dk_at dksX0_move_3 1 rfl rfl)
abbrev cX0_worth : ByteArray := prog_1_method_29_code
def yX0_worth : MethodName := ⟨RX0, "worth", "()I"⟩
def dkwX0_worth_0 : List UInt8 := [16, 100, 42, 182, 0, 180, 96, 172]
abbrev dktX0_worth_0 : List UInt8 := dkwX0_worth_0 ++ []
theorem dksX0_worth_0 : cX0_worth.data.toList.drop 0 = dktX0_worth_0 := by decide +kernel
theorem dX0_worth_0 : decode cX0_worth 0 = .ok (.bipush 100, 2) := dk_16 100 (dk_at dksX0_worth_0 0 rfl rfl)
theorem dX0_worth_2 : decode cX0_worth 2 = .ok (.aload_n 0, 1) := dk_42 (dk_at dksX0_worth_0 2 rfl rfl)
theorem dX0_worth_3 : decode cX0_worth 3 = .ok (.invokevirtual 180, 3) := dk_182 0 180 (dk_at dksX0_worth_0 3 rfl rfl)
theorem dX0_worth_6 : decode cX0_worth 6 = .ok (.iadd, 1) := dk_96 (dk_at dksX0_worth_0 6 rfl rfl)
theorem dX0_worth_7 : decode cX0_worth 7 = .ok (.ireturn, 1) := dk_172 (dk_at dksX0_worth_0 7 rfl rfl)
abbrev cX0_behind : ByteArray := prog_1_method_30_code
def yX0_behind : MethodName := ⟨RX0, "behind", "(I)I"⟩
def dkwX0_behind_0 : List UInt8 := [42, 27, 182, 0, 135, 153, 0, 14, 16, 100, 42, 27, 182, 0, 183, 96, 167, 0, 4, 2, 172]
abbrev dktX0_behind_0 : List UInt8 := dkwX0_behind_0 ++ []
theorem dksX0_behind_0 : cX0_behind.data.toList.drop 0 = dktX0_behind_0 := by decide +kernel
theorem dX0_behind_0 : decode cX0_behind 0 = .ok (.aload_n 0, 1) := dk_42 (dk_at dksX0_behind_0 0 rfl rfl)
theorem dX0_behind_1 : decode cX0_behind 1 = .ok (.iload_n 1, 1) := dk_27 (dk_at dksX0_behind_0 1 rfl rfl)
theorem dX0_behind_2 : decode cX0_behind 2 = .ok (.invokevirtual 135, 3) := dk_182 0 135 (dk_at dksX0_behind_0 2 rfl rfl)
theorem dX0_behind_5 : decode cX0_behind 5 = .ok (.ifCond .eq 14, 3) := dk_153 0 14 (dk_at dksX0_behind_0 5 rfl rfl)
theorem dX0_behind_8 : decode cX0_behind 8 = .ok (.bipush 100, 2) := dk_16 100 (dk_at dksX0_behind_0 8 rfl rfl)
theorem dX0_behind_10 : decode cX0_behind 10 = .ok (.aload_n 0, 1) := dk_42 (dk_at dksX0_behind_0 10 rfl rfl)
theorem dX0_behind_11 : decode cX0_behind 11 = .ok (.iload_n 1, 1) := dk_27 (dk_at dksX0_behind_0 11 rfl rfl)
theorem dX0_behind_12 : decode cX0_behind 12 = .ok (.invokevirtual 183, 3) := dk_182 0 183 (dk_at dksX0_behind_0 12 rfl rfl)
theorem dX0_behind_15 : decode cX0_behind 15 = .ok (.iadd, 1) := dk_96 (dk_at dksX0_behind_0 15 rfl rfl)
theorem dX0_behind_16 : decode cX0_behind 16 = .ok (.goto 4, 3) := dk_167 0 4 (dk_at dksX0_behind_0 16 rfl rfl)
theorem dX0_behind_19 : decode cX0_behind 19 = .ok (.iconst (-1), 1) := dk_2 (dk_at dksX0_behind_0 19 rfl rfl)
theorem dX0_behind_20 : decode cX0_behind 20 = .ok (.ireturn, 1) := dk_172 (dk_at dksX0_behind_0 20 rfl rfl)
abbrev cX0_best : ByteArray := prog_1_method_32_code
def yX0_best : MethodName := ⟨RX0, "best", "()I"⟩
def dkwX0_best_0 : List UInt8 := [42, 182, 0, 113, 153, 0, 8, 16, 251, 167, 0, 7, 42, 182, 0, 157, 172]
abbrev dktX0_best_0 : List UInt8 := dkwX0_best_0 ++ []
theorem dksX0_best_0 : cX0_best.data.toList.drop 0 = dktX0_best_0 := by decide +kernel
theorem dX0_best_0 : decode cX0_best 0 = .ok (.aload_n 0, 1) := dk_42 (dk_at dksX0_best_0 0 rfl rfl)
theorem dX0_best_1 : decode cX0_best 1 = .ok (.invokevirtual 113, 3) := dk_182 0 113 (dk_at dksX0_best_0 1 rfl rfl)
theorem dX0_best_4 : decode cX0_best 4 = .ok (.ifCond .eq 8, 3) := dk_153 0 8 (dk_at dksX0_best_0 4 rfl rfl)
theorem dX0_best_7 : decode cX0_best 7 = .ok (.bipush (-5), 2) := dk_16 251 (dk_at dksX0_best_0 7 rfl rfl)
theorem dX0_best_9 : decode cX0_best 9 = .ok (.goto 7, 3) := dk_167 0 7 (dk_at dksX0_best_0 9 rfl rfl)
theorem dX0_best_12 : decode cX0_best 12 = .ok (.aload_n 0, 1) := dk_42 (dk_at dksX0_best_0 12 rfl rfl)
theorem dX0_best_13 : decode cX0_best 13 = .ok (.invokevirtual 157, 3) := dk_182 0 157 (dk_at dksX0_best_0 13 rfl rfl)
theorem dX0_best_16 : decode cX0_best 16 = .ok (.ireturn, 1) := dk_172 (dk_at dksX0_best_0 16 rfl rfl)
abbrev cX0_worthOf : ByteArray := prog_1_method_33_code
def yX0_worthOf : MethodName := ⟨RX0, "worthOf", "(III)I"⟩
def dkwX0_worthOf_3 : List UInt8 := [16, 254, 172]
abbrev dktX0_worthOf_3 : List UInt8 := dkwX0_worthOf_3 ++ []
def dkwX0_worthOf_2 : List UInt8 := [28, 29, 182, 0, 186, 153, 0, 19, 16, 100, 42, 182, 0, 93, 27, 28, 29, 182, 0, 172, 96, 167, 0, 5]
abbrev dktX0_worthOf_2 : List UInt8 := dkwX0_worthOf_2 ++ dktX0_worthOf_3
def dkwX0_worthOf_1 : List UInt8 := [4, 184, 0, 3, 153, 0, 7, 4, 167, 0, 4, 3, 54, 4, 21, 4, 153, 0, 32, 42, 182, 0, 93, 27]
abbrev dktX0_worthOf_1 : List UInt8 := dkwX0_worthOf_1 ++ dktX0_worthOf_2
def dkwX0_worthOf_0 : List UInt8 := [27, 3, 17, 1, 255, 184, 0, 3, 153, 0, 27, 28, 3, 17, 1, 255, 184, 0, 3, 153, 0, 16, 29, 3]
abbrev dktX0_worthOf_0 : List UInt8 := dkwX0_worthOf_0 ++ dktX0_worthOf_1
theorem dksX0_worthOf_0 : cX0_worthOf.data.toList.drop 0 = dktX0_worthOf_0 := by decide +kernel
theorem dksX0_worthOf_1 : cX0_worthOf.data.toList.drop 24 = dktX0_worthOf_1 := dk_seg dksX0_worthOf_0 24 rfl rfl
theorem dksX0_worthOf_2 : cX0_worthOf.data.toList.drop 48 = dktX0_worthOf_2 := dk_seg dksX0_worthOf_1 24 rfl rfl
theorem dksX0_worthOf_3 : cX0_worthOf.data.toList.drop 72 = dktX0_worthOf_3 := dk_seg dksX0_worthOf_2 24 rfl rfl
theorem dX0_worthOf_0 : decode cX0_worthOf 0 = .ok (.iload_n 1, 1) := dk_27 (dk_at dksX0_worthOf_0 0 rfl rfl)
theorem dX0_worthOf_1 : decode cX0_worthOf 1 = .ok (.iconst 0, 1) := dk_3 (dk_at dksX0_worthOf_0 1 rfl rfl)
theorem dX0_worthOf_2 : decode cX0_worthOf 2 = .ok (.sipush 511, 3) := dk_17 1 255 (dk_at dksX0_worthOf_0 2 rfl rfl)
theorem dX0_worthOf_5 : decode cX0_worthOf 5 = .ok (.invokestatic 3, 3) := dk_184 0 3 (dk_at dksX0_worthOf_0 5 rfl rfl)
theorem dX0_worthOf_8 : decode cX0_worthOf 8 = .ok (.ifCond .eq 27, 3) := dk_153 0 27 (dk_at dksX0_worthOf_0 8 rfl rfl)
theorem dX0_worthOf_11 : decode cX0_worthOf 11 = .ok (.iload_n 2, 1) := dk_28 (dk_at dksX0_worthOf_0 11 rfl rfl)
theorem dX0_worthOf_12 : decode cX0_worthOf 12 = .ok (.iconst 0, 1) := dk_3 (dk_at dksX0_worthOf_0 12 rfl rfl)
theorem dX0_worthOf_13 : decode cX0_worthOf 13 = .ok (.sipush 511, 3) := dk_17 1 255 (dk_at dksX0_worthOf_0 13 rfl rfl)
theorem dX0_worthOf_16 : decode cX0_worthOf 16 = .ok (.invokestatic 3, 3) := dk_184 0 3 (dk_at dksX0_worthOf_0 16 rfl rfl)
theorem dX0_worthOf_19 : decode cX0_worthOf 19 = .ok (.ifCond .eq 16, 3) := dk_153 0 16 (dk_at dksX0_worthOf_0 19 rfl rfl)
theorem dX0_worthOf_22 : decode cX0_worthOf 22 = .ok (.iload_n 3, 1) := dk_29 (dk_at dksX0_worthOf_0 22 rfl rfl)
theorem dX0_worthOf_23 : decode cX0_worthOf 23 = .ok (.iconst 0, 1) := dk_3 (dk_at dksX0_worthOf_0 23 rfl rfl)
theorem dX0_worthOf_24 : decode cX0_worthOf 24 = .ok (.iconst 1, 1) := dk_4 (dk_at dksX0_worthOf_1 0 rfl rfl)
theorem dX0_worthOf_25 : decode cX0_worthOf 25 = .ok (.invokestatic 3, 3) := dk_184 0 3 (dk_at dksX0_worthOf_1 1 rfl rfl)
theorem dX0_worthOf_28 : decode cX0_worthOf 28 = .ok (.ifCond .eq 7, 3) := dk_153 0 7 (dk_at dksX0_worthOf_1 4 rfl rfl)
theorem dX0_worthOf_31 : decode cX0_worthOf 31 = .ok (.iconst 1, 1) := dk_4 (dk_at dksX0_worthOf_1 7 rfl rfl)
theorem dX0_worthOf_32 : decode cX0_worthOf 32 = .ok (.goto 4, 3) := dk_167 0 4 (dk_at dksX0_worthOf_1 8 rfl rfl)
theorem dX0_worthOf_35 : decode cX0_worthOf 35 = .ok (.iconst 0, 1) := dk_3 (dk_at dksX0_worthOf_1 11 rfl rfl)
theorem dX0_worthOf_36 : decode cX0_worthOf 36 = .ok (.istore 4, 2) := dk_54 4 (dk_at dksX0_worthOf_1 12 rfl rfl)
theorem dX0_worthOf_38 : decode cX0_worthOf 38 = .ok (.iload 4, 2) := dk_21 4 (dk_at dksX0_worthOf_1 14 rfl rfl)
theorem dX0_worthOf_40 : decode cX0_worthOf 40 = .ok (.ifCond .eq 32, 3) := dk_153 0 32 (dk_at dksX0_worthOf_1 16 rfl rfl)
theorem dX0_worthOf_43 : decode cX0_worthOf 43 = .ok (.aload_n 0, 1) := dk_42 (dk_at dksX0_worthOf_1 19 rfl rfl)
theorem dX0_worthOf_44 : decode cX0_worthOf 44 = .ok (.invokevirtual 93, 3) := dk_182 0 93 (dk_at dksX0_worthOf_1 20 rfl rfl)
theorem dX0_worthOf_47 : decode cX0_worthOf 47 = .ok (.iload_n 1, 1) := dk_27 (dk_at dksX0_worthOf_1 23 rfl rfl)
theorem dX0_worthOf_48 : decode cX0_worthOf 48 = .ok (.iload_n 2, 1) := dk_28 (dk_at dksX0_worthOf_2 0 rfl rfl)
theorem dX0_worthOf_49 : decode cX0_worthOf 49 = .ok (.iload_n 3, 1) := dk_29 (dk_at dksX0_worthOf_2 1 rfl rfl)
theorem dX0_worthOf_50 : decode cX0_worthOf 50 = .ok (.invokevirtual 186, 3) := dk_182 0 186 (dk_at dksX0_worthOf_2 2 rfl rfl)
theorem dX0_worthOf_53 : decode cX0_worthOf 53 = .ok (.ifCond .eq 19, 3) := dk_153 0 19 (dk_at dksX0_worthOf_2 5 rfl rfl)
theorem dX0_worthOf_56 : decode cX0_worthOf 56 = .ok (.bipush 100, 2) := dk_16 100 (dk_at dksX0_worthOf_2 8 rfl rfl)
theorem dX0_worthOf_58 : decode cX0_worthOf 58 = .ok (.aload_n 0, 1) := dk_42 (dk_at dksX0_worthOf_2 10 rfl rfl)
theorem dX0_worthOf_59 : decode cX0_worthOf 59 = .ok (.invokevirtual 93, 3) := dk_182 0 93 (dk_at dksX0_worthOf_2 11 rfl rfl)
theorem dX0_worthOf_62 : decode cX0_worthOf 62 = .ok (.iload_n 1, 1) := dk_27 (dk_at dksX0_worthOf_2 14 rfl rfl)
theorem dX0_worthOf_63 : decode cX0_worthOf 63 = .ok (.iload_n 2, 1) := dk_28 (dk_at dksX0_worthOf_2 15 rfl rfl)
theorem dX0_worthOf_64 : decode cX0_worthOf 64 = .ok (.iload_n 3, 1) := dk_29 (dk_at dksX0_worthOf_2 16 rfl rfl)
theorem dX0_worthOf_65 : decode cX0_worthOf 65 = .ok (.invokevirtual 172, 3) := dk_182 0 172 (dk_at dksX0_worthOf_2 17 rfl rfl)
theorem dX0_worthOf_68 : decode cX0_worthOf 68 = .ok (.iadd, 1) := dk_96 (dk_at dksX0_worthOf_2 20 rfl rfl)
theorem dX0_worthOf_69 : decode cX0_worthOf 69 = .ok (.goto 5, 3) := dk_167 0 5 (dk_at dksX0_worthOf_2 21 rfl rfl)
theorem dX0_worthOf_72 : decode cX0_worthOf 72 = .ok (.bipush (-2), 2) := dk_16 254 (dk_at dksX0_worthOf_3 0 rfl rfl)
theorem dX0_worthOf_74 : decode cX0_worthOf 74 = .ok (.ireturn, 1) := dk_172 (dk_at dksX0_worthOf_3 2 rfl rfl)
abbrev cX0_tally : ByteArray := prog_1_method_36_code
def yX0_tally : MethodName := ⟨RX0, "tally", "(I)I"⟩
def dkwX0_tally_3 : List UInt8 := [182, 0, 204, 172, 42, 27, 7, 160, 0, 7, 4, 167, 0, 4, 3, 182, 0, 207, 172, 16, 254, 172]
abbrev dktX0_tally_3 : List UInt8 := dkwX0_tally_3 ++ []
def dkwX0_tally_2 : List UInt8 := [42, 182, 0, 93, 180, 0, 189, 172, 42, 4, 182, 0, 204, 172, 42, 2, 182, 0, 204, 172, 42, 3]
abbrev dktX0_tally_2 : List UInt8 := dkwX0_tally_2 ++ dktX0_tally_3
def dkwX0_tally_1 : List UInt8 := [170, 0, 0, 0, 0, 0, 80, 0, 0, 0, 0, 0, 0, 0, 5, 0, 0, 0, 39, 0, 0, 0, 47, 0, 0, 0, 53, 0, 0, 0, 59, 0, 0, 0, 65, 0, 0, 0, 65]
abbrev dktX0_tally_1 : List UInt8 := dkwX0_tally_1 ++ dktX0_tally_2
def dkwX0_tally_0 : List UInt8 := [27]
abbrev dktX0_tally_0 : List UInt8 := dkwX0_tally_0 ++ dktX0_tally_1
theorem dksX0_tally_0 : cX0_tally.data.toList.drop 0 = dktX0_tally_0 := by decide +kernel
theorem dksX0_tally_1 : cX0_tally.data.toList.drop 1 = dktX0_tally_1 := dk_seg dksX0_tally_0 1 rfl rfl
theorem dksX0_tally_2 : cX0_tally.data.toList.drop 40 = dktX0_tally_2 := dk_seg dksX0_tally_1 39 rfl rfl
theorem dksX0_tally_3 : cX0_tally.data.toList.drop 62 = dktX0_tally_3 := dk_seg dksX0_tally_2 22 rfl rfl
theorem dX0_tally_0 : decode cX0_tally 0 = .ok (.iload_n 1, 1) := dk_27 (dk_at dksX0_tally_0 0 rfl rfl)
theorem dX0_tally_1 : decode cX0_tally 1 = .ok (.tableswitch 80 0 5 #[39, 47, 53, 59, 65, 65], 39) := by decide +kernel
theorem dX0_tally_40 : decode cX0_tally 40 = .ok (.aload_n 0, 1) := dk_42 (dk_at dksX0_tally_2 0 rfl rfl)
theorem dX0_tally_41 : decode cX0_tally 41 = .ok (.invokevirtual 93, 3) := dk_182 0 93 (dk_at dksX0_tally_2 1 rfl rfl)
theorem dX0_tally_44 : decode cX0_tally 44 = .ok (.getfield 189, 3) := dk_180 0 189 (dk_at dksX0_tally_2 4 rfl rfl)
theorem dX0_tally_47 : decode cX0_tally 47 = .ok (.ireturn, 1) := dk_172 (dk_at dksX0_tally_2 7 rfl rfl)
theorem dX0_tally_48 : decode cX0_tally 48 = .ok (.aload_n 0, 1) := dk_42 (dk_at dksX0_tally_2 8 rfl rfl)
theorem dX0_tally_49 : decode cX0_tally 49 = .ok (.iconst 1, 1) := dk_4 (dk_at dksX0_tally_2 9 rfl rfl)
theorem dX0_tally_50 : decode cX0_tally 50 = .ok (.invokevirtual 204, 3) := dk_182 0 204 (dk_at dksX0_tally_2 10 rfl rfl)
theorem dX0_tally_53 : decode cX0_tally 53 = .ok (.ireturn, 1) := dk_172 (dk_at dksX0_tally_2 13 rfl rfl)
theorem dX0_tally_54 : decode cX0_tally 54 = .ok (.aload_n 0, 1) := dk_42 (dk_at dksX0_tally_2 14 rfl rfl)
theorem dX0_tally_55 : decode cX0_tally 55 = .ok (.iconst (-1), 1) := dk_2 (dk_at dksX0_tally_2 15 rfl rfl)
theorem dX0_tally_56 : decode cX0_tally 56 = .ok (.invokevirtual 204, 3) := dk_182 0 204 (dk_at dksX0_tally_2 16 rfl rfl)
theorem dX0_tally_59 : decode cX0_tally 59 = .ok (.ireturn, 1) := dk_172 (dk_at dksX0_tally_2 19 rfl rfl)
theorem dX0_tally_60 : decode cX0_tally 60 = .ok (.aload_n 0, 1) := dk_42 (dk_at dksX0_tally_2 20 rfl rfl)
theorem dX0_tally_61 : decode cX0_tally 61 = .ok (.iconst 0, 1) := dk_3 (dk_at dksX0_tally_2 21 rfl rfl)
theorem dX0_tally_62 : decode cX0_tally 62 = .ok (.invokevirtual 204, 3) := dk_182 0 204 (dk_at dksX0_tally_3 0 rfl rfl)
theorem dX0_tally_65 : decode cX0_tally 65 = .ok (.ireturn, 1) := dk_172 (dk_at dksX0_tally_3 3 rfl rfl)
theorem dX0_tally_66 : decode cX0_tally 66 = .ok (.aload_n 0, 1) := dk_42 (dk_at dksX0_tally_3 4 rfl rfl)
theorem dX0_tally_67 : decode cX0_tally 67 = .ok (.iload_n 1, 1) := dk_27 (dk_at dksX0_tally_3 5 rfl rfl)
theorem dX0_tally_68 : decode cX0_tally 68 = .ok (.iconst 4, 1) := dk_7 (dk_at dksX0_tally_3 6 rfl rfl)
theorem dX0_tally_69 : decode cX0_tally 69 = .ok (.if_icmp .ne 7, 3) := dk_160 0 7 (dk_at dksX0_tally_3 7 rfl rfl)
theorem dX0_tally_72 : decode cX0_tally 72 = .ok (.iconst 1, 1) := dk_4 (dk_at dksX0_tally_3 10 rfl rfl)
theorem dX0_tally_73 : decode cX0_tally 73 = .ok (.goto 4, 3) := dk_167 0 4 (dk_at dksX0_tally_3 11 rfl rfl)
theorem dX0_tally_76 : decode cX0_tally 76 = .ok (.iconst 0, 1) := dk_3 (dk_at dksX0_tally_3 14 rfl rfl)
theorem dX0_tally_77 : decode cX0_tally 77 = .ok (.invokevirtual 207, 3) := dk_182 0 207 (dk_at dksX0_tally_3 15 rfl rfl)
theorem dX0_tally_80 : decode cX0_tally 80 = .ok (.ireturn, 1) := dk_172 (dk_at dksX0_tally_3 18 rfl rfl)
theorem dX0_tally_81 : decode cX0_tally 81 = .ok (.bipush (-2), 2) := dk_16 254 (dk_at dksX0_tally_3 19 rfl rfl)
theorem dX0_tally_83 : decode cX0_tally 83 = .ok (.ireturn, 1) := dk_172 (dk_at dksX0_tally_3 21 rfl rfl)
abbrev cX0_with : ByteArray := prog_1_method_34_code
def yX0_with : MethodName := ⟨RX0, "with", "(I)I"⟩
def dkwX0_with_1 : List UInt8 := [184, 0, 195, 27, 160, 0, 7, 4, 167, 0, 4, 3, 96, 61, 132, 3, 1, 167, 255, 219, 28, 172]
abbrev dktX0_with_1 : List UInt8 := dkwX0_with_1 ++ []
def dkwX0_with_0 : List UInt8 := [3, 61, 3, 62, 29, 42, 182, 0, 93, 180, 0, 189, 162, 0, 32, 28, 42, 182, 0, 93, 29, 182, 0, 192]
abbrev dktX0_with_0 : List UInt8 := dkwX0_with_0 ++ dktX0_with_1
theorem dksX0_with_0 : cX0_with.data.toList.drop 0 = dktX0_with_0 := by decide +kernel
theorem dksX0_with_1 : cX0_with.data.toList.drop 24 = dktX0_with_1 := dk_seg dksX0_with_0 24 rfl rfl
theorem dX0_with_0 : decode cX0_with 0 = .ok (.iconst 0, 1) := dk_3 (dk_at dksX0_with_0 0 rfl rfl)
theorem dX0_with_1 : decode cX0_with 1 = .ok (.istore_n 2, 1) := dk_61 (dk_at dksX0_with_0 1 rfl rfl)
theorem dX0_with_2 : decode cX0_with 2 = .ok (.iconst 0, 1) := dk_3 (dk_at dksX0_with_0 2 rfl rfl)
theorem dX0_with_3 : decode cX0_with 3 = .ok (.istore_n 3, 1) := dk_62 (dk_at dksX0_with_0 3 rfl rfl)
theorem dX0_with_4 : decode cX0_with 4 = .ok (.iload_n 3, 1) := dk_29 (dk_at dksX0_with_0 4 rfl rfl)
theorem dX0_with_5 : decode cX0_with 5 = .ok (.aload_n 0, 1) := dk_42 (dk_at dksX0_with_0 5 rfl rfl)
theorem dX0_with_6 : decode cX0_with 6 = .ok (.invokevirtual 93, 3) := dk_182 0 93 (dk_at dksX0_with_0 6 rfl rfl)
theorem dX0_with_9 : decode cX0_with 9 = .ok (.getfield 189, 3) := dk_180 0 189 (dk_at dksX0_with_0 9 rfl rfl)
theorem dX0_with_12 : decode cX0_with 12 = .ok (.if_icmp .ge 32, 3) := dk_162 0 32 (dk_at dksX0_with_0 12 rfl rfl)
theorem dX0_with_15 : decode cX0_with 15 = .ok (.iload_n 2, 1) := dk_28 (dk_at dksX0_with_0 15 rfl rfl)
theorem dX0_with_16 : decode cX0_with 16 = .ok (.aload_n 0, 1) := dk_42 (dk_at dksX0_with_0 16 rfl rfl)
theorem dX0_with_17 : decode cX0_with 17 = .ok (.invokevirtual 93, 3) := dk_182 0 93 (dk_at dksX0_with_0 17 rfl rfl)
theorem dX0_with_20 : decode cX0_with 20 = .ok (.iload_n 3, 1) := dk_29 (dk_at dksX0_with_0 20 rfl rfl)
theorem dX0_with_21 : decode cX0_with 21 = .ok (.invokevirtual 192, 3) := dk_182 0 192 (dk_at dksX0_with_0 21 rfl rfl)
theorem dX0_with_24 : decode cX0_with 24 = .ok (.invokestatic 195, 3) := dk_184 0 195 (dk_at dksX0_with_1 0 rfl rfl)
theorem dX0_with_27 : decode cX0_with 27 = .ok (.iload_n 1, 1) := dk_27 (dk_at dksX0_with_1 3 rfl rfl)
theorem dX0_with_28 : decode cX0_with 28 = .ok (.if_icmp .ne 7, 3) := dk_160 0 7 (dk_at dksX0_with_1 4 rfl rfl)
theorem dX0_with_31 : decode cX0_with 31 = .ok (.iconst 1, 1) := dk_4 (dk_at dksX0_with_1 7 rfl rfl)
theorem dX0_with_32 : decode cX0_with 32 = .ok (.goto 4, 3) := dk_167 0 4 (dk_at dksX0_with_1 8 rfl rfl)
theorem dX0_with_35 : decode cX0_with 35 = .ok (.iconst 0, 1) := dk_3 (dk_at dksX0_with_1 11 rfl rfl)
theorem dX0_with_36 : decode cX0_with 36 = .ok (.iadd, 1) := dk_96 (dk_at dksX0_with_1 12 rfl rfl)
theorem dX0_with_37 : decode cX0_with 37 = .ok (.istore_n 2, 1) := dk_61 (dk_at dksX0_with_1 13 rfl rfl)
theorem dX0_with_38 : decode cX0_with 38 = .ok (.iinc 3 1, 3) := dk_132 3 1 (dk_at dksX0_with_1 14 rfl rfl)
theorem dX0_with_41 : decode cX0_with 41 = .ok (.goto (-37), 3) := dk_167 255 219 (dk_at dksX0_with_1 17 rfl rfl)
theorem dX0_with_44 : decode cX0_with 44 = .ok (.iload_n 2, 1) := dk_28 (dk_at dksX0_with_1 20 rfl rfl)
theorem dX0_with_45 : decode cX0_with 45 = .ok (.ireturn, 1) := dk_172 (dk_at dksX0_with_1 21 rfl rfl)
abbrev cX0_longest : ByteArray := prog_1_method_35_code
def yX0_longest : MethodName := ⟨RX0, "longest", "(Z)I"⟩
def dkwX0_longest_2 : List UInt8 := [167, 255, 214, 28, 172]
abbrev dktX0_longest_2 : List UInt8 := dkwX0_longest_2 ++ []
def dkwX0_longest_1 : List UInt8 := [54, 4, 28, 27, 153, 0, 8, 21, 4, 167, 0, 7, 2, 21, 4, 100, 184, 0, 198, 61, 132, 3, 1]
abbrev dktX0_longest_1 : List UInt8 := dkwX0_longest_1 ++ dktX0_longest_2
def dkwX0_longest_0 : List UInt8 := [3, 61, 3, 62, 29, 42, 182, 0, 93, 180, 0, 189, 162, 0, 37, 42, 182, 0, 93, 29, 182, 0, 192]
abbrev dktX0_longest_0 : List UInt8 := dkwX0_longest_0 ++ dktX0_longest_1
theorem dksX0_longest_0 : cX0_longest.data.toList.drop 0 = dktX0_longest_0 := by decide +kernel
theorem dksX0_longest_1 : cX0_longest.data.toList.drop 23 = dktX0_longest_1 := dk_seg dksX0_longest_0 23 rfl rfl
theorem dksX0_longest_2 : cX0_longest.data.toList.drop 46 = dktX0_longest_2 := dk_seg dksX0_longest_1 23 rfl rfl
theorem dX0_longest_0 : decode cX0_longest 0 = .ok (.iconst 0, 1) := dk_3 (dk_at dksX0_longest_0 0 rfl rfl)
theorem dX0_longest_1 : decode cX0_longest 1 = .ok (.istore_n 2, 1) := dk_61 (dk_at dksX0_longest_0 1 rfl rfl)
theorem dX0_longest_2 : decode cX0_longest 2 = .ok (.iconst 0, 1) := dk_3 (dk_at dksX0_longest_0 2 rfl rfl)
theorem dX0_longest_3 : decode cX0_longest 3 = .ok (.istore_n 3, 1) := dk_62 (dk_at dksX0_longest_0 3 rfl rfl)
theorem dX0_longest_4 : decode cX0_longest 4 = .ok (.iload_n 3, 1) := dk_29 (dk_at dksX0_longest_0 4 rfl rfl)
theorem dX0_longest_5 : decode cX0_longest 5 = .ok (.aload_n 0, 1) := dk_42 (dk_at dksX0_longest_0 5 rfl rfl)
theorem dX0_longest_6 : decode cX0_longest 6 = .ok (.invokevirtual 93, 3) := dk_182 0 93 (dk_at dksX0_longest_0 6 rfl rfl)
theorem dX0_longest_9 : decode cX0_longest 9 = .ok (.getfield 189, 3) := dk_180 0 189 (dk_at dksX0_longest_0 9 rfl rfl)
theorem dX0_longest_12 : decode cX0_longest 12 = .ok (.if_icmp .ge 37, 3) := dk_162 0 37 (dk_at dksX0_longest_0 12 rfl rfl)
theorem dX0_longest_15 : decode cX0_longest 15 = .ok (.aload_n 0, 1) := dk_42 (dk_at dksX0_longest_0 15 rfl rfl)
theorem dX0_longest_16 : decode cX0_longest 16 = .ok (.invokevirtual 93, 3) := dk_182 0 93 (dk_at dksX0_longest_0 16 rfl rfl)
theorem dX0_longest_19 : decode cX0_longest 19 = .ok (.iload_n 3, 1) := dk_29 (dk_at dksX0_longest_0 19 rfl rfl)
theorem dX0_longest_20 : decode cX0_longest 20 = .ok (.invokevirtual 192, 3) := dk_182 0 192 (dk_at dksX0_longest_0 20 rfl rfl)
theorem dX0_longest_23 : decode cX0_longest 23 = .ok (.istore 4, 2) := dk_54 4 (dk_at dksX0_longest_1 0 rfl rfl)
theorem dX0_longest_25 : decode cX0_longest 25 = .ok (.iload_n 2, 1) := dk_28 (dk_at dksX0_longest_1 2 rfl rfl)
theorem dX0_longest_26 : decode cX0_longest 26 = .ok (.iload_n 1, 1) := dk_27 (dk_at dksX0_longest_1 3 rfl rfl)
theorem dX0_longest_27 : decode cX0_longest 27 = .ok (.ifCond .eq 8, 3) := dk_153 0 8 (dk_at dksX0_longest_1 4 rfl rfl)
theorem dX0_longest_30 : decode cX0_longest 30 = .ok (.iload 4, 2) := dk_21 4 (dk_at dksX0_longest_1 7 rfl rfl)
theorem dX0_longest_32 : decode cX0_longest 32 = .ok (.goto 7, 3) := dk_167 0 7 (dk_at dksX0_longest_1 9 rfl rfl)
theorem dX0_longest_35 : decode cX0_longest 35 = .ok (.iconst (-1), 1) := dk_2 (dk_at dksX0_longest_1 12 rfl rfl)
theorem dX0_longest_36 : decode cX0_longest 36 = .ok (.iload 4, 2) := dk_21 4 (dk_at dksX0_longest_1 13 rfl rfl)
theorem dX0_longest_38 : decode cX0_longest 38 = .ok (.isub, 1) := dk_100 (dk_at dksX0_longest_1 15 rfl rfl)
theorem dX0_longest_39 : decode cX0_longest 39 = .ok (.invokestatic 198, 3) := dk_184 0 198 (dk_at dksX0_longest_1 16 rfl rfl)
theorem dX0_longest_42 : decode cX0_longest 42 = .ok (.istore_n 2, 1) := dk_61 (dk_at dksX0_longest_1 19 rfl rfl)
theorem dX0_longest_43 : decode cX0_longest 43 = .ok (.iinc 3 1, 3) := dk_132 3 1 (dk_at dksX0_longest_1 20 rfl rfl)
theorem dX0_longest_46 : decode cX0_longest 46 = .ok (.goto (-42), 3) := dk_167 255 214 (dk_at dksX0_longest_2 0 rfl rfl)
theorem dX0_longest_49 : decode cX0_longest 49 = .ok (.iload_n 2, 1) := dk_28 (dk_at dksX0_longest_2 3 rfl rfl)
theorem dX0_longest_50 : decode cX0_longest 50 = .ok (.ireturn, 1) := dk_172 (dk_at dksX0_longest_2 4 rfl rfl)
abbrev cX0_share : ByteArray := prog_1_method_37_code
def yX0_share : MethodName := ⟨RX0, "share", "()I"⟩
def dkwX0_share_0 : List UInt8 := [42, 4, 182, 0, 204, 134, 42, 182, 0, 93, 180, 0, 189, 134, 110, 184, 0, 210, 172]
abbrev dktX0_share_0 : List UInt8 := dkwX0_share_0 ++ []
theorem dksX0_share_0 : cX0_share.data.toList.drop 0 = dktX0_share_0 := by decide +kernel
theorem dX0_share_0 : decode cX0_share 0 = .ok (.aload_n 0, 1) := dk_42 (dk_at dksX0_share_0 0 rfl rfl)
theorem dX0_share_1 : decode cX0_share 1 = .ok (.iconst 1, 1) := dk_4 (dk_at dksX0_share_0 1 rfl rfl)
theorem dX0_share_2 : decode cX0_share 2 = .ok (.invokevirtual 204, 3) := dk_182 0 204 (dk_at dksX0_share_0 2 rfl rfl)
theorem dX0_share_5 : decode cX0_share 5 = .ok (.i2f, 1) := dk_134 (dk_at dksX0_share_0 5 rfl rfl)
theorem dX0_share_6 : decode cX0_share 6 = .ok (.aload_n 0, 1) := dk_42 (dk_at dksX0_share_0 6 rfl rfl)
theorem dX0_share_7 : decode cX0_share 7 = .ok (.invokevirtual 93, 3) := dk_182 0 93 (dk_at dksX0_share_0 7 rfl rfl)
theorem dX0_share_10 : decode cX0_share 10 = .ok (.getfield 189, 3) := dk_180 0 189 (dk_at dksX0_share_0 10 rfl rfl)
theorem dX0_share_13 : decode cX0_share 13 = .ok (.i2f, 1) := dk_134 (dk_at dksX0_share_0 13 rfl rfl)
theorem dX0_share_14 : decode cX0_share 14 = .ok (.fdiv, 1) := dk_110 (dk_at dksX0_share_0 14 rfl rfl)
theorem dX0_share_15 : decode cX0_share 15 = .ok (.invokestatic 210, 3) := dk_184 0 210 (dk_at dksX0_share_0 15 rfl rfl)
theorem dX0_share_18 : decode cX0_share 18 = .ok (.ireturn, 1) := dk_172 (dk_at dksX0_share_0 18 rfl rfl)
abbrev cX0_many : ByteArray := prog_1_method_38_code
def yX0_many : MethodName := ⟨RX0, "many", "(I)I"⟩
def dkwX0_many_2 : List UInt8 := [167, 0, 4, 3, 96, 61, 132, 3, 1, 167, 255, 219, 28, 172]
abbrev dktX0_many_2 : List UInt8 := dkwX0_many_2 ++ []
def dkwX0_many_1 : List UInt8 := [180, 0, 189, 162, 0, 32, 28, 42, 182, 0, 93, 29, 182, 0, 192, 27, 16, 100, 100, 160, 0, 7, 4]
abbrev dktX0_many_1 : List UInt8 := dkwX0_many_1 ++ dktX0_many_2
def dkwX0_many_0 : List UInt8 := [27, 3, 17, 0, 200, 184, 0, 3, 154, 0, 6, 16, 254, 172, 3, 61, 3, 62, 29, 42, 182, 0, 93]
abbrev dktX0_many_0 : List UInt8 := dkwX0_many_0 ++ dktX0_many_1
theorem dksX0_many_0 : cX0_many.data.toList.drop 0 = dktX0_many_0 := by decide +kernel
theorem dksX0_many_1 : cX0_many.data.toList.drop 23 = dktX0_many_1 := dk_seg dksX0_many_0 23 rfl rfl
theorem dksX0_many_2 : cX0_many.data.toList.drop 46 = dktX0_many_2 := dk_seg dksX0_many_1 23 rfl rfl
theorem dX0_many_0 : decode cX0_many 0 = .ok (.iload_n 1, 1) := dk_27 (dk_at dksX0_many_0 0 rfl rfl)
theorem dX0_many_1 : decode cX0_many 1 = .ok (.iconst 0, 1) := dk_3 (dk_at dksX0_many_0 1 rfl rfl)
theorem dX0_many_2 : decode cX0_many 2 = .ok (.sipush 200, 3) := dk_17 0 200 (dk_at dksX0_many_0 2 rfl rfl)
theorem dX0_many_5 : decode cX0_many 5 = .ok (.invokestatic 3, 3) := dk_184 0 3 (dk_at dksX0_many_0 5 rfl rfl)
theorem dX0_many_8 : decode cX0_many 8 = .ok (.ifCond .ne 6, 3) := dk_154 0 6 (dk_at dksX0_many_0 8 rfl rfl)
theorem dX0_many_11 : decode cX0_many 11 = .ok (.bipush (-2), 2) := dk_16 254 (dk_at dksX0_many_0 11 rfl rfl)
theorem dX0_many_13 : decode cX0_many 13 = .ok (.ireturn, 1) := dk_172 (dk_at dksX0_many_0 13 rfl rfl)
theorem dX0_many_14 : decode cX0_many 14 = .ok (.iconst 0, 1) := dk_3 (dk_at dksX0_many_0 14 rfl rfl)
theorem dX0_many_15 : decode cX0_many 15 = .ok (.istore_n 2, 1) := dk_61 (dk_at dksX0_many_0 15 rfl rfl)
theorem dX0_many_16 : decode cX0_many 16 = .ok (.iconst 0, 1) := dk_3 (dk_at dksX0_many_0 16 rfl rfl)
theorem dX0_many_17 : decode cX0_many 17 = .ok (.istore_n 3, 1) := dk_62 (dk_at dksX0_many_0 17 rfl rfl)
theorem dX0_many_18 : decode cX0_many 18 = .ok (.iload_n 3, 1) := dk_29 (dk_at dksX0_many_0 18 rfl rfl)
theorem dX0_many_19 : decode cX0_many 19 = .ok (.aload_n 0, 1) := dk_42 (dk_at dksX0_many_0 19 rfl rfl)
theorem dX0_many_20 : decode cX0_many 20 = .ok (.invokevirtual 93, 3) := dk_182 0 93 (dk_at dksX0_many_0 20 rfl rfl)
theorem dX0_many_23 : decode cX0_many 23 = .ok (.getfield 189, 3) := dk_180 0 189 (dk_at dksX0_many_1 0 rfl rfl)
theorem dX0_many_26 : decode cX0_many 26 = .ok (.if_icmp .ge 32, 3) := dk_162 0 32 (dk_at dksX0_many_1 3 rfl rfl)
theorem dX0_many_29 : decode cX0_many 29 = .ok (.iload_n 2, 1) := dk_28 (dk_at dksX0_many_1 6 rfl rfl)
theorem dX0_many_30 : decode cX0_many 30 = .ok (.aload_n 0, 1) := dk_42 (dk_at dksX0_many_1 7 rfl rfl)
theorem dX0_many_31 : decode cX0_many 31 = .ok (.invokevirtual 93, 3) := dk_182 0 93 (dk_at dksX0_many_1 8 rfl rfl)
theorem dX0_many_34 : decode cX0_many 34 = .ok (.iload_n 3, 1) := dk_29 (dk_at dksX0_many_1 11 rfl rfl)
theorem dX0_many_35 : decode cX0_many 35 = .ok (.invokevirtual 192, 3) := dk_182 0 192 (dk_at dksX0_many_1 12 rfl rfl)
theorem dX0_many_38 : decode cX0_many 38 = .ok (.iload_n 1, 1) := dk_27 (dk_at dksX0_many_1 15 rfl rfl)
theorem dX0_many_39 : decode cX0_many 39 = .ok (.bipush 100, 2) := dk_16 100 (dk_at dksX0_many_1 16 rfl rfl)
theorem dX0_many_41 : decode cX0_many 41 = .ok (.isub, 1) := dk_100 (dk_at dksX0_many_1 18 rfl rfl)
theorem dX0_many_42 : decode cX0_many 42 = .ok (.if_icmp .ne 7, 3) := dk_160 0 7 (dk_at dksX0_many_1 19 rfl rfl)
theorem dX0_many_45 : decode cX0_many 45 = .ok (.iconst 1, 1) := dk_4 (dk_at dksX0_many_1 22 rfl rfl)
theorem dX0_many_46 : decode cX0_many 46 = .ok (.goto 4, 3) := dk_167 0 4 (dk_at dksX0_many_2 0 rfl rfl)
theorem dX0_many_49 : decode cX0_many 49 = .ok (.iconst 0, 1) := dk_3 (dk_at dksX0_many_2 3 rfl rfl)
theorem dX0_many_50 : decode cX0_many 50 = .ok (.iadd, 1) := dk_96 (dk_at dksX0_many_2 4 rfl rfl)
theorem dX0_many_51 : decode cX0_many 51 = .ok (.istore_n 2, 1) := dk_61 (dk_at dksX0_many_2 5 rfl rfl)
theorem dX0_many_52 : decode cX0_many 52 = .ok (.iinc 3 1, 3) := dk_132 3 1 (dk_at dksX0_many_2 6 rfl rfl)
theorem dX0_many_55 : decode cX0_many 55 = .ok (.goto (-37), 3) := dk_167 255 219 (dk_at dksX0_many_2 9 rfl rfl)
theorem dX0_many_58 : decode cX0_many 58 = .ok (.iload_n 2, 1) := dk_28 (dk_at dksX0_many_2 12 rfl rfl)
theorem dX0_many_59 : decode cX0_many 59 = .ok (.ireturn, 1) := dk_172 (dk_at dksX0_many_2 13 rfl rfl)
abbrev cX0_put : ByteArray := prog_1_method_39_code
def yX0_put : MethodName := ⟨RX0, "put", "(J)I"⟩
def dkwX0_put_5 : List UInt8 := [132, 6, 255, 167, 255, 227, 42, 180, 0, 43, 182, 0, 166, 172]
abbrev dktX0_put_5 : List UInt8 := dkwX0_put_5 ++ []
def dkwX0_put_4 : List UInt8 := [155, 0, 30, 42, 180, 0, 43, 31, 16, 8, 21, 6, 104, 123, 20, 0, 216, 127, 136, 146, 182, 0, 218, 87]
abbrev dktX0_put_4 : List UInt8 := dkwX0_put_4 ++ dktX0_put_5
def dkwX0_put_3 : List UInt8 := [180, 0, 43, 182, 0, 166, 29, 96, 16, 80, 164, 0, 6, 16, 252, 172, 29, 4, 100, 54, 6, 21, 6]
abbrev dktX0_put_3 : List UInt8 := dkwX0_put_3 ++ dktX0_put_4
def dkwX0_put_2 : List UInt8 := [16, 8, 125, 55, 4, 167, 255, 209, 29, 153, 0, 10, 22, 4, 9, 148, 153, 0, 6, 16, 254, 172, 42]
abbrev dktX0_put_2 : List UInt8 := dkwX0_put_2 ++ dktX0_put_3
def dkwX0_put_1 : List UInt8 := [20, 0, 216, 127, 136, 16, 33, 16, 126, 184, 0, 3, 154, 0, 6, 16, 254, 172, 132, 3, 1, 22, 4]
abbrev dktX0_put_1 : List UInt8 := dkwX0_put_1 ++ dktX0_put_2
def dkwX0_put_0 : List UInt8 := [3, 62, 31, 55, 4, 29, 16, 8, 162, 0, 47, 22, 4, 20, 0, 216, 127, 9, 148, 153, 0, 36, 22, 4]
abbrev dktX0_put_0 : List UInt8 := dkwX0_put_0 ++ dktX0_put_1
theorem dksX0_put_0 : cX0_put.data.toList.drop 0 = dktX0_put_0 := by decide +kernel
theorem dksX0_put_1 : cX0_put.data.toList.drop 24 = dktX0_put_1 := dk_seg dksX0_put_0 24 rfl rfl
theorem dksX0_put_2 : cX0_put.data.toList.drop 47 = dktX0_put_2 := dk_seg dksX0_put_1 23 rfl rfl
theorem dksX0_put_3 : cX0_put.data.toList.drop 70 = dktX0_put_3 := dk_seg dksX0_put_2 23 rfl rfl
theorem dksX0_put_4 : cX0_put.data.toList.drop 93 = dktX0_put_4 := dk_seg dksX0_put_3 23 rfl rfl
theorem dksX0_put_5 : cX0_put.data.toList.drop 117 = dktX0_put_5 := dk_seg dksX0_put_4 24 rfl rfl
theorem dX0_put_0 : decode cX0_put 0 = .ok (.iconst 0, 1) := dk_3 (dk_at dksX0_put_0 0 rfl rfl)
theorem dX0_put_1 : decode cX0_put 1 = .ok (.istore_n 3, 1) := dk_62 (dk_at dksX0_put_0 1 rfl rfl)
theorem dX0_put_2 : decode cX0_put 2 = .ok (.lload_n 1, 1) := dk_31 (dk_at dksX0_put_0 2 rfl rfl)
theorem dX0_put_3 : decode cX0_put 3 = .ok (.lstore 4, 2) := dk_55 4 (dk_at dksX0_put_0 3 rfl rfl)
theorem dX0_put_5 : decode cX0_put 5 = .ok (.iload_n 3, 1) := dk_29 (dk_at dksX0_put_0 5 rfl rfl)
theorem dX0_put_6 : decode cX0_put 6 = .ok (.bipush 8, 2) := dk_16 8 (dk_at dksX0_put_0 6 rfl rfl)
theorem dX0_put_8 : decode cX0_put 8 = .ok (.if_icmp .ge 47, 3) := dk_162 0 47 (dk_at dksX0_put_0 8 rfl rfl)
theorem dX0_put_11 : decode cX0_put 11 = .ok (.lload 4, 2) := dk_22 4 (dk_at dksX0_put_0 11 rfl rfl)
theorem dX0_put_13 : decode cX0_put 13 = .ok (.ldc2_w 216, 3) := dk_20 0 216 (dk_at dksX0_put_0 13 rfl rfl)
theorem dX0_put_16 : decode cX0_put 16 = .ok (.land, 1) := dk_127 (dk_at dksX0_put_0 16 rfl rfl)
theorem dX0_put_17 : decode cX0_put 17 = .ok (.lconst 0, 1) := dk_9 (dk_at dksX0_put_0 17 rfl rfl)
theorem dX0_put_18 : decode cX0_put 18 = .ok (.lcmp, 1) := dk_148 (dk_at dksX0_put_0 18 rfl rfl)
theorem dX0_put_19 : decode cX0_put 19 = .ok (.ifCond .eq 36, 3) := dk_153 0 36 (dk_at dksX0_put_0 19 rfl rfl)
theorem dX0_put_22 : decode cX0_put 22 = .ok (.lload 4, 2) := dk_22 4 (dk_at dksX0_put_0 22 rfl rfl)
theorem dX0_put_24 : decode cX0_put 24 = .ok (.ldc2_w 216, 3) := dk_20 0 216 (dk_at dksX0_put_1 0 rfl rfl)
theorem dX0_put_27 : decode cX0_put 27 = .ok (.land, 1) := dk_127 (dk_at dksX0_put_1 3 rfl rfl)
theorem dX0_put_28 : decode cX0_put 28 = .ok (.l2i, 1) := dk_136 (dk_at dksX0_put_1 4 rfl rfl)
theorem dX0_put_29 : decode cX0_put 29 = .ok (.bipush 33, 2) := dk_16 33 (dk_at dksX0_put_1 5 rfl rfl)
theorem dX0_put_31 : decode cX0_put 31 = .ok (.bipush 126, 2) := dk_16 126 (dk_at dksX0_put_1 7 rfl rfl)
theorem dX0_put_33 : decode cX0_put 33 = .ok (.invokestatic 3, 3) := dk_184 0 3 (dk_at dksX0_put_1 9 rfl rfl)
theorem dX0_put_36 : decode cX0_put 36 = .ok (.ifCond .ne 6, 3) := dk_154 0 6 (dk_at dksX0_put_1 12 rfl rfl)
theorem dX0_put_39 : decode cX0_put 39 = .ok (.bipush (-2), 2) := dk_16 254 (dk_at dksX0_put_1 15 rfl rfl)
theorem dX0_put_41 : decode cX0_put 41 = .ok (.ireturn, 1) := dk_172 (dk_at dksX0_put_1 17 rfl rfl)
theorem dX0_put_42 : decode cX0_put 42 = .ok (.iinc 3 1, 3) := dk_132 3 1 (dk_at dksX0_put_1 18 rfl rfl)
theorem dX0_put_45 : decode cX0_put 45 = .ok (.lload 4, 2) := dk_22 4 (dk_at dksX0_put_1 21 rfl rfl)
theorem dX0_put_47 : decode cX0_put 47 = .ok (.bipush 8, 2) := dk_16 8 (dk_at dksX0_put_2 0 rfl rfl)
theorem dX0_put_49 : decode cX0_put 49 = .ok (.lushr, 1) := dk_125 (dk_at dksX0_put_2 2 rfl rfl)
theorem dX0_put_50 : decode cX0_put 50 = .ok (.lstore 4, 2) := dk_55 4 (dk_at dksX0_put_2 3 rfl rfl)
theorem dX0_put_52 : decode cX0_put 52 = .ok (.goto (-47), 3) := dk_167 255 209 (dk_at dksX0_put_2 5 rfl rfl)
theorem dX0_put_55 : decode cX0_put 55 = .ok (.iload_n 3, 1) := dk_29 (dk_at dksX0_put_2 8 rfl rfl)
theorem dX0_put_56 : decode cX0_put 56 = .ok (.ifCond .eq 10, 3) := dk_153 0 10 (dk_at dksX0_put_2 9 rfl rfl)
theorem dX0_put_59 : decode cX0_put 59 = .ok (.lload 4, 2) := dk_22 4 (dk_at dksX0_put_2 12 rfl rfl)
theorem dX0_put_61 : decode cX0_put 61 = .ok (.lconst 0, 1) := dk_9 (dk_at dksX0_put_2 14 rfl rfl)
theorem dX0_put_62 : decode cX0_put 62 = .ok (.lcmp, 1) := dk_148 (dk_at dksX0_put_2 15 rfl rfl)
theorem dX0_put_63 : decode cX0_put 63 = .ok (.ifCond .eq 6, 3) := dk_153 0 6 (dk_at dksX0_put_2 16 rfl rfl)
theorem dX0_put_66 : decode cX0_put 66 = .ok (.bipush (-2), 2) := dk_16 254 (dk_at dksX0_put_2 19 rfl rfl)
theorem dX0_put_68 : decode cX0_put 68 = .ok (.ireturn, 1) := dk_172 (dk_at dksX0_put_2 21 rfl rfl)
theorem dX0_put_69 : decode cX0_put 69 = .ok (.aload_n 0, 1) := dk_42 (dk_at dksX0_put_2 22 rfl rfl)
theorem dX0_put_70 : decode cX0_put 70 = .ok (.getfield 43, 3) := dk_180 0 43 (dk_at dksX0_put_3 0 rfl rfl)
theorem dX0_put_73 : decode cX0_put 73 = .ok (.invokevirtual 166, 3) := dk_182 0 166 (dk_at dksX0_put_3 3 rfl rfl)
theorem dX0_put_76 : decode cX0_put 76 = .ok (.iload_n 3, 1) := dk_29 (dk_at dksX0_put_3 6 rfl rfl)
theorem dX0_put_77 : decode cX0_put 77 = .ok (.iadd, 1) := dk_96 (dk_at dksX0_put_3 7 rfl rfl)
theorem dX0_put_78 : decode cX0_put 78 = .ok (.bipush 80, 2) := dk_16 80 (dk_at dksX0_put_3 8 rfl rfl)
theorem dX0_put_80 : decode cX0_put 80 = .ok (.if_icmp .le 6, 3) := dk_164 0 6 (dk_at dksX0_put_3 10 rfl rfl)
theorem dX0_put_83 : decode cX0_put 83 = .ok (.bipush (-4), 2) := dk_16 252 (dk_at dksX0_put_3 13 rfl rfl)
theorem dX0_put_85 : decode cX0_put 85 = .ok (.ireturn, 1) := dk_172 (dk_at dksX0_put_3 15 rfl rfl)
theorem dX0_put_86 : decode cX0_put 86 = .ok (.iload_n 3, 1) := dk_29 (dk_at dksX0_put_3 16 rfl rfl)
theorem dX0_put_87 : decode cX0_put 87 = .ok (.iconst 1, 1) := dk_4 (dk_at dksX0_put_3 17 rfl rfl)
theorem dX0_put_88 : decode cX0_put 88 = .ok (.isub, 1) := dk_100 (dk_at dksX0_put_3 18 rfl rfl)
theorem dX0_put_89 : decode cX0_put 89 = .ok (.istore 6, 2) := dk_54 6 (dk_at dksX0_put_3 19 rfl rfl)
theorem dX0_put_91 : decode cX0_put 91 = .ok (.iload 6, 2) := dk_21 6 (dk_at dksX0_put_3 21 rfl rfl)
theorem dX0_put_93 : decode cX0_put 93 = .ok (.ifCond .lt 30, 3) := dk_155 0 30 (dk_at dksX0_put_4 0 rfl rfl)
theorem dX0_put_96 : decode cX0_put 96 = .ok (.aload_n 0, 1) := dk_42 (dk_at dksX0_put_4 3 rfl rfl)
theorem dX0_put_97 : decode cX0_put 97 = .ok (.getfield 43, 3) := dk_180 0 43 (dk_at dksX0_put_4 4 rfl rfl)
theorem dX0_put_100 : decode cX0_put 100 = .ok (.lload_n 1, 1) := dk_31 (dk_at dksX0_put_4 7 rfl rfl)
theorem dX0_put_101 : decode cX0_put 101 = .ok (.bipush 8, 2) := dk_16 8 (dk_at dksX0_put_4 8 rfl rfl)
theorem dX0_put_103 : decode cX0_put 103 = .ok (.iload 6, 2) := dk_21 6 (dk_at dksX0_put_4 10 rfl rfl)
theorem dX0_put_105 : decode cX0_put 105 = .ok (.imul, 1) := dk_104 (dk_at dksX0_put_4 12 rfl rfl)
theorem dX0_put_106 : decode cX0_put 106 = .ok (.lshr, 1) := dk_123 (dk_at dksX0_put_4 13 rfl rfl)
theorem dX0_put_107 : decode cX0_put 107 = .ok (.ldc2_w 216, 3) := dk_20 0 216 (dk_at dksX0_put_4 14 rfl rfl)
theorem dX0_put_110 : decode cX0_put 110 = .ok (.land, 1) := dk_127 (dk_at dksX0_put_4 17 rfl rfl)
theorem dX0_put_111 : decode cX0_put 111 = .ok (.l2i, 1) := dk_136 (dk_at dksX0_put_4 18 rfl rfl)
theorem dX0_put_112 : decode cX0_put 112 = .ok (.i2c, 1) := dk_146 (dk_at dksX0_put_4 19 rfl rfl)
theorem dX0_put_113 : decode cX0_put 113 = .ok (.invokevirtual 218, 3) := dk_182 0 218 (dk_at dksX0_put_4 20 rfl rfl)
theorem dX0_put_116 : decode cX0_put 116 = .ok (.pop, 1) := dk_87 (dk_at dksX0_put_4 23 rfl rfl)
theorem dX0_put_117 : decode cX0_put 117 = .ok (.iinc 6 (-1), 3) := dk_132 6 255 (dk_at dksX0_put_5 0 rfl rfl)
theorem dX0_put_120 : decode cX0_put 120 = .ok (.goto (-29), 3) := dk_167 255 227 (dk_at dksX0_put_5 3 rfl rfl)
theorem dX0_put_123 : decode cX0_put 123 = .ok (.aload_n 0, 1) := dk_42 (dk_at dksX0_put_5 6 rfl rfl)
theorem dX0_put_124 : decode cX0_put 124 = .ok (.getfield 43, 3) := dk_180 0 43 (dk_at dksX0_put_5 7 rfl rfl)
theorem dX0_put_127 : decode cX0_put 127 = .ok (.invokevirtual 166, 3) := dk_182 0 166 (dk_at dksX0_put_5 10 rfl rfl)
theorem dX0_put_130 : decode cX0_put 130 = .ok (.ireturn, 1) := dk_172 (dk_at dksX0_put_5 13 rfl rfl)
abbrev cX0_wipe : ByteArray := prog_1_method_40_code
def yX0_wipe : MethodName := ⟨RX0, "wipe", "()I"⟩
def dkwX0_wipe_0 : List UInt8 := [42, 180, 0, 43, 182, 0, 166, 60, 42, 180, 0, 43, 3, 182, 0, 222, 27, 172]
abbrev dktX0_wipe_0 : List UInt8 := dkwX0_wipe_0 ++ []
theorem dksX0_wipe_0 : cX0_wipe.data.toList.drop 0 = dktX0_wipe_0 := by decide +kernel
theorem dX0_wipe_0 : decode cX0_wipe 0 = .ok (.aload_n 0, 1) := dk_42 (dk_at dksX0_wipe_0 0 rfl rfl)
theorem dX0_wipe_1 : decode cX0_wipe 1 = .ok (.getfield 43, 3) := dk_180 0 43 (dk_at dksX0_wipe_0 1 rfl rfl)
theorem dX0_wipe_4 : decode cX0_wipe 4 = .ok (.invokevirtual 166, 3) := dk_182 0 166 (dk_at dksX0_wipe_0 4 rfl rfl)
theorem dX0_wipe_7 : decode cX0_wipe 7 = .ok (.istore_n 1, 1) := dk_60 (dk_at dksX0_wipe_0 7 rfl rfl)
theorem dX0_wipe_8 : decode cX0_wipe 8 = .ok (.aload_n 0, 1) := dk_42 (dk_at dksX0_wipe_0 8 rfl rfl)
theorem dX0_wipe_9 : decode cX0_wipe 9 = .ok (.getfield 43, 3) := dk_180 0 43 (dk_at dksX0_wipe_0 9 rfl rfl)
theorem dX0_wipe_12 : decode cX0_wipe 12 = .ok (.iconst 0, 1) := dk_3 (dk_at dksX0_wipe_0 12 rfl rfl)
theorem dX0_wipe_13 : decode cX0_wipe 13 = .ok (.invokevirtual 222, 3) := dk_182 0 222 (dk_at dksX0_wipe_0 13 rfl rfl)
theorem dX0_wipe_16 : decode cX0_wipe 16 = .ok (.iload_n 1, 1) := dk_27 (dk_at dksX0_wipe_0 16 rfl rfl)
theorem dX0_wipe_17 : decode cX0_wipe 17 = .ok (.ireturn, 1) := dk_172 (dk_at dksX0_wipe_0 17 rfl rfl)
abbrev cX0_fault : ByteArray := prog_1_method_41_code
def yX0_fault : MethodName := ⟨RX0, "fault", "()I"⟩
def dkwX0_fault_1 : List UInt8 := [16, 250, 172]
abbrev dktX0_fault_1 : List UInt8 := dkwX0_fault_1 ++ []
def dkwX0_fault_0 : List UInt8 := [187, 0, 225, 89, 42, 183, 0, 227, 76, 43, 180, 0, 230, 153, 0, 10, 43, 180, 0, 234, 167, 0, 5]
abbrev dktX0_fault_0 : List UInt8 := dkwX0_fault_0 ++ dktX0_fault_1
theorem dksX0_fault_0 : cX0_fault.data.toList.drop 0 = dktX0_fault_0 := by decide +kernel
theorem dksX0_fault_1 : cX0_fault.data.toList.drop 23 = dktX0_fault_1 := dk_seg dksX0_fault_0 23 rfl rfl
theorem dX0_fault_0 : decode cX0_fault 0 = .ok (.new 225, 3) := dk_187 0 225 (dk_at dksX0_fault_0 0 rfl rfl)
theorem dX0_fault_3 : decode cX0_fault 3 = .ok (.dup, 1) := dk_89 (dk_at dksX0_fault_0 3 rfl rfl)
theorem dX0_fault_4 : decode cX0_fault 4 = .ok (.aload_n 0, 1) := dk_42 (dk_at dksX0_fault_0 4 rfl rfl)
theorem dX0_fault_5 : decode cX0_fault 5 = .ok (.invokespecial 227, 3) := dk_183 0 227 (dk_at dksX0_fault_0 5 rfl rfl)
theorem dX0_fault_8 : decode cX0_fault 8 = .ok (.astore_n 1, 1) := dk_76 (dk_at dksX0_fault_0 8 rfl rfl)
theorem dX0_fault_9 : decode cX0_fault 9 = .ok (.aload_n 1, 1) := dk_43 (dk_at dksX0_fault_0 9 rfl rfl)
theorem dX0_fault_10 : decode cX0_fault 10 = .ok (.getfield 230, 3) := dk_180 0 230 (dk_at dksX0_fault_0 10 rfl rfl)
theorem dX0_fault_13 : decode cX0_fault 13 = .ok (.ifCond .eq 10, 3) := dk_153 0 10 (dk_at dksX0_fault_0 13 rfl rfl)
theorem dX0_fault_16 : decode cX0_fault 16 = .ok (.aload_n 1, 1) := dk_43 (dk_at dksX0_fault_0 16 rfl rfl)
theorem dX0_fault_17 : decode cX0_fault 17 = .ok (.getfield 234, 3) := dk_180 0 234 (dk_at dksX0_fault_0 17 rfl rfl)
theorem dX0_fault_20 : decode cX0_fault 20 = .ok (.goto 5, 3) := dk_167 0 5 (dk_at dksX0_fault_0 20 rfl rfl)
theorem dX0_fault_23 : decode cX0_fault 23 = .ok (.bipush (-6), 2) := dk_16 250 (dk_at dksX0_fault_1 0 rfl rfl)
theorem dX0_fault_25 : decode cX0_fault 25 = .ok (.ireturn, 1) := dk_172 (dk_at dksX0_fault_1 2 rfl rfl)
abbrev cX0_carryOut : ByteArray := prog_1_method_43_code
def yX0_carryOut : MethodName := ⟨RX0, "carryOut", "()I"⟩
def dkwX0_carryOut_3 : List UInt8 := [28, 172]
abbrev dktX0_carryOut_3 : List UInt8 := dkwX0_carryOut_3 ++ []
def dkwX0_carryOut_2 : List UInt8 := [180, 0, 237, 28, 185, 0, 240, 2, 0, 192, 0, 242, 182, 0, 243, 155, 0, 9, 132, 2, 1, 167, 255, 220]
abbrev dktX0_carryOut_2 : List UInt8 := dkwX0_carryOut_2 ++ dktX0_carryOut_3
def dkwX0_carryOut_1 : List UInt8 := [180, 0, 43, 3, 182, 0, 222, 3, 61, 28, 43, 180, 0, 237, 185, 0, 47, 1, 0, 162, 0, 29, 42, 43]
abbrev dktX0_carryOut_1 : List UInt8 := dkwX0_carryOut_1 ++ dktX0_carryOut_2
def dkwX0_carryOut_0 : List UInt8 := [187, 0, 225, 89, 42, 183, 0, 227, 76, 43, 180, 0, 230, 153, 0, 6, 16, 253, 172, 42, 182, 0, 119, 42]
abbrev dktX0_carryOut_0 : List UInt8 := dkwX0_carryOut_0 ++ dktX0_carryOut_1
theorem dksX0_carryOut_0 : cX0_carryOut.data.toList.drop 0 = dktX0_carryOut_0 := by decide +kernel
theorem dksX0_carryOut_1 : cX0_carryOut.data.toList.drop 24 = dktX0_carryOut_1 := dk_seg dksX0_carryOut_0 24 rfl rfl
theorem dksX0_carryOut_2 : cX0_carryOut.data.toList.drop 48 = dktX0_carryOut_2 := dk_seg dksX0_carryOut_1 24 rfl rfl
theorem dksX0_carryOut_3 : cX0_carryOut.data.toList.drop 72 = dktX0_carryOut_3 := dk_seg dksX0_carryOut_2 24 rfl rfl
theorem dX0_carryOut_0 : decode cX0_carryOut 0 = .ok (.new 225, 3) := dk_187 0 225 (dk_at dksX0_carryOut_0 0 rfl rfl)
theorem dX0_carryOut_3 : decode cX0_carryOut 3 = .ok (.dup, 1) := dk_89 (dk_at dksX0_carryOut_0 3 rfl rfl)
theorem dX0_carryOut_4 : decode cX0_carryOut 4 = .ok (.aload_n 0, 1) := dk_42 (dk_at dksX0_carryOut_0 4 rfl rfl)
theorem dX0_carryOut_5 : decode cX0_carryOut 5 = .ok (.invokespecial 227, 3) := dk_183 0 227 (dk_at dksX0_carryOut_0 5 rfl rfl)
theorem dX0_carryOut_8 : decode cX0_carryOut 8 = .ok (.astore_n 1, 1) := dk_76 (dk_at dksX0_carryOut_0 8 rfl rfl)
theorem dX0_carryOut_9 : decode cX0_carryOut 9 = .ok (.aload_n 1, 1) := dk_43 (dk_at dksX0_carryOut_0 9 rfl rfl)
theorem dX0_carryOut_10 : decode cX0_carryOut 10 = .ok (.getfield 230, 3) := dk_180 0 230 (dk_at dksX0_carryOut_0 10 rfl rfl)
theorem dX0_carryOut_13 : decode cX0_carryOut 13 = .ok (.ifCond .eq 6, 3) := dk_153 0 6 (dk_at dksX0_carryOut_0 13 rfl rfl)
theorem dX0_carryOut_16 : decode cX0_carryOut 16 = .ok (.bipush (-3), 2) := dk_16 253 (dk_at dksX0_carryOut_0 16 rfl rfl)
theorem dX0_carryOut_18 : decode cX0_carryOut 18 = .ok (.ireturn, 1) := dk_172 (dk_at dksX0_carryOut_0 18 rfl rfl)
theorem dX0_carryOut_19 : decode cX0_carryOut 19 = .ok (.aload_n 0, 1) := dk_42 (dk_at dksX0_carryOut_0 19 rfl rfl)
theorem dX0_carryOut_20 : decode cX0_carryOut 20 = .ok (.invokevirtual 119, 3) := dk_182 0 119 (dk_at dksX0_carryOut_0 20 rfl rfl)
theorem dX0_carryOut_23 : decode cX0_carryOut 23 = .ok (.aload_n 0, 1) := dk_42 (dk_at dksX0_carryOut_0 23 rfl rfl)
theorem dX0_carryOut_24 : decode cX0_carryOut 24 = .ok (.getfield 43, 3) := dk_180 0 43 (dk_at dksX0_carryOut_1 0 rfl rfl)
theorem dX0_carryOut_27 : decode cX0_carryOut 27 = .ok (.iconst 0, 1) := dk_3 (dk_at dksX0_carryOut_1 3 rfl rfl)
theorem dX0_carryOut_28 : decode cX0_carryOut 28 = .ok (.invokevirtual 222, 3) := dk_182 0 222 (dk_at dksX0_carryOut_1 4 rfl rfl)
theorem dX0_carryOut_31 : decode cX0_carryOut 31 = .ok (.iconst 0, 1) := dk_3 (dk_at dksX0_carryOut_1 7 rfl rfl)
theorem dX0_carryOut_32 : decode cX0_carryOut 32 = .ok (.istore_n 2, 1) := dk_61 (dk_at dksX0_carryOut_1 8 rfl rfl)
theorem dX0_carryOut_33 : decode cX0_carryOut 33 = .ok (.iload_n 2, 1) := dk_28 (dk_at dksX0_carryOut_1 9 rfl rfl)
theorem dX0_carryOut_34 : decode cX0_carryOut 34 = .ok (.aload_n 1, 1) := dk_43 (dk_at dksX0_carryOut_1 10 rfl rfl)
theorem dX0_carryOut_35 : decode cX0_carryOut 35 = .ok (.getfield 237, 3) := dk_180 0 237 (dk_at dksX0_carryOut_1 11 rfl rfl)
theorem dX0_carryOut_38 : decode cX0_carryOut 38 = .ok (.invokeinterface 47 1, 5) := by decide +kernel
theorem dX0_carryOut_43 : decode cX0_carryOut 43 = .ok (.if_icmp .ge 29, 3) := dk_162 0 29 (dk_at dksX0_carryOut_1 19 rfl rfl)
theorem dX0_carryOut_46 : decode cX0_carryOut 46 = .ok (.aload_n 0, 1) := dk_42 (dk_at dksX0_carryOut_1 22 rfl rfl)
theorem dX0_carryOut_47 : decode cX0_carryOut 47 = .ok (.aload_n 1, 1) := dk_43 (dk_at dksX0_carryOut_1 23 rfl rfl)
theorem dX0_carryOut_48 : decode cX0_carryOut 48 = .ok (.getfield 237, 3) := dk_180 0 237 (dk_at dksX0_carryOut_2 0 rfl rfl)
theorem dX0_carryOut_51 : decode cX0_carryOut 51 = .ok (.iload_n 2, 1) := dk_28 (dk_at dksX0_carryOut_2 3 rfl rfl)
theorem dX0_carryOut_52 : decode cX0_carryOut 52 = .ok (.invokeinterface 240 2, 5) := by decide +kernel
theorem dX0_carryOut_57 : decode cX0_carryOut 57 = .ok (.checkcast 242, 3) := dk_192 0 242 (dk_at dksX0_carryOut_2 9 rfl rfl)
theorem dX0_carryOut_60 : decode cX0_carryOut 60 = .ok (.invokevirtual 243, 3) := dk_182 0 243 (dk_at dksX0_carryOut_2 12 rfl rfl)
theorem dX0_carryOut_63 : decode cX0_carryOut 63 = .ok (.ifCond .lt 9, 3) := dk_155 0 9 (dk_at dksX0_carryOut_2 15 rfl rfl)
theorem dX0_carryOut_66 : decode cX0_carryOut 66 = .ok (.iinc 2 1, 3) := dk_132 2 1 (dk_at dksX0_carryOut_2 18 rfl rfl)
theorem dX0_carryOut_69 : decode cX0_carryOut 69 = .ok (.goto (-36), 3) := dk_167 255 220 (dk_at dksX0_carryOut_2 21 rfl rfl)
theorem dX0_carryOut_72 : decode cX0_carryOut 72 = .ok (.iload_n 2, 1) := dk_28 (dk_at dksX0_carryOut_3 0 rfl rfl)
theorem dX0_carryOut_73 : decode cX0_carryOut 73 = .ok (.ireturn, 1) := dk_172 (dk_at dksX0_carryOut_3 1 rfl rfl)
abbrev cX0_doIt : ByteArray := prog_1_method_42_code
def yX0_doIt : MethodName := ⟨RX0, "doIt", "([I)I"⟩
def dkwX0_doIt_3 : List UInt8 := [46, 3, 182, 0, 160, 172, 42, 3, 182, 0, 153, 172]
abbrev dktX0_doIt_3 : List UInt8 := dkwX0_doIt_3 ++ []
def dkwX0_doIt_2 : List UInt8 := [42, 43, 4, 46, 3, 182, 0, 146, 172, 42, 43, 4, 46, 43, 5, 46, 3, 182, 0, 149, 172, 42, 43, 4]
abbrev dktX0_doIt_2 : List UInt8 := dkwX0_doIt_2 ++ dktX0_doIt_3
def dkwX0_doIt_1 : List UInt8 := [171, 0, 0, 0, 63, 0, 0, 0, 3, 0, 0, 0, 109, 0, 0, 0, 54, 0, 0, 0, 112, 0, 0, 0, 33, 0, 0, 0, 115, 0, 0, 0, 42]
abbrev dktX0_doIt_1 : List UInt8 := dkwX0_doIt_1 ++ dktX0_doIt_2
def dkwX0_doIt_0 : List UInt8 := [43, 3, 46]
abbrev dktX0_doIt_0 : List UInt8 := dkwX0_doIt_0 ++ dktX0_doIt_1
theorem dksX0_doIt_0 : cX0_doIt.data.toList.drop 0 = dktX0_doIt_0 := by decide +kernel
theorem dksX0_doIt_1 : cX0_doIt.data.toList.drop 3 = dktX0_doIt_1 := dk_seg dksX0_doIt_0 3 rfl rfl
theorem dksX0_doIt_2 : cX0_doIt.data.toList.drop 36 = dktX0_doIt_2 := dk_seg dksX0_doIt_1 33 rfl rfl
theorem dksX0_doIt_3 : cX0_doIt.data.toList.drop 60 = dktX0_doIt_3 := dk_seg dksX0_doIt_2 24 rfl rfl
theorem dX0_doIt_0 : decode cX0_doIt 0 = .ok (.aload_n 1, 1) := dk_43 (dk_at dksX0_doIt_0 0 rfl rfl)
theorem dX0_doIt_1 : decode cX0_doIt 1 = .ok (.iconst 0, 1) := dk_3 (dk_at dksX0_doIt_0 1 rfl rfl)
theorem dX0_doIt_2 : decode cX0_doIt 2 = .ok (.iaload, 1) := dk_46 (dk_at dksX0_doIt_0 2 rfl rfl)
theorem dX0_doIt_3 : decode cX0_doIt 3 = .ok (.lookupswitch 63 #[(109, 54), (112, 33), (115, 42)], 33) := by decide +kernel
theorem dX0_doIt_36 : decode cX0_doIt 36 = .ok (.aload_n 0, 1) := dk_42 (dk_at dksX0_doIt_2 0 rfl rfl)
theorem dX0_doIt_37 : decode cX0_doIt 37 = .ok (.aload_n 1, 1) := dk_43 (dk_at dksX0_doIt_2 1 rfl rfl)
theorem dX0_doIt_38 : decode cX0_doIt 38 = .ok (.iconst 1, 1) := dk_4 (dk_at dksX0_doIt_2 2 rfl rfl)
theorem dX0_doIt_39 : decode cX0_doIt 39 = .ok (.iaload, 1) := dk_46 (dk_at dksX0_doIt_2 3 rfl rfl)
theorem dX0_doIt_40 : decode cX0_doIt 40 = .ok (.iconst 0, 1) := dk_3 (dk_at dksX0_doIt_2 4 rfl rfl)
theorem dX0_doIt_41 : decode cX0_doIt 41 = .ok (.invokevirtual 146, 3) := dk_182 0 146 (dk_at dksX0_doIt_2 5 rfl rfl)
theorem dX0_doIt_44 : decode cX0_doIt 44 = .ok (.ireturn, 1) := dk_172 (dk_at dksX0_doIt_2 8 rfl rfl)
theorem dX0_doIt_45 : decode cX0_doIt 45 = .ok (.aload_n 0, 1) := dk_42 (dk_at dksX0_doIt_2 9 rfl rfl)
theorem dX0_doIt_46 : decode cX0_doIt 46 = .ok (.aload_n 1, 1) := dk_43 (dk_at dksX0_doIt_2 10 rfl rfl)
theorem dX0_doIt_47 : decode cX0_doIt 47 = .ok (.iconst 1, 1) := dk_4 (dk_at dksX0_doIt_2 11 rfl rfl)
theorem dX0_doIt_48 : decode cX0_doIt 48 = .ok (.iaload, 1) := dk_46 (dk_at dksX0_doIt_2 12 rfl rfl)
theorem dX0_doIt_49 : decode cX0_doIt 49 = .ok (.aload_n 1, 1) := dk_43 (dk_at dksX0_doIt_2 13 rfl rfl)
theorem dX0_doIt_50 : decode cX0_doIt 50 = .ok (.iconst 2, 1) := dk_5 (dk_at dksX0_doIt_2 14 rfl rfl)
theorem dX0_doIt_51 : decode cX0_doIt 51 = .ok (.iaload, 1) := dk_46 (dk_at dksX0_doIt_2 15 rfl rfl)
theorem dX0_doIt_52 : decode cX0_doIt 52 = .ok (.iconst 0, 1) := dk_3 (dk_at dksX0_doIt_2 16 rfl rfl)
theorem dX0_doIt_53 : decode cX0_doIt 53 = .ok (.invokevirtual 149, 3) := dk_182 0 149 (dk_at dksX0_doIt_2 17 rfl rfl)
theorem dX0_doIt_56 : decode cX0_doIt 56 = .ok (.ireturn, 1) := dk_172 (dk_at dksX0_doIt_2 20 rfl rfl)
theorem dX0_doIt_57 : decode cX0_doIt 57 = .ok (.aload_n 0, 1) := dk_42 (dk_at dksX0_doIt_2 21 rfl rfl)
theorem dX0_doIt_58 : decode cX0_doIt 58 = .ok (.aload_n 1, 1) := dk_43 (dk_at dksX0_doIt_2 22 rfl rfl)
theorem dX0_doIt_59 : decode cX0_doIt 59 = .ok (.iconst 1, 1) := dk_4 (dk_at dksX0_doIt_2 23 rfl rfl)
theorem dX0_doIt_60 : decode cX0_doIt 60 = .ok (.iaload, 1) := dk_46 (dk_at dksX0_doIt_3 0 rfl rfl)
theorem dX0_doIt_61 : decode cX0_doIt 61 = .ok (.iconst 0, 1) := dk_3 (dk_at dksX0_doIt_3 1 rfl rfl)
theorem dX0_doIt_62 : decode cX0_doIt 62 = .ok (.invokevirtual 160, 3) := dk_182 0 160 (dk_at dksX0_doIt_3 2 rfl rfl)
theorem dX0_doIt_65 : decode cX0_doIt 65 = .ok (.ireturn, 1) := dk_172 (dk_at dksX0_doIt_3 5 rfl rfl)
theorem dX0_doIt_66 : decode cX0_doIt 66 = .ok (.aload_n 0, 1) := dk_42 (dk_at dksX0_doIt_3 6 rfl rfl)
theorem dX0_doIt_67 : decode cX0_doIt 67 = .ok (.iconst 0, 1) := dk_3 (dk_at dksX0_doIt_3 7 rfl rfl)
theorem dX0_doIt_68 : decode cX0_doIt 68 = .ok (.invokevirtual 153, 3) := dk_182 0 153 (dk_at dksX0_doIt_3 8 rfl rfl)
theorem dX0_doIt_71 : decode cX0_doIt 71 = .ok (.ireturn, 1) := dk_172 (dk_at dksX0_doIt_3 11 rfl rfl)
abbrev cX0_undo : ByteArray := prog_1_method_44_code
def yX0_undo : MethodName := ⟨RX0, "undo", "()I"⟩
def dkwX0_undo_2 : List UInt8 := [185, 0, 47, 1, 0, 172]
abbrev dktX0_undo_2 : List UInt8 := dkwX0_undo_2 ++ []
def dkwX0_undo_1 : List UInt8 := [185, 0, 47, 1, 0, 4, 100, 185, 0, 53, 2, 0, 192, 0, 22, 181, 0, 25, 42, 180, 0, 32]
abbrev dktX0_undo_1 : List UInt8 := dkwX0_undo_1 ++ dktX0_undo_2
def dkwX0_undo_0 : List UInt8 := [42, 180, 0, 32, 185, 0, 247, 1, 0, 153, 0, 6, 16, 251, 172, 42, 42, 180, 0, 32, 42, 180, 0, 32]
abbrev dktX0_undo_0 : List UInt8 := dkwX0_undo_0 ++ dktX0_undo_1
theorem dksX0_undo_0 : cX0_undo.data.toList.drop 0 = dktX0_undo_0 := by decide +kernel
theorem dksX0_undo_1 : cX0_undo.data.toList.drop 24 = dktX0_undo_1 := dk_seg dksX0_undo_0 24 rfl rfl
theorem dksX0_undo_2 : cX0_undo.data.toList.drop 46 = dktX0_undo_2 := dk_seg dksX0_undo_1 22 rfl rfl
theorem dX0_undo_0 : decode cX0_undo 0 = .ok (.aload_n 0, 1) := dk_42 (dk_at dksX0_undo_0 0 rfl rfl)
theorem dX0_undo_1 : decode cX0_undo 1 = .ok (.getfield 32, 3) := dk_180 0 32 (dk_at dksX0_undo_0 1 rfl rfl)
theorem dX0_undo_4 : decode cX0_undo 4 = .ok (.invokeinterface 247 1, 5) := by decide +kernel
theorem dX0_undo_9 : decode cX0_undo 9 = .ok (.ifCond .eq 6, 3) := dk_153 0 6 (dk_at dksX0_undo_0 9 rfl rfl)
theorem dX0_undo_12 : decode cX0_undo 12 = .ok (.bipush (-5), 2) := dk_16 251 (dk_at dksX0_undo_0 12 rfl rfl)
theorem dX0_undo_14 : decode cX0_undo 14 = .ok (.ireturn, 1) := dk_172 (dk_at dksX0_undo_0 14 rfl rfl)
theorem dX0_undo_15 : decode cX0_undo 15 = .ok (.aload_n 0, 1) := dk_42 (dk_at dksX0_undo_0 15 rfl rfl)
theorem dX0_undo_16 : decode cX0_undo 16 = .ok (.aload_n 0, 1) := dk_42 (dk_at dksX0_undo_0 16 rfl rfl)
theorem dX0_undo_17 : decode cX0_undo 17 = .ok (.getfield 32, 3) := dk_180 0 32 (dk_at dksX0_undo_0 17 rfl rfl)
theorem dX0_undo_20 : decode cX0_undo 20 = .ok (.aload_n 0, 1) := dk_42 (dk_at dksX0_undo_0 20 rfl rfl)
theorem dX0_undo_21 : decode cX0_undo 21 = .ok (.getfield 32, 3) := dk_180 0 32 (dk_at dksX0_undo_0 21 rfl rfl)
theorem dX0_undo_24 : decode cX0_undo 24 = .ok (.invokeinterface 47 1, 5) := by decide +kernel
theorem dX0_undo_29 : decode cX0_undo 29 = .ok (.iconst 1, 1) := dk_4 (dk_at dksX0_undo_1 5 rfl rfl)
theorem dX0_undo_30 : decode cX0_undo 30 = .ok (.isub, 1) := dk_100 (dk_at dksX0_undo_1 6 rfl rfl)
theorem dX0_undo_31 : decode cX0_undo 31 = .ok (.invokeinterface 53 2, 5) := by decide +kernel
theorem dX0_undo_36 : decode cX0_undo 36 = .ok (.checkcast 22, 3) := dk_192 0 22 (dk_at dksX0_undo_1 12 rfl rfl)
theorem dX0_undo_39 : decode cX0_undo 39 = .ok (.putfield 25, 3) := dk_181 0 25 (dk_at dksX0_undo_1 15 rfl rfl)
theorem dX0_undo_42 : decode cX0_undo 42 = .ok (.aload_n 0, 1) := dk_42 (dk_at dksX0_undo_1 18 rfl rfl)
theorem dX0_undo_43 : decode cX0_undo 43 = .ok (.getfield 32, 3) := dk_180 0 32 (dk_at dksX0_undo_1 19 rfl rfl)
theorem dX0_undo_46 : decode cX0_undo 46 = .ok (.invokeinterface 47 1, 5) := by decide +kernel
theorem dX0_undo_51 : decode cX0_undo 51 = .ok (.ireturn, 1) := dk_172 (dk_at dksX0_undo_2 5 rfl rfl)
abbrev cX0_save : ByteArray := prog_1_method_45_code
def yX0_save : MethodName := ⟨RX0, "save", "(I)I"⟩
def dkwX0_save_1 : List UInt8 := [83, 42, 180, 0, 25, 180, 0, 129, 172]
abbrev dktX0_save_1 : List UInt8 := dkwX0_save_1 ++ []
def dkwX0_save_0 : List UInt8 := [27, 3, 4, 184, 0, 3, 154, 0, 6, 16, 254, 172, 42, 180, 0, 36, 27, 42, 180, 0, 25, 182, 0, 57]
abbrev dktX0_save_0 : List UInt8 := dkwX0_save_0 ++ dktX0_save_1
theorem dksX0_save_0 : cX0_save.data.toList.drop 0 = dktX0_save_0 := by decide +kernel
theorem dksX0_save_1 : cX0_save.data.toList.drop 24 = dktX0_save_1 := dk_seg dksX0_save_0 24 rfl rfl
theorem dX0_save_0 : decode cX0_save 0 = .ok (.iload_n 1, 1) := dk_27 (dk_at dksX0_save_0 0 rfl rfl)
theorem dX0_save_1 : decode cX0_save 1 = .ok (.iconst 0, 1) := dk_3 (dk_at dksX0_save_0 1 rfl rfl)
theorem dX0_save_2 : decode cX0_save 2 = .ok (.iconst 1, 1) := dk_4 (dk_at dksX0_save_0 2 rfl rfl)
theorem dX0_save_3 : decode cX0_save 3 = .ok (.invokestatic 3, 3) := dk_184 0 3 (dk_at dksX0_save_0 3 rfl rfl)
theorem dX0_save_6 : decode cX0_save 6 = .ok (.ifCond .ne 6, 3) := dk_154 0 6 (dk_at dksX0_save_0 6 rfl rfl)
theorem dX0_save_9 : decode cX0_save 9 = .ok (.bipush (-2), 2) := dk_16 254 (dk_at dksX0_save_0 9 rfl rfl)
theorem dX0_save_11 : decode cX0_save 11 = .ok (.ireturn, 1) := dk_172 (dk_at dksX0_save_0 11 rfl rfl)
theorem dX0_save_12 : decode cX0_save 12 = .ok (.aload_n 0, 1) := dk_42 (dk_at dksX0_save_0 12 rfl rfl)
theorem dX0_save_13 : decode cX0_save 13 = .ok (.getfield 36, 3) := dk_180 0 36 (dk_at dksX0_save_0 13 rfl rfl)
theorem dX0_save_16 : decode cX0_save 16 = .ok (.iload_n 1, 1) := dk_27 (dk_at dksX0_save_0 16 rfl rfl)
theorem dX0_save_17 : decode cX0_save 17 = .ok (.aload_n 0, 1) := dk_42 (dk_at dksX0_save_0 17 rfl rfl)
theorem dX0_save_18 : decode cX0_save 18 = .ok (.getfield 25, 3) := dk_180 0 25 (dk_at dksX0_save_0 18 rfl rfl)
theorem dX0_save_21 : decode cX0_save 21 = .ok (.invokevirtual 57, 3) := dk_182 0 57 (dk_at dksX0_save_0 21 rfl rfl)
theorem dX0_save_24 : decode cX0_save 24 = .ok (.aastore, 1) := dk_83 (dk_at dksX0_save_1 0 rfl rfl)
theorem dX0_save_25 : decode cX0_save 25 = .ok (.aload_n 0, 1) := dk_42 (dk_at dksX0_save_1 1 rfl rfl)
theorem dX0_save_26 : decode cX0_save 26 = .ok (.getfield 25, 3) := dk_180 0 25 (dk_at dksX0_save_1 2 rfl rfl)
theorem dX0_save_29 : decode cX0_save 29 = .ok (.getfield 129, 3) := dk_180 0 129 (dk_at dksX0_save_1 5 rfl rfl)
theorem dX0_save_32 : decode cX0_save 32 = .ok (.ireturn, 1) := dk_172 (dk_at dksX0_save_1 8 rfl rfl)
abbrev cX0_restore : ByteArray := prog_1_method_46_code
def yX0_restore : MethodName := ⟨RX0, "restore", "(I)I"⟩
def dkwX0_restore_2 : List UInt8 := [172]
abbrev dktX0_restore_2 : List UInt8 := dkwX0_restore_2 ++ []
def dkwX0_restore_1 : List UInt8 := [42, 182, 0, 119, 42, 42, 180, 0, 36, 27, 50, 182, 0, 57, 181, 0, 25, 42, 180, 0, 25, 180, 0, 129]
abbrev dktX0_restore_1 : List UInt8 := dkwX0_restore_1 ++ dktX0_restore_2
def dkwX0_restore_0 : List UInt8 := [27, 3, 4, 184, 0, 3, 154, 0, 6, 16, 254, 172, 42, 180, 0, 36, 27, 50, 199, 0, 6, 16, 251, 172]
abbrev dktX0_restore_0 : List UInt8 := dkwX0_restore_0 ++ dktX0_restore_1
theorem dksX0_restore_0 : cX0_restore.data.toList.drop 0 = dktX0_restore_0 := by decide +kernel
theorem dksX0_restore_1 : cX0_restore.data.toList.drop 24 = dktX0_restore_1 := dk_seg dksX0_restore_0 24 rfl rfl
theorem dksX0_restore_2 : cX0_restore.data.toList.drop 48 = dktX0_restore_2 := dk_seg dksX0_restore_1 24 rfl rfl
theorem dX0_restore_0 : decode cX0_restore 0 = .ok (.iload_n 1, 1) := dk_27 (dk_at dksX0_restore_0 0 rfl rfl)
theorem dX0_restore_1 : decode cX0_restore 1 = .ok (.iconst 0, 1) := dk_3 (dk_at dksX0_restore_0 1 rfl rfl)
theorem dX0_restore_2 : decode cX0_restore 2 = .ok (.iconst 1, 1) := dk_4 (dk_at dksX0_restore_0 2 rfl rfl)
theorem dX0_restore_3 : decode cX0_restore 3 = .ok (.invokestatic 3, 3) := dk_184 0 3 (dk_at dksX0_restore_0 3 rfl rfl)
theorem dX0_restore_6 : decode cX0_restore 6 = .ok (.ifCond .ne 6, 3) := dk_154 0 6 (dk_at dksX0_restore_0 6 rfl rfl)
theorem dX0_restore_9 : decode cX0_restore 9 = .ok (.bipush (-2), 2) := dk_16 254 (dk_at dksX0_restore_0 9 rfl rfl)
theorem dX0_restore_11 : decode cX0_restore 11 = .ok (.ireturn, 1) := dk_172 (dk_at dksX0_restore_0 11 rfl rfl)
theorem dX0_restore_12 : decode cX0_restore 12 = .ok (.aload_n 0, 1) := dk_42 (dk_at dksX0_restore_0 12 rfl rfl)
theorem dX0_restore_13 : decode cX0_restore 13 = .ok (.getfield 36, 3) := dk_180 0 36 (dk_at dksX0_restore_0 13 rfl rfl)
theorem dX0_restore_16 : decode cX0_restore 16 = .ok (.iload_n 1, 1) := dk_27 (dk_at dksX0_restore_0 16 rfl rfl)
theorem dX0_restore_17 : decode cX0_restore 17 = .ok (.aaload, 1) := dk_50 (dk_at dksX0_restore_0 17 rfl rfl)
theorem dX0_restore_18 : decode cX0_restore 18 = .ok (.ifnonnull 6, 3) := dk_199 0 6 (dk_at dksX0_restore_0 18 rfl rfl)
theorem dX0_restore_21 : decode cX0_restore 21 = .ok (.bipush (-5), 2) := dk_16 251 (dk_at dksX0_restore_0 21 rfl rfl)
theorem dX0_restore_23 : decode cX0_restore 23 = .ok (.ireturn, 1) := dk_172 (dk_at dksX0_restore_0 23 rfl rfl)
theorem dX0_restore_24 : decode cX0_restore 24 = .ok (.aload_n 0, 1) := dk_42 (dk_at dksX0_restore_1 0 rfl rfl)
theorem dX0_restore_25 : decode cX0_restore 25 = .ok (.invokevirtual 119, 3) := dk_182 0 119 (dk_at dksX0_restore_1 1 rfl rfl)
theorem dX0_restore_28 : decode cX0_restore 28 = .ok (.aload_n 0, 1) := dk_42 (dk_at dksX0_restore_1 4 rfl rfl)
theorem dX0_restore_29 : decode cX0_restore 29 = .ok (.aload_n 0, 1) := dk_42 (dk_at dksX0_restore_1 5 rfl rfl)
theorem dX0_restore_30 : decode cX0_restore 30 = .ok (.getfield 36, 3) := dk_180 0 36 (dk_at dksX0_restore_1 6 rfl rfl)
theorem dX0_restore_33 : decode cX0_restore 33 = .ok (.iload_n 1, 1) := dk_27 (dk_at dksX0_restore_1 9 rfl rfl)
theorem dX0_restore_34 : decode cX0_restore 34 = .ok (.aaload, 1) := dk_50 (dk_at dksX0_restore_1 10 rfl rfl)
theorem dX0_restore_35 : decode cX0_restore 35 = .ok (.invokevirtual 57, 3) := dk_182 0 57 (dk_at dksX0_restore_1 11 rfl rfl)
theorem dX0_restore_38 : decode cX0_restore 38 = .ok (.putfield 25, 3) := dk_181 0 25 (dk_at dksX0_restore_1 14 rfl rfl)
theorem dX0_restore_41 : decode cX0_restore 41 = .ok (.aload_n 0, 1) := dk_42 (dk_at dksX0_restore_1 17 rfl rfl)
theorem dX0_restore_42 : decode cX0_restore 42 = .ok (.getfield 25, 3) := dk_180 0 25 (dk_at dksX0_restore_1 18 rfl rfl)
theorem dX0_restore_45 : decode cX0_restore 45 = .ok (.getfield 129, 3) := dk_180 0 129 (dk_at dksX0_restore_1 21 rfl rfl)
theorem dX0_restore_48 : decode cX0_restore 48 = .ok (.ireturn, 1) := dk_172 (dk_at dksX0_restore_2 0 rfl rfl)
theorem q70 : (Jvm.Cond.initialized "MorrisTables") ∈ lw_all := lw_g (lw_at lw_m1 1 rfl) rfl
theorem q96 : (Jvm.Cond.instantiable "MorrisTables" (5 : Nat)) ∈ lw_all := lw_g (lw_at lw_m1 27 rfl) rfl
theorem q98 : (Jvm.Cond.instanceMethod ({ cls := "MorrisTables", name := "<init>", desc := "()V" } : Jvm.MethodName)) ∈ lw_all := lw_g (lw_at lw_m1 29 rfl) rfl
theorem q99 : (Jvm.Cond.code ({ cls := "MorrisTables", name := "<init>", desc := "()V" } : Jvm.MethodName) prog_1_method_3_code (1 : Nat) (Option.none : Option Jvm.ClassFile.FieldType)) ∈ lw_all := lw_g (lw_at lw_m1 30 rfl) rfl
theorem q100 : (Jvm.Cond.methodLink "MorrisTables" (7 : Nat) ({ cls := "java/lang/Object", name := "<init>", desc := "()V" } : Jvm.MethodName)) ∈ lw_all := lw_g (lw_at lw_m1 31 rfl) rfl
theorem q103 : (Jvm.Cond.classLink "MorrisTables" (13 : Nat) "MorrisTables$Store") ∈ lw_all := lw_g (lw_at lw_m1 34 rfl) rfl
theorem q105 : (Jvm.Cond.methodLink "MorrisTables" (15 : Nat) ({ cls := "MorrisTables$Store", name := "<init>", desc := "(I)V" } : Jvm.MethodName)) ∈ lw_all := lw_g (lw_at lw_m1 36 rfl) rfl
theorem q173 : (Jvm.Cond.selects "MorrisTables" ({ cls := "java/lang/Object", name := "getClass", desc := "()Ljava/lang/Class;" } : Jvm.MethodName) ({ cls := "java/lang/Object", name := "getClass", desc := "()Ljava/lang/Class;" } : Jvm.MethodName)) ∈ lw_all := lw_g (lw_at lw_m1 104 rfl) rfl
theorem q200 : (Jvm.Cond.classLink "MorrisTables" (22 : Nat) "MorrisTables$Game") ∈ lw_all := lw_g (lw_at lw_m1 131 rfl) rfl
theorem q202 : (Jvm.Cond.methodLinkNest "MorrisTables" (24 : Nat) ({ cls := "MorrisTables$Game", name := "<init>", desc := "()V" } : Jvm.MethodName) "MorrisTables") ∈ lw_tbl := lw_at lw_m1 133 rfl
theorem q207 : (Jvm.Cond.fieldLinkNest "MorrisTables" (65 : Nat) "MorrisTables$Game" "settings" "[I" "MorrisTables") ∈ lw_tbl := lw_at lw_m1 138 rfl
theorem q209 : (Jvm.Cond.fieldLinkNest "MorrisTables" (86 : Nat) "MorrisTables$Game" "men" "[I" "MorrisTables") ∈ lw_tbl := lw_at lw_m1 140 rfl
theorem q211 : (Jvm.Cond.fieldLinkNest "MorrisTables" (89 : Nat) "MorrisTables$Game" "mover" "I" "MorrisTables") ∈ lw_tbl := lw_at lw_m1 142 rfl
theorem q214 : (Jvm.Cond.fieldLinkNest "MorrisTables" (129 : Nat) "MorrisTables$Game" "moves" "I" "MorrisTables") ∈ lw_tbl := lw_at lw_m1 145 rfl
theorem q227 : (Jvm.Cond.classLink "MorrisTables" (29 : Nat) "java/util/ArrayList") ∈ lw_all := lw_g (lw_at lw_m1 158 rfl) rfl
theorem q228 : (Jvm.Cond.methodLink "MorrisTables" (31 : Nat) ({ cls := "java/util/ArrayList", name := "<init>", desc := "()V" } : Jvm.MethodName)) ∈ lw_all := lw_g (lw_at lw_m1 159 rfl) rfl
theorem q230 : (Jvm.Cond.classLink "MorrisTables" (40 : Nat) "java/lang/StringBuilder") ∈ lw_all := lw_g (lw_at lw_m1 161 rfl) rfl
theorem q232 : (Jvm.Cond.methodLink "MorrisTables" (42 : Nat) ({ cls := "java/lang/StringBuilder", name := "<init>", desc := "()V" } : Jvm.MethodName)) ∈ lw_all := lw_g (lw_at lw_m1 163 rfl) rfl
theorem q262 : (Jvm.Cond.fieldLink "MorrisTables" (18 : Nat) "MorrisTables" "tables" "LMorrisTables$Store;") ∈ lw_all := lw_g (lw_at lw_m1 193 rfl) rfl
theorem q263 : (Jvm.Cond.fieldLink "MorrisTables" (25 : Nat) "MorrisTables" "now" "LMorrisTables$Game;") ∈ lw_all := lw_g (lw_at lw_m1 194 rfl) rfl
theorem q264 : (Jvm.Cond.fieldLink "MorrisTables" (32 : Nat) "MorrisTables" "past" "Ljava/util/List;") ∈ lw_all := lw_g (lw_at lw_m1 195 rfl) rfl
theorem q265 : (Jvm.Cond.fieldLink "MorrisTables" (36 : Nat) "MorrisTables" "saved" "[LMorrisTables$Game;") ∈ lw_all := lw_g (lw_at lw_m1 196 rfl) rfl
theorem q267 : (Jvm.Cond.fieldLink "MorrisTables" (43 : Nat) "MorrisTables" "pad" "Ljava/lang/StringBuilder;") ∈ lw_all := lw_g (lw_at lw_m1 198 rfl) rfl
theorem q268 : (Jvm.Cond.laysFinal "MorrisTables" "MorrisTables" "tables" "LMorrisTables$Store;") ∈ lw_all := lw_g (lw_at lw_m1 199 rfl) rfl
theorem q269 : (Jvm.Cond.soleField "MorrisTables" "tables") ∈ lw_all := lw_g (lw_at lw_m1 200 rfl) rfl
theorem q270 : (Jvm.Cond.lays "MorrisTables" "MorrisTables" "now" "LMorrisTables$Game;") ∈ lw_all := lw_g (lw_at lw_m1 201 rfl) rfl
theorem q271 : (Jvm.Cond.soleField "MorrisTables" "now") ∈ lw_all := lw_g (lw_at lw_m1 202 rfl) rfl
theorem q272 : (Jvm.Cond.laysFinal "MorrisTables" "MorrisTables" "past" "Ljava/util/List;") ∈ lw_all := lw_g (lw_at lw_m1 203 rfl) rfl
theorem q273 : (Jvm.Cond.soleField "MorrisTables" "past") ∈ lw_all := lw_g (lw_at lw_m1 204 rfl) rfl
theorem q274 : (Jvm.Cond.laysFinal "MorrisTables" "MorrisTables" "saved" "[LMorrisTables$Game;") ∈ lw_all := lw_g (lw_at lw_m1 205 rfl) rfl
theorem q275 : (Jvm.Cond.soleField "MorrisTables" "saved") ∈ lw_all := lw_g (lw_at lw_m1 206 rfl) rfl
theorem q276 : (Jvm.Cond.laysFinal "MorrisTables" "MorrisTables" "pad" "Ljava/lang/StringBuilder;") ∈ lw_all := lw_g (lw_at lw_m1 207 rfl) rfl
theorem q277 : (Jvm.Cond.soleField "MorrisTables" "pad") ∈ lw_all := lw_g (lw_at lw_m1 208 rfl) rfl
theorem q278 : (Jvm.Cond.superclass "MorrisTables" "java/lang/Object") ∈ lw_all := lw_g (lw_at lw_m1 209 rfl) rfl
theorem q280 : (Jvm.Cond.instanceMethod ({ cls := "MorrisTables", name := "set", desc := "(II)I" } : Jvm.MethodName)) ∈ lw_all := lw_g (lw_at lw_m1 211 rfl) rfl
theorem q281 : (Jvm.Cond.selects "MorrisTables" ({ cls := "MorrisTables", name := "set", desc := "(II)I" } : Jvm.MethodName) ({ cls := "MorrisTables", name := "set", desc := "(II)I" } : Jvm.MethodName)) ∈ lw_all := lw_g (lw_at lw_m1 212 rfl) rfl
theorem q282 : (Jvm.Cond.code ({ cls := "MorrisTables", name := "set", desc := "(II)I" } : Jvm.MethodName) prog_1_method_13_code (5 : Nat) (Option.some Jvm.ClassFile.FieldType.int)) ∈ lw_all := lw_g (lw_at lw_m1 213 rfl) rfl
theorem q283 : (Jvm.Cond.methodLink "MorrisTables" (3 : Nat) ({ cls := "MorrisTables", name := "isIn", desc := "(III)Z" } : Jvm.MethodName)) ∈ lw_all := lw_g (lw_at lw_m1 214 rfl) rfl
theorem q284 : (Jvm.Cond.static ({ cls := "MorrisTables", name := "isIn", desc := "(III)Z" } : Jvm.MethodName)) ∈ lw_all := lw_g (lw_at lw_m1 215 rfl) rfl
theorem q285 : (Jvm.Cond.code ({ cls := "MorrisTables", name := "isIn", desc := "(III)Z" } : Jvm.MethodName) prog_1_method_1_code (3 : Nat) (Option.some Jvm.ClassFile.FieldType.boolean)) ∈ lw_all := lw_g (lw_at lw_m1 216 rfl) rfl
theorem q286 : (Jvm.Cond.methodLink "MorrisTables" (122 : Nat) ({ cls := "MorrisTables", name := "begun", desc := "(IZ)I" } : Jvm.MethodName)) ∈ lw_all := lw_g (lw_at lw_m1 217 rfl) rfl
theorem q287 : (Jvm.Cond.privateMethod ({ cls := "MorrisTables", name := "begun", desc := "(IZ)I" } : Jvm.MethodName)) ∈ lw_tbl := lw_at lw_m1 218 rfl
theorem q288 : (Jvm.Cond.instanceMethod ({ cls := "MorrisTables", name := "begun", desc := "(IZ)I" } : Jvm.MethodName)) ∈ lw_all := lw_g (lw_at lw_m1 219 rfl) rfl
theorem q289 : (Jvm.Cond.code ({ cls := "MorrisTables", name := "begun", desc := "(IZ)I" } : Jvm.MethodName) prog_1_method_12_code (3 : Nat) (Option.some Jvm.ClassFile.FieldType.int)) ∈ lw_all := lw_g (lw_at lw_m1 220 rfl) rfl
theorem q290 : (Jvm.Cond.methodLink "MorrisTables" (119 : Nat) ({ cls := "MorrisTables", name := "record", desc := "()V" } : Jvm.MethodName)) ∈ lw_all := lw_g (lw_at lw_m1 221 rfl) rfl
theorem q291 : (Jvm.Cond.privateMethod ({ cls := "MorrisTables", name := "record", desc := "()V" } : Jvm.MethodName)) ∈ lw_tbl := lw_at lw_m1 222 rfl
theorem q292 : (Jvm.Cond.instanceMethod ({ cls := "MorrisTables", name := "record", desc := "()V" } : Jvm.MethodName)) ∈ lw_all := lw_g (lw_at lw_m1 223 rfl) rfl
theorem q293 : (Jvm.Cond.code ({ cls := "MorrisTables", name := "record", desc := "()V" } : Jvm.MethodName) prog_1_method_4_code (1 : Nat) (Option.none : Option Jvm.ClassFile.FieldType)) ∈ lw_all := lw_g (lw_at lw_m1 224 rfl) rfl
theorem q294 : (Jvm.Cond.interfaceEntry "MorrisTables" (47 : Nat)) ∈ lw_tbl := lw_at lw_m1 225 rfl
theorem q295 : (Jvm.Cond.methodLink "MorrisTables" (47 : Nat) ({ cls := "java/util/List", name := "size", desc := "()I" } : Jvm.MethodName)) ∈ lw_all := lw_g (lw_at lw_m1 226 rfl) rfl
theorem q303 : (Jvm.Cond.interfaceEntry "MorrisTables" (53 : Nat)) ∈ lw_tbl := lw_at lw_m1 234 rfl
theorem q304 : (Jvm.Cond.methodLink "MorrisTables" (53 : Nat) ({ cls := "java/util/List", name := "remove", desc := "(I)Ljava/lang/Object;" } : Jvm.MethodName)) ∈ lw_all := lw_g (lw_at lw_m1 235 rfl) rfl
theorem q323 : (Jvm.Cond.methodLink "MorrisTables" (57 : Nat) ({ cls := "MorrisTables$Game", name := "copy", desc := "()LMorrisTables$Game;" } : Jvm.MethodName)) ∈ lw_all := lw_g (lw_at lw_m2 14 rfl) rfl
theorem q336 : (Jvm.Cond.interfaceEntry "MorrisTables" (61 : Nat)) ∈ lw_tbl := lw_at lw_m2 27 rfl
theorem q337 : (Jvm.Cond.methodLink "MorrisTables" (61 : Nat) ({ cls := "java/util/List", name := "add", desc := "(Ljava/lang/Object;)Z" } : Jvm.MethodName)) ∈ lw_all := lw_g (lw_at lw_m2 28 rfl) rfl
theorem q338 : (Jvm.Cond.methodLink "MorrisTables" (126 : Nat) ({ cls := "MorrisTables$Game", name := "begin", desc := "()V" } : Jvm.MethodName)) ∈ lw_all := lw_g (lw_at lw_m2 29 rfl) rfl
theorem q343 : (Jvm.Cond.instanceMethod ({ cls := "MorrisTables", name := "begin", desc := "()I" } : Jvm.MethodName)) ∈ lw_all := lw_g (lw_at lw_m2 34 rfl) rfl
theorem q344 : (Jvm.Cond.selects "MorrisTables" ({ cls := "MorrisTables", name := "begin", desc := "()I" } : Jvm.MethodName) ({ cls := "MorrisTables", name := "begin", desc := "()I" } : Jvm.MethodName)) ∈ lw_all := lw_g (lw_at lw_m2 35 rfl) rfl
theorem q345 : (Jvm.Cond.code ({ cls := "MorrisTables", name := "begin", desc := "()I" } : Jvm.MethodName) prog_1_method_14_code (2 : Nat) (Option.some Jvm.ClassFile.FieldType.int)) ∈ lw_all := lw_g (lw_at lw_m2 36 rfl) rfl
theorem q347 : (Jvm.Cond.instanceMethod ({ cls := "MorrisTables", name := "place", desc := "(I)I" } : Jvm.MethodName)) ∈ lw_all := lw_g (lw_at lw_m2 38 rfl) rfl
theorem q348 : (Jvm.Cond.selects "MorrisTables" ({ cls := "MorrisTables", name := "place", desc := "(I)I" } : Jvm.MethodName) ({ cls := "MorrisTables", name := "place", desc := "(I)I" } : Jvm.MethodName)) ∈ lw_all := lw_g (lw_at lw_m2 39 rfl) rfl
theorem q349 : (Jvm.Cond.code ({ cls := "MorrisTables", name := "place", desc := "(I)I" } : Jvm.MethodName) prog_1_method_16_code (2 : Nat) (Option.some Jvm.ClassFile.FieldType.int)) ∈ lw_all := lw_g (lw_at lw_m2 40 rfl) rfl
theorem q350 : (Jvm.Cond.methodLink "MorrisTables" (146 : Nat) ({ cls := "MorrisTables", name := "places", desc := "(IZ)I" } : Jvm.MethodName)) ∈ lw_all := lw_g (lw_at lw_m2 41 rfl) rfl
theorem q351 : (Jvm.Cond.privateMethod ({ cls := "MorrisTables", name := "places", desc := "(IZ)I" } : Jvm.MethodName)) ∈ lw_tbl := lw_at lw_m2 42 rfl
theorem q352 : (Jvm.Cond.instanceMethod ({ cls := "MorrisTables", name := "places", desc := "(IZ)I" } : Jvm.MethodName)) ∈ lw_all := lw_g (lw_at lw_m2 43 rfl) rfl
theorem q353 : (Jvm.Cond.code ({ cls := "MorrisTables", name := "places", desc := "(IZ)I" } : Jvm.MethodName) prog_1_method_15_code (4 : Nat) (Option.some Jvm.ClassFile.FieldType.int)) ∈ lw_all := lw_g (lw_at lw_m2 44 rfl) rfl
theorem q354 : (Jvm.Cond.methodLink "MorrisTables" (132 : Nat) ({ cls := "MorrisTables", name := "isPoint", desc := "(I)Z" } : Jvm.MethodName)) ∈ lw_all := lw_g (lw_at lw_m2 45 rfl) rfl
theorem q355 : (Jvm.Cond.static ({ cls := "MorrisTables", name := "isPoint", desc := "(I)Z" } : Jvm.MethodName)) ∈ lw_all := lw_g (lw_at lw_m2 46 rfl) rfl
theorem q356 : (Jvm.Cond.code ({ cls := "MorrisTables", name := "isPoint", desc := "(I)Z" } : Jvm.MethodName) prog_1_method_2_code (1 : Nat) (Option.some Jvm.ClassFile.FieldType.boolean)) ∈ lw_all := lw_g (lw_at lw_m2 47 rfl) rfl
theorem q357 : (Jvm.Cond.methodLink "MorrisTables" (135 : Nat) ({ cls := "MorrisTables", name := "isMove", desc := "(I)Z" } : Jvm.MethodName)) ∈ lw_all := lw_g (lw_at lw_m2 48 rfl) rfl
theorem q358 : (Jvm.Cond.privateMethod ({ cls := "MorrisTables", name := "isMove", desc := "(I)Z" } : Jvm.MethodName)) ∈ lw_tbl := lw_at lw_m2 49 rfl
theorem q359 : (Jvm.Cond.instanceMethod ({ cls := "MorrisTables", name := "isMove", desc := "(I)Z" } : Jvm.MethodName)) ∈ lw_all := lw_g (lw_at lw_m2 50 rfl) rfl
theorem q360 : (Jvm.Cond.code ({ cls := "MorrisTables", name := "isMove", desc := "(I)Z" } : Jvm.MethodName) prog_1_method_11_code (2 : Nat) (Option.some Jvm.ClassFile.FieldType.boolean)) ∈ lw_all := lw_g (lw_at lw_m2 51 rfl) rfl
theorem q361 : (Jvm.Cond.methodLink "MorrisTables" (113 : Nat) ({ cls := "MorrisTables", name := "isOver", desc := "()Z" } : Jvm.MethodName)) ∈ lw_all := lw_g (lw_at lw_m2 52 rfl) rfl
theorem q362 : (Jvm.Cond.privateMethod ({ cls := "MorrisTables", name := "isOver", desc := "()Z" } : Jvm.MethodName)) ∈ lw_tbl := lw_at lw_m2 53 rfl
theorem q363 : (Jvm.Cond.instanceMethod ({ cls := "MorrisTables", name := "isOver", desc := "()Z" } : Jvm.MethodName)) ∈ lw_all := lw_g (lw_at lw_m2 54 rfl) rfl
theorem q364 : (Jvm.Cond.code ({ cls := "MorrisTables", name := "isOver", desc := "()Z" } : Jvm.MethodName) prog_1_method_10_code (1 : Nat) (Option.some Jvm.ClassFile.FieldType.boolean)) ∈ lw_all := lw_g (lw_at lw_m2 55 rfl) rfl
theorem q365 : (Jvm.Cond.methodLink "MorrisTables" (107 : Nat) ({ cls := "MorrisTables", name := "hasLost", desc := "()Z" } : Jvm.MethodName)) ∈ lw_all := lw_g (lw_at lw_m2 56 rfl) rfl
theorem q366 : (Jvm.Cond.privateMethod ({ cls := "MorrisTables", name := "hasLost", desc := "()Z" } : Jvm.MethodName)) ∈ lw_tbl := lw_at lw_m2 57 rfl
theorem q367 : (Jvm.Cond.instanceMethod ({ cls := "MorrisTables", name := "hasLost", desc := "()Z" } : Jvm.MethodName)) ∈ lw_all := lw_g (lw_at lw_m2 58 rfl) rfl
theorem q368 : (Jvm.Cond.code ({ cls := "MorrisTables", name := "hasLost", desc := "()Z" } : Jvm.MethodName) prog_1_method_8_code (1 : Nat) (Option.some Jvm.ClassFile.FieldType.boolean)) ∈ lw_all := lw_g (lw_at lw_m2 59 rfl) rfl
theorem q369 : (Jvm.Cond.methodLink "MorrisTables" (93 : Nat) ({ cls := "MorrisTables", name := "table", desc := "()LMorrisTables$Table;" } : Jvm.MethodName)) ∈ lw_all := lw_g (lw_at lw_m2 60 rfl) rfl
theorem q370 : (Jvm.Cond.privateMethod ({ cls := "MorrisTables", name := "table", desc := "()LMorrisTables$Table;" } : Jvm.MethodName)) ∈ lw_tbl := lw_at lw_m2 61 rfl
theorem q371 : (Jvm.Cond.instanceMethod ({ cls := "MorrisTables", name := "table", desc := "()LMorrisTables$Table;" } : Jvm.MethodName)) ∈ lw_all := lw_g (lw_at lw_m2 62 rfl) rfl
theorem q372 : (Jvm.Cond.code ({ cls := "MorrisTables", name := "table", desc := "()LMorrisTables$Table;" } : Jvm.MethodName) prog_1_method_5_code (2 : Nat) (Option.some (Jvm.ClassFile.FieldType.object "MorrisTables$Table"))) ∈ lw_all := lw_g (lw_at lw_m2 63 rfl) rfl
theorem q373 : (Jvm.Cond.methodLink "MorrisTables" (69 : Nat) ({ cls := "MorrisTables$Store", name := "has", desc := "(I)Z" } : Jvm.MethodName)) ∈ lw_all := lw_g (lw_at lw_m2 64 rfl) rfl
theorem q390 : (Jvm.Cond.methodLink "MorrisTables" (73 : Nat) ({ cls := "MorrisTables$Store", name := "get", desc := "(I)LMorrisTables$Rules;" } : Jvm.MethodName)) ∈ lw_all := lw_g (lw_at lw_m2 81 rfl) rfl
theorem q395 : (Jvm.Cond.classLink "MorrisTables" (77 : Nat) "MorrisTables$Table") ∈ lw_all := lw_g (lw_at lw_m2 86 rfl) rfl
theorem q397 : (Jvm.Cond.methodLink "MorrisTables" (79 : Nat) ({ cls := "MorrisTables$Table", name := "<init>", desc := "(II)V" } : Jvm.MethodName)) ∈ lw_all := lw_g (lw_at lw_m2 88 rfl) rfl
theorem q405 : (Jvm.Cond.laysStatic "MorrisTables" "LINES" "[I") ∈ lw_tbl := lw_at lw_m2 96 rfl
theorem q513 : (Jvm.Cond.fieldLinkNest "MorrisTables" (189 : Nat) "MorrisTables$Table" "many" "I" "MorrisTables") ∈ lw_tbl := lw_at lw_m2 204 rfl
theorem q532 : (Jvm.Cond.methodLink "MorrisTables" (82 : Nat) ({ cls := "MorrisTables$Store", name := "put", desc := "(ILMorrisTables$Rules;)LMorrisTables$Rules;" } : Jvm.MethodName)) ∈ lw_all := lw_g (lw_at lw_m2 223 rfl) rfl
theorem q545 : (Jvm.Cond.methodLink "MorrisTables" (97 : Nat) ({ cls := "MorrisTables", name := "own", desc := "()I" } : Jvm.MethodName)) ∈ lw_all := lw_g (lw_at lw_m2 236 rfl) rfl
theorem q546 : (Jvm.Cond.privateMethod ({ cls := "MorrisTables", name := "own", desc := "()I" } : Jvm.MethodName)) ∈ lw_tbl := lw_at lw_m2 237 rfl
theorem q547 : (Jvm.Cond.instanceMethod ({ cls := "MorrisTables", name := "own", desc := "()I" } : Jvm.MethodName)) ∈ lw_all := lw_g (lw_at lw_m2 238 rfl) rfl
theorem q548 : (Jvm.Cond.code ({ cls := "MorrisTables", name := "own", desc := "()I" } : Jvm.MethodName) prog_1_method_6_code (1 : Nat) (Option.some Jvm.ClassFile.FieldType.int)) ∈ lw_all := lw_g (lw_at lw_m2 239 rfl) rfl
theorem q549 : (Jvm.Cond.methodLink "MorrisTables" (100 : Nat) ({ cls := "MorrisTables", name := "others", desc := "()I" } : Jvm.MethodName)) ∈ lw_all := lw_g (lw_at lw_m3 0 rfl) rfl
theorem q550 : (Jvm.Cond.privateMethod ({ cls := "MorrisTables", name := "others", desc := "()I" } : Jvm.MethodName)) ∈ lw_tbl := lw_at lw_m3 1 rfl
theorem q551 : (Jvm.Cond.instanceMethod ({ cls := "MorrisTables", name := "others", desc := "()I" } : Jvm.MethodName)) ∈ lw_all := lw_g (lw_at lw_m3 2 rfl) rfl
theorem q552 : (Jvm.Cond.code ({ cls := "MorrisTables", name := "others", desc := "()I" } : Jvm.MethodName) prog_1_method_7_code (1 : Nat) (Option.some Jvm.ClassFile.FieldType.int)) ∈ lw_all := lw_g (lw_at lw_m3 3 rfl) rfl
theorem q553 : (Jvm.Cond.methodLink "MorrisTables" (103 : Nat) ({ cls := "MorrisTables$Table", name := "hasLost", desc := "(II)Z" } : Jvm.MethodName)) ∈ lw_all := lw_g (lw_at lw_m3 4 rfl) rfl
theorem q554 : (Jvm.Cond.methodLink "MorrisTables" (110 : Nat) ({ cls := "MorrisTables$Game", name := "times", desc := "()I" } : Jvm.MethodName)) ∈ lw_all := lw_g (lw_at lw_m3 5 rfl) rfl
theorem q562 : (Jvm.Cond.methodLink "MorrisTables" (116 : Nat) ({ cls := "MorrisTables$Table", name := "isMove", desc := "(III)Z" } : Jvm.MethodName)) ∈ lw_all := lw_g (lw_at lw_m3 13 rfl) rfl
theorem q575 : (Jvm.Cond.methodLink "MorrisTables" (137 : Nat) ({ cls := "MorrisTables$Game", name := "make", desc := "(I)V" } : Jvm.MethodName)) ∈ lw_all := lw_g (lw_at lw_m3 26 rfl) rfl
theorem q581 : (Jvm.Cond.methodLink "MorrisTables" (140 : Nat) ({ cls := "java/lang/Integer", name := "bitCount", desc := "(I)I" } : Jvm.MethodName)) ∈ lw_all := lw_g (lw_at lw_m3 32 rfl) rfl
theorem q583 : (Jvm.Cond.instanceMethod ({ cls := "MorrisTables", name := "slide", desc := "(II)I" } : Jvm.MethodName)) ∈ lw_all := lw_g (lw_at lw_m3 34 rfl) rfl
theorem q584 : (Jvm.Cond.selects "MorrisTables" ({ cls := "MorrisTables", name := "slide", desc := "(II)I" } : Jvm.MethodName) ({ cls := "MorrisTables", name := "slide", desc := "(II)I" } : Jvm.MethodName)) ∈ lw_all := lw_g (lw_at lw_m3 35 rfl) rfl
theorem q585 : (Jvm.Cond.code ({ cls := "MorrisTables", name := "slide", desc := "(II)I" } : Jvm.MethodName) prog_1_method_18_code (3 : Nat) (Option.some Jvm.ClassFile.FieldType.int)) ∈ lw_all := lw_g (lw_at lw_m3 36 rfl) rfl
theorem q586 : (Jvm.Cond.methodLink "MorrisTables" (149 : Nat) ({ cls := "MorrisTables", name := "slides", desc := "(IIZ)I" } : Jvm.MethodName)) ∈ lw_all := lw_g (lw_at lw_m3 37 rfl) rfl
theorem q587 : (Jvm.Cond.privateMethod ({ cls := "MorrisTables", name := "slides", desc := "(IIZ)I" } : Jvm.MethodName)) ∈ lw_tbl := lw_at lw_m3 38 rfl
theorem q588 : (Jvm.Cond.instanceMethod ({ cls := "MorrisTables", name := "slides", desc := "(IIZ)I" } : Jvm.MethodName)) ∈ lw_all := lw_g (lw_at lw_m3 39 rfl) rfl
theorem q589 : (Jvm.Cond.code ({ cls := "MorrisTables", name := "slides", desc := "(IIZ)I" } : Jvm.MethodName) prog_1_method_17_code (6 : Nat) (Option.some Jvm.ClassFile.FieldType.int)) ∈ lw_all := lw_g (lw_at lw_m3 40 rfl) rfl
theorem q591 : (Jvm.Cond.instanceMethod ({ cls := "MorrisTables", name := "pass", desc := "()I" } : Jvm.MethodName)) ∈ lw_all := lw_g (lw_at lw_m3 42 rfl) rfl
theorem q592 : (Jvm.Cond.selects "MorrisTables" ({ cls := "MorrisTables", name := "pass", desc := "()I" } : Jvm.MethodName) ({ cls := "MorrisTables", name := "pass", desc := "()I" } : Jvm.MethodName)) ∈ lw_all := lw_g (lw_at lw_m3 43 rfl) rfl
theorem q593 : (Jvm.Cond.code ({ cls := "MorrisTables", name := "pass", desc := "()I" } : Jvm.MethodName) prog_1_method_20_code (1 : Nat) (Option.some Jvm.ClassFile.FieldType.int)) ∈ lw_all := lw_g (lw_at lw_m3 44 rfl) rfl
theorem q594 : (Jvm.Cond.methodLink "MorrisTables" (153 : Nat) ({ cls := "MorrisTables", name := "passes", desc := "(Z)I" } : Jvm.MethodName)) ∈ lw_all := lw_g (lw_at lw_m3 45 rfl) rfl
theorem q595 : (Jvm.Cond.privateMethod ({ cls := "MorrisTables", name := "passes", desc := "(Z)I" } : Jvm.MethodName)) ∈ lw_tbl := lw_at lw_m3 46 rfl
theorem q596 : (Jvm.Cond.instanceMethod ({ cls := "MorrisTables", name := "passes", desc := "(Z)I" } : Jvm.MethodName)) ∈ lw_all := lw_g (lw_at lw_m3 47 rfl) rfl
theorem q597 : (Jvm.Cond.code ({ cls := "MorrisTables", name := "passes", desc := "(Z)I" } : Jvm.MethodName) prog_1_method_19_code (3 : Nat) (Option.some Jvm.ClassFile.FieldType.int)) ∈ lw_all := lw_g (lw_at lw_m3 48 rfl) rfl
theorem q599 : (Jvm.Cond.instanceMethod ({ cls := "MorrisTables", name := "play", desc := "(I)I" } : Jvm.MethodName)) ∈ lw_all := lw_g (lw_at lw_m3 50 rfl) rfl
theorem q600 : (Jvm.Cond.selects "MorrisTables" ({ cls := "MorrisTables", name := "play", desc := "(I)I" } : Jvm.MethodName) ({ cls := "MorrisTables", name := "play", desc := "(I)I" } : Jvm.MethodName)) ∈ lw_all := lw_g (lw_at lw_m3 51 rfl) rfl
theorem q601 : (Jvm.Cond.code ({ cls := "MorrisTables", name := "play", desc := "(I)I" } : Jvm.MethodName) prog_1_method_22_code (2 : Nat) (Option.some Jvm.ClassFile.FieldType.int)) ∈ lw_all := lw_g (lw_at lw_m3 52 rfl) rfl
theorem q602 : (Jvm.Cond.methodLink "MorrisTables" (160 : Nat) ({ cls := "MorrisTables", name := "plays", desc := "(IZ)I" } : Jvm.MethodName)) ∈ lw_all := lw_g (lw_at lw_m3 53 rfl) rfl
theorem q603 : (Jvm.Cond.privateMethod ({ cls := "MorrisTables", name := "plays", desc := "(IZ)I" } : Jvm.MethodName)) ∈ lw_tbl := lw_at lw_m3 54 rfl
theorem q604 : (Jvm.Cond.instanceMethod ({ cls := "MorrisTables", name := "plays", desc := "(IZ)I" } : Jvm.MethodName)) ∈ lw_all := lw_g (lw_at lw_m3 55 rfl) rfl
theorem q605 : (Jvm.Cond.code ({ cls := "MorrisTables", name := "plays", desc := "(IZ)I" } : Jvm.MethodName) prog_1_method_21_code (5 : Nat) (Option.some Jvm.ClassFile.FieldType.int)) ∈ lw_all := lw_g (lw_at lw_m3 56 rfl) rfl
theorem q606 : (Jvm.Cond.methodLink "MorrisTables" (157 : Nat) ({ cls := "MorrisTables", name := "bestMove", desc := "()I" } : Jvm.MethodName)) ∈ lw_all := lw_g (lw_at lw_m3 57 rfl) rfl
theorem q607 : (Jvm.Cond.privateMethod ({ cls := "MorrisTables", name := "bestMove", desc := "()I" } : Jvm.MethodName)) ∈ lw_tbl := lw_at lw_m3 58 rfl
theorem q608 : (Jvm.Cond.instanceMethod ({ cls := "MorrisTables", name := "bestMove", desc := "()I" } : Jvm.MethodName)) ∈ lw_all := lw_g (lw_at lw_m3 59 rfl) rfl
theorem q609 : (Jvm.Cond.code ({ cls := "MorrisTables", name := "bestMove", desc := "()I" } : Jvm.MethodName) prog_1_method_31_code (4 : Nat) (Option.some Jvm.ClassFile.FieldType.int)) ∈ lw_all := lw_g (lw_at lw_m3 60 rfl) rfl
theorem q610 : (Jvm.Cond.methodLink "MorrisTables" (180 : Nat) ({ cls := "MorrisTables", name := "worthNow", desc := "()I" } : Jvm.MethodName)) ∈ lw_all := lw_g (lw_at lw_m3 61 rfl) rfl
theorem q611 : (Jvm.Cond.privateMethod ({ cls := "MorrisTables", name := "worthNow", desc := "()I" } : Jvm.MethodName)) ∈ lw_tbl := lw_at lw_m3 62 rfl
theorem q612 : (Jvm.Cond.instanceMethod ({ cls := "MorrisTables", name := "worthNow", desc := "()I" } : Jvm.MethodName)) ∈ lw_all := lw_g (lw_at lw_m3 63 rfl) rfl
theorem q613 : (Jvm.Cond.code ({ cls := "MorrisTables", name := "worthNow", desc := "()I" } : Jvm.MethodName) prog_1_method_27_code (1 : Nat) (Option.some Jvm.ClassFile.FieldType.int)) ∈ lw_all := lw_g (lw_at lw_m3 64 rfl) rfl
theorem q614 : (Jvm.Cond.methodLink "MorrisTables" (172 : Nat) ({ cls := "MorrisTables$Table", name := "worth", desc := "(III)I" } : Jvm.MethodName)) ∈ lw_all := lw_g (lw_at lw_m3 65 rfl) rfl
theorem q615 : (Jvm.Cond.methodLink "MorrisTables" (183 : Nat) ({ cls := "MorrisTables", name := "behindNow", desc := "(I)I" } : Jvm.MethodName)) ∈ lw_all := lw_g (lw_at lw_m3 66 rfl) rfl
theorem q616 : (Jvm.Cond.privateMethod ({ cls := "MorrisTables", name := "behindNow", desc := "(I)I" } : Jvm.MethodName)) ∈ lw_tbl := lw_at lw_m3 67 rfl
theorem q617 : (Jvm.Cond.instanceMethod ({ cls := "MorrisTables", name := "behindNow", desc := "(I)I" } : Jvm.MethodName)) ∈ lw_all := lw_g (lw_at lw_m3 68 rfl) rfl
theorem q618 : (Jvm.Cond.code ({ cls := "MorrisTables", name := "behindNow", desc := "(I)I" } : Jvm.MethodName) prog_1_method_28_code (2 : Nat) (Option.some Jvm.ClassFile.FieldType.int)) ∈ lw_all := lw_g (lw_at lw_m3 69 rfl) rfl
theorem q619 : (Jvm.Cond.methodLink "MorrisTables" (176 : Nat) ({ cls := "MorrisTables$Table", name := "behind", desc := "(IIII)I" } : Jvm.MethodName)) ∈ lw_all := lw_g (lw_at lw_m3 70 rfl) rfl
theorem q621 : (Jvm.Cond.instanceMethod ({ cls := "MorrisTables", name := "at", desc := "(I)I" } : Jvm.MethodName)) ∈ lw_all := lw_g (lw_at lw_m3 72 rfl) rfl
theorem q622 : (Jvm.Cond.selects "MorrisTables" ({ cls := "MorrisTables", name := "at", desc := "(I)I" } : Jvm.MethodName) ({ cls := "MorrisTables", name := "at", desc := "(I)I" } : Jvm.MethodName)) ∈ lw_all := lw_g (lw_at lw_m3 73 rfl) rfl
theorem q623 : (Jvm.Cond.code ({ cls := "MorrisTables", name := "at", desc := "(I)I" } : Jvm.MethodName) prog_1_method_23_code (2 : Nat) (Option.some Jvm.ClassFile.FieldType.int)) ∈ lw_all := lw_g (lw_at lw_m3 74 rfl) rfl
theorem q625 : (Jvm.Cond.instanceMethod ({ cls := "MorrisTables", name := "count", desc := "(I)I" } : Jvm.MethodName)) ∈ lw_all := lw_g (lw_at lw_m3 76 rfl) rfl
theorem q626 : (Jvm.Cond.selects "MorrisTables" ({ cls := "MorrisTables", name := "count", desc := "(I)I" } : Jvm.MethodName) ({ cls := "MorrisTables", name := "count", desc := "(I)I" } : Jvm.MethodName)) ∈ lw_all := lw_g (lw_at lw_m3 77 rfl) rfl
theorem q627 : (Jvm.Cond.code ({ cls := "MorrisTables", name := "count", desc := "(I)I" } : Jvm.MethodName) prog_1_method_24_code (2 : Nat) (Option.some Jvm.ClassFile.FieldType.int)) ∈ lw_all := lw_g (lw_at lw_m3 78 rfl) rfl
theorem q628 : (Jvm.Cond.methodLink "MorrisTables" (163 : Nat) ({ cls := "MorrisTables", name := "isDrawn", desc := "()Z" } : Jvm.MethodName)) ∈ lw_all := lw_g (lw_at lw_m3 79 rfl) rfl
theorem q629 : (Jvm.Cond.privateMethod ({ cls := "MorrisTables", name := "isDrawn", desc := "()Z" } : Jvm.MethodName)) ∈ lw_tbl := lw_at lw_m3 80 rfl
theorem q630 : (Jvm.Cond.instanceMethod ({ cls := "MorrisTables", name := "isDrawn", desc := "()Z" } : Jvm.MethodName)) ∈ lw_all := lw_g (lw_at lw_m3 81 rfl) rfl
theorem q631 : (Jvm.Cond.code ({ cls := "MorrisTables", name := "isDrawn", desc := "()Z" } : Jvm.MethodName) prog_1_method_9_code (1 : Nat) (Option.some Jvm.ClassFile.FieldType.boolean)) ∈ lw_all := lw_g (lw_at lw_m3 82 rfl) rfl
theorem q632 : (Jvm.Cond.methodLink "MorrisTables" (166 : Nat) ({ cls := "java/lang/StringBuilder", name := "length", desc := "()I" } : Jvm.MethodName)) ∈ lw_all := lw_g (lw_at lw_m3 83 rfl) rfl
theorem q640 : (Jvm.Cond.instanceMethod ({ cls := "MorrisTables", name := "neighbours", desc := "(I)I" } : Jvm.MethodName)) ∈ lw_all := lw_g (lw_at lw_m3 91 rfl) rfl
theorem q641 : (Jvm.Cond.selects "MorrisTables" ({ cls := "MorrisTables", name := "neighbours", desc := "(I)I" } : Jvm.MethodName) ({ cls := "MorrisTables", name := "neighbours", desc := "(I)I" } : Jvm.MethodName)) ∈ lw_all := lw_g (lw_at lw_m3 92 rfl) rfl
theorem q642 : (Jvm.Cond.code ({ cls := "MorrisTables", name := "neighbours", desc := "(I)I" } : Jvm.MethodName) prog_1_method_25_code (2 : Nat) (Option.some Jvm.ClassFile.FieldType.int)) ∈ lw_all := lw_g (lw_at lw_m3 93 rfl) rfl
theorem q643 : (Jvm.Cond.methodLink "MorrisTables" (169 : Nat) ({ cls := "MorrisTables$Table", name := "next", desc := "(I)I" } : Jvm.MethodName)) ∈ lw_all := lw_g (lw_at lw_m3 94 rfl) rfl
theorem q645 : (Jvm.Cond.instanceMethod ({ cls := "MorrisTables", name := "move", desc := "(I)I" } : Jvm.MethodName)) ∈ lw_all := lw_g (lw_at lw_m3 96 rfl) rfl
theorem q646 : (Jvm.Cond.selects "MorrisTables" ({ cls := "MorrisTables", name := "move", desc := "(I)I" } : Jvm.MethodName) ({ cls := "MorrisTables", name := "move", desc := "(I)I" } : Jvm.MethodName)) ∈ lw_all := lw_g (lw_at lw_m3 97 rfl) rfl
theorem q647 : (Jvm.Cond.code ({ cls := "MorrisTables", name := "move", desc := "(I)I" } : Jvm.MethodName) prog_1_method_26_code (5 : Nat) (Option.some Jvm.ClassFile.FieldType.int)) ∈ lw_all := lw_g (lw_at lw_m3 98 rfl) rfl
theorem q649 : (Jvm.Cond.instanceMethod ({ cls := "MorrisTables", name := "worth", desc := "()I" } : Jvm.MethodName)) ∈ lw_all := lw_g (lw_at lw_m3 100 rfl) rfl
theorem q650 : (Jvm.Cond.selects "MorrisTables" ({ cls := "MorrisTables", name := "worth", desc := "()I" } : Jvm.MethodName) ({ cls := "MorrisTables", name := "worth", desc := "()I" } : Jvm.MethodName)) ∈ lw_all := lw_g (lw_at lw_m3 101 rfl) rfl
theorem q651 : (Jvm.Cond.code ({ cls := "MorrisTables", name := "worth", desc := "()I" } : Jvm.MethodName) prog_1_method_29_code (1 : Nat) (Option.some Jvm.ClassFile.FieldType.int)) ∈ lw_all := lw_g (lw_at lw_m3 102 rfl) rfl
theorem q653 : (Jvm.Cond.instanceMethod ({ cls := "MorrisTables", name := "behind", desc := "(I)I" } : Jvm.MethodName)) ∈ lw_all := lw_g (lw_at lw_m3 104 rfl) rfl
theorem q654 : (Jvm.Cond.selects "MorrisTables" ({ cls := "MorrisTables", name := "behind", desc := "(I)I" } : Jvm.MethodName) ({ cls := "MorrisTables", name := "behind", desc := "(I)I" } : Jvm.MethodName)) ∈ lw_all := lw_g (lw_at lw_m3 105 rfl) rfl
theorem q655 : (Jvm.Cond.code ({ cls := "MorrisTables", name := "behind", desc := "(I)I" } : Jvm.MethodName) prog_1_method_30_code (2 : Nat) (Option.some Jvm.ClassFile.FieldType.int)) ∈ lw_all := lw_g (lw_at lw_m3 106 rfl) rfl
theorem q657 : (Jvm.Cond.instanceMethod ({ cls := "MorrisTables", name := "best", desc := "()I" } : Jvm.MethodName)) ∈ lw_all := lw_g (lw_at lw_m3 108 rfl) rfl
theorem q658 : (Jvm.Cond.selects "MorrisTables" ({ cls := "MorrisTables", name := "best", desc := "()I" } : Jvm.MethodName) ({ cls := "MorrisTables", name := "best", desc := "()I" } : Jvm.MethodName)) ∈ lw_all := lw_g (lw_at lw_m3 109 rfl) rfl
theorem q659 : (Jvm.Cond.code ({ cls := "MorrisTables", name := "best", desc := "()I" } : Jvm.MethodName) prog_1_method_32_code (1 : Nat) (Option.some Jvm.ClassFile.FieldType.int)) ∈ lw_all := lw_g (lw_at lw_m3 110 rfl) rfl
theorem q661 : (Jvm.Cond.instanceMethod ({ cls := "MorrisTables", name := "worthOf", desc := "(III)I" } : Jvm.MethodName)) ∈ lw_all := lw_g (lw_at lw_m3 112 rfl) rfl
theorem q662 : (Jvm.Cond.selects "MorrisTables" ({ cls := "MorrisTables", name := "worthOf", desc := "(III)I" } : Jvm.MethodName) ({ cls := "MorrisTables", name := "worthOf", desc := "(III)I" } : Jvm.MethodName)) ∈ lw_all := lw_g (lw_at lw_m3 113 rfl) rfl
theorem q663 : (Jvm.Cond.code ({ cls := "MorrisTables", name := "worthOf", desc := "(III)I" } : Jvm.MethodName) prog_1_method_33_code (5 : Nat) (Option.some Jvm.ClassFile.FieldType.int)) ∈ lw_all := lw_g (lw_at lw_m3 114 rfl) rfl
theorem q664 : (Jvm.Cond.methodLink "MorrisTables" (186 : Nat) ({ cls := "MorrisTables$Table", name := "isLegal", desc := "(III)Z" } : Jvm.MethodName)) ∈ lw_all := lw_g (lw_at lw_m3 115 rfl) rfl
theorem q666 : (Jvm.Cond.instanceMethod ({ cls := "MorrisTables", name := "tally", desc := "(I)I" } : Jvm.MethodName)) ∈ lw_all := lw_g (lw_at lw_m3 117 rfl) rfl
theorem q667 : (Jvm.Cond.selects "MorrisTables" ({ cls := "MorrisTables", name := "tally", desc := "(I)I" } : Jvm.MethodName) ({ cls := "MorrisTables", name := "tally", desc := "(I)I" } : Jvm.MethodName)) ∈ lw_all := lw_g (lw_at lw_m3 118 rfl) rfl
theorem q668 : (Jvm.Cond.code ({ cls := "MorrisTables", name := "tally", desc := "(I)I" } : Jvm.MethodName) prog_1_method_36_code (2 : Nat) (Option.some Jvm.ClassFile.FieldType.int)) ∈ lw_all := lw_g (lw_at lw_m3 119 rfl) rfl
theorem q669 : (Jvm.Cond.methodLink "MorrisTables" (204 : Nat) ({ cls := "MorrisTables", name := "with", desc := "(I)I" } : Jvm.MethodName)) ∈ lw_all := lw_g (lw_at lw_m3 120 rfl) rfl
theorem q670 : (Jvm.Cond.privateMethod ({ cls := "MorrisTables", name := "with", desc := "(I)I" } : Jvm.MethodName)) ∈ lw_tbl := lw_at lw_m3 121 rfl
theorem q671 : (Jvm.Cond.instanceMethod ({ cls := "MorrisTables", name := "with", desc := "(I)I" } : Jvm.MethodName)) ∈ lw_all := lw_g (lw_at lw_m3 122 rfl) rfl
theorem q672 : (Jvm.Cond.code ({ cls := "MorrisTables", name := "with", desc := "(I)I" } : Jvm.MethodName) prog_1_method_34_code (4 : Nat) (Option.some Jvm.ClassFile.FieldType.int)) ∈ lw_all := lw_g (lw_at lw_m3 123 rfl) rfl
theorem q673 : (Jvm.Cond.methodLink "MorrisTables" (192 : Nat) ({ cls := "MorrisTables$Table", name := "worthAt", desc := "(I)I" } : Jvm.MethodName)) ∈ lw_all := lw_g (lw_at lw_m3 124 rfl) rfl
theorem q677 : (Jvm.Cond.methodLink "MorrisTables" (195 : Nat) ({ cls := "java/lang/Integer", name := "signum", desc := "(I)I" } : Jvm.MethodName)) ∈ lw_all := lw_g (lw_at lw_m3 128 rfl) rfl
theorem q680 : (Jvm.Cond.methodLink "MorrisTables" (207 : Nat) ({ cls := "MorrisTables", name := "longest", desc := "(Z)I" } : Jvm.MethodName)) ∈ lw_all := lw_g (lw_at lw_m3 131 rfl) rfl
theorem q681 : (Jvm.Cond.privateMethod ({ cls := "MorrisTables", name := "longest", desc := "(Z)I" } : Jvm.MethodName)) ∈ lw_tbl := lw_at lw_m3 132 rfl
theorem q682 : (Jvm.Cond.instanceMethod ({ cls := "MorrisTables", name := "longest", desc := "(Z)I" } : Jvm.MethodName)) ∈ lw_all := lw_g (lw_at lw_m3 133 rfl) rfl
theorem q683 : (Jvm.Cond.code ({ cls := "MorrisTables", name := "longest", desc := "(Z)I" } : Jvm.MethodName) prog_1_method_35_code (5 : Nat) (Option.some Jvm.ClassFile.FieldType.int)) ∈ lw_all := lw_g (lw_at lw_m3 134 rfl) rfl
theorem q684 : (Jvm.Cond.methodLink "MorrisTables" (198 : Nat) ({ cls := "java/lang/Math", name := "max", desc := "(II)I" } : Jvm.MethodName)) ∈ lw_all := lw_g (lw_at lw_m3 135 rfl) rfl
theorem q686 : (Jvm.Cond.instanceMethod ({ cls := "MorrisTables", name := "share", desc := "()I" } : Jvm.MethodName)) ∈ lw_all := lw_g (lw_at lw_m3 137 rfl) rfl
theorem q687 : (Jvm.Cond.selects "MorrisTables" ({ cls := "MorrisTables", name := "share", desc := "()I" } : Jvm.MethodName) ({ cls := "MorrisTables", name := "share", desc := "()I" } : Jvm.MethodName)) ∈ lw_all := lw_g (lw_at lw_m3 138 rfl) rfl
theorem q688 : (Jvm.Cond.code ({ cls := "MorrisTables", name := "share", desc := "()I" } : Jvm.MethodName) prog_1_method_37_code (1 : Nat) (Option.some Jvm.ClassFile.FieldType.int)) ∈ lw_all := lw_g (lw_at lw_m3 139 rfl) rfl
theorem q689 : (Jvm.Cond.methodLink "MorrisTables" (210 : Nat) ({ cls := "java/lang/Float", name := "floatToIntBits", desc := "(F)I" } : Jvm.MethodName)) ∈ lw_all := lw_g (lw_at lw_m3 140 rfl) rfl
theorem q700 : (Jvm.Cond.instanceMethod ({ cls := "MorrisTables", name := "many", desc := "(I)I" } : Jvm.MethodName)) ∈ lw_all := lw_g (lw_at lw_m3 151 rfl) rfl
theorem q701 : (Jvm.Cond.selects "MorrisTables" ({ cls := "MorrisTables", name := "many", desc := "(I)I" } : Jvm.MethodName) ({ cls := "MorrisTables", name := "many", desc := "(I)I" } : Jvm.MethodName)) ∈ lw_all := lw_g (lw_at lw_m3 152 rfl) rfl
theorem q702 : (Jvm.Cond.code ({ cls := "MorrisTables", name := "many", desc := "(I)I" } : Jvm.MethodName) prog_1_method_38_code (4 : Nat) (Option.some Jvm.ClassFile.FieldType.int)) ∈ lw_all := lw_g (lw_at lw_m3 153 rfl) rfl
theorem q704 : (Jvm.Cond.instanceMethod ({ cls := "MorrisTables", name := "put", desc := "(J)I" } : Jvm.MethodName)) ∈ lw_all := lw_g (lw_at lw_m3 155 rfl) rfl
theorem q705 : (Jvm.Cond.selects "MorrisTables" ({ cls := "MorrisTables", name := "put", desc := "(J)I" } : Jvm.MethodName) ({ cls := "MorrisTables", name := "put", desc := "(J)I" } : Jvm.MethodName)) ∈ lw_all := lw_g (lw_at lw_m3 156 rfl) rfl
theorem q706 : (Jvm.Cond.code ({ cls := "MorrisTables", name := "put", desc := "(J)I" } : Jvm.MethodName) prog_1_method_39_code (7 : Nat) (Option.some Jvm.ClassFile.FieldType.int)) ∈ lw_all := lw_g (lw_at lw_m3 157 rfl) rfl
theorem q707 : (Jvm.Cond.constantLong "MorrisTables" (216 : Nat) (255 : Int64)) ∈ lw_all := lw_g (lw_at lw_m3 158 rfl) rfl
theorem q708 : (Jvm.Cond.methodLink "MorrisTables" (218 : Nat) ({ cls := "java/lang/StringBuilder", name := "append", desc := "(C)Ljava/lang/StringBuilder;" } : Jvm.MethodName)) ∈ lw_all := lw_g (lw_at lw_m3 159 rfl) rfl
theorem q785 : (Jvm.Cond.instanceMethod ({ cls := "MorrisTables", name := "wipe", desc := "()I" } : Jvm.MethodName)) ∈ lw_all := lw_g (lw_at lw_m3 236 rfl) rfl
theorem q786 : (Jvm.Cond.selects "MorrisTables" ({ cls := "MorrisTables", name := "wipe", desc := "()I" } : Jvm.MethodName) ({ cls := "MorrisTables", name := "wipe", desc := "()I" } : Jvm.MethodName)) ∈ lw_all := lw_g (lw_at lw_m3 237 rfl) rfl
theorem q787 : (Jvm.Cond.code ({ cls := "MorrisTables", name := "wipe", desc := "()I" } : Jvm.MethodName) prog_1_method_40_code (2 : Nat) (Option.some Jvm.ClassFile.FieldType.int)) ∈ lw_all := lw_g (lw_at lw_m3 238 rfl) rfl
theorem q788 : (Jvm.Cond.methodLink "MorrisTables" (222 : Nat) ({ cls := "java/lang/StringBuilder", name := "setLength", desc := "(I)V" } : Jvm.MethodName)) ∈ lw_all := lw_g (lw_at lw_m3 239 rfl) rfl
theorem q809 : (Jvm.Cond.instanceMethod ({ cls := "MorrisTables", name := "fault", desc := "()I" } : Jvm.MethodName)) ∈ lw_all := lw_g (lw_at lw_m4 20 rfl) rfl
theorem q810 : (Jvm.Cond.selects "MorrisTables" ({ cls := "MorrisTables", name := "fault", desc := "()I" } : Jvm.MethodName) ({ cls := "MorrisTables", name := "fault", desc := "()I" } : Jvm.MethodName)) ∈ lw_all := lw_g (lw_at lw_m4 21 rfl) rfl
theorem q811 : (Jvm.Cond.code ({ cls := "MorrisTables", name := "fault", desc := "()I" } : Jvm.MethodName) prog_1_method_41_code (2 : Nat) (Option.some Jvm.ClassFile.FieldType.int)) ∈ lw_all := lw_g (lw_at lw_m4 22 rfl) rfl
theorem q812 : (Jvm.Cond.classLink "MorrisTables" (225 : Nat) "MorrisTables$Reader") ∈ lw_all := lw_g (lw_at lw_m4 23 rfl) rfl
theorem q814 : (Jvm.Cond.methodLink "MorrisTables" (227 : Nat) ({ cls := "MorrisTables$Reader", name := "<init>", desc := "(LMorrisTables;)V" } : Jvm.MethodName)) ∈ lw_all := lw_g (lw_at lw_m4 25 rfl) rfl
theorem q929 : (Jvm.Cond.fieldLinkNest "MorrisTables" (237 : Nat) "MorrisTables$Reader" "orders" "Ljava/util/List;" "MorrisTables") ∈ lw_tbl := lw_at lw_m4 140 rfl
theorem q931 : (Jvm.Cond.fieldLinkNest "MorrisTables" (234 : Nat) "MorrisTables$Reader" "spot" "I" "MorrisTables") ∈ lw_tbl := lw_at lw_m4 142 rfl
theorem q933 : (Jvm.Cond.fieldLinkNest "MorrisTables" (230 : Nat) "MorrisTables$Reader" "isWrong" "Z" "MorrisTables") ∈ lw_tbl := lw_at lw_m4 144 rfl
theorem q945 : (Jvm.Cond.instanceMethod ({ cls := "MorrisTables", name := "carryOut", desc := "()I" } : Jvm.MethodName)) ∈ lw_all := lw_g (lw_at lw_m4 156 rfl) rfl
theorem q946 : (Jvm.Cond.selects "MorrisTables" ({ cls := "MorrisTables", name := "carryOut", desc := "()I" } : Jvm.MethodName) ({ cls := "MorrisTables", name := "carryOut", desc := "()I" } : Jvm.MethodName)) ∈ lw_all := lw_g (lw_at lw_m4 157 rfl) rfl
theorem q947 : (Jvm.Cond.code ({ cls := "MorrisTables", name := "carryOut", desc := "()I" } : Jvm.MethodName) prog_1_method_43_code (3 : Nat) (Option.some Jvm.ClassFile.FieldType.int)) ∈ lw_all := lw_g (lw_at lw_m4 158 rfl) rfl
theorem q948 : (Jvm.Cond.interfaceEntry "MorrisTables" (240 : Nat)) ∈ lw_tbl := lw_at lw_m4 159 rfl
theorem q949 : (Jvm.Cond.methodLink "MorrisTables" (240 : Nat) ({ cls := "java/util/List", name := "get", desc := "(I)Ljava/lang/Object;" } : Jvm.MethodName)) ∈ lw_all := lw_g (lw_at lw_m4 160 rfl) rfl
theorem q950 : (Jvm.Cond.classLink "MorrisTables" (242 : Nat) "[I") ∈ lw_all := lw_g (lw_at lw_m4 161 rfl) rfl
theorem q951 : (Jvm.Cond.methodLink "MorrisTables" (243 : Nat) ({ cls := "MorrisTables", name := "doIt", desc := "([I)I" } : Jvm.MethodName)) ∈ lw_all := lw_g (lw_at lw_m4 162 rfl) rfl
theorem q952 : (Jvm.Cond.privateMethod ({ cls := "MorrisTables", name := "doIt", desc := "([I)I" } : Jvm.MethodName)) ∈ lw_tbl := lw_at lw_m4 163 rfl
theorem q953 : (Jvm.Cond.instanceMethod ({ cls := "MorrisTables", name := "doIt", desc := "([I)I" } : Jvm.MethodName)) ∈ lw_all := lw_g (lw_at lw_m4 164 rfl) rfl
theorem q954 : (Jvm.Cond.code ({ cls := "MorrisTables", name := "doIt", desc := "([I)I" } : Jvm.MethodName) prog_1_method_42_code (2 : Nat) (Option.some Jvm.ClassFile.FieldType.int)) ∈ lw_all := lw_g (lw_at lw_m4 165 rfl) rfl
theorem q956 : (Jvm.Cond.instanceMethod ({ cls := "MorrisTables", name := "undo", desc := "()I" } : Jvm.MethodName)) ∈ lw_all := lw_g (lw_at lw_m4 167 rfl) rfl
theorem q957 : (Jvm.Cond.selects "MorrisTables" ({ cls := "MorrisTables", name := "undo", desc := "()I" } : Jvm.MethodName) ({ cls := "MorrisTables", name := "undo", desc := "()I" } : Jvm.MethodName)) ∈ lw_all := lw_g (lw_at lw_m4 168 rfl) rfl
theorem q958 : (Jvm.Cond.code ({ cls := "MorrisTables", name := "undo", desc := "()I" } : Jvm.MethodName) prog_1_method_44_code (1 : Nat) (Option.some Jvm.ClassFile.FieldType.int)) ∈ lw_all := lw_g (lw_at lw_m4 169 rfl) rfl
theorem q959 : (Jvm.Cond.interfaceEntry "MorrisTables" (247 : Nat)) ∈ lw_tbl := lw_at lw_m4 170 rfl
theorem q960 : (Jvm.Cond.methodLink "MorrisTables" (247 : Nat) ({ cls := "java/util/List", name := "isEmpty", desc := "()Z" } : Jvm.MethodName)) ∈ lw_all := lw_g (lw_at lw_m4 171 rfl) rfl
theorem q969 : (Jvm.Cond.instanceMethod ({ cls := "MorrisTables", name := "save", desc := "(I)I" } : Jvm.MethodName)) ∈ lw_all := lw_g (lw_at lw_m4 180 rfl) rfl
theorem q970 : (Jvm.Cond.selects "MorrisTables" ({ cls := "MorrisTables", name := "save", desc := "(I)I" } : Jvm.MethodName) ({ cls := "MorrisTables", name := "save", desc := "(I)I" } : Jvm.MethodName)) ∈ lw_all := lw_g (lw_at lw_m4 181 rfl) rfl
theorem q971 : (Jvm.Cond.code ({ cls := "MorrisTables", name := "save", desc := "(I)I" } : Jvm.MethodName) prog_1_method_45_code (2 : Nat) (Option.some Jvm.ClassFile.FieldType.int)) ∈ lw_all := lw_g (lw_at lw_m4 182 rfl) rfl
theorem q973 : (Jvm.Cond.instanceMethod ({ cls := "MorrisTables", name := "restore", desc := "(I)I" } : Jvm.MethodName)) ∈ lw_all := lw_g (lw_at lw_m4 184 rfl) rfl
theorem q974 : (Jvm.Cond.selects "MorrisTables" ({ cls := "MorrisTables", name := "restore", desc := "(I)I" } : Jvm.MethodName) ({ cls := "MorrisTables", name := "restore", desc := "(I)I" } : Jvm.MethodName)) ∈ lw_all := lw_g (lw_at lw_m4 185 rfl) rfl
theorem q975 : (Jvm.Cond.code ({ cls := "MorrisTables", name := "restore", desc := "(I)I" } : Jvm.MethodName) prog_1_method_46_code (2 : Nat) (Option.some Jvm.ClassFile.FieldType.int)) ∈ lw_all := lw_g (lw_at lw_m4 186 rfl) rfl
theorem q1284 : (Jvm.Cond.castable "MorrisTables" "java/lang/Object") ∈ lw_tbl := lw_at lw_m6 15 rfl
theorem in_X0 : ∀ w ∈ wsX00, w ∈ lw_all := lw_in wsX00 [268, 270, 272, 274, 276] (by decide +kernel) (by decide +kernel)
end
