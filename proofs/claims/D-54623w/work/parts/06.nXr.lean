section
/-! MorrisTables$Store -/
set_option maxRecDepth 100000
def RX1 : String := "MorrisTables$Store"
def TX1 : u_T := fun k => match k with
  | _ => ("MorrisTables$Store", "things", "Ljava/util/List;", true)
def tyX1 : Nat → FieldType := fun k => match k with
  | _ => .object "java/util/List"
abbrev wsX10 : List Cond := u_ws RX1 TX1 1
theorem nmX1 : ∀ a, a < 1 → ∀ b, b < 1 → a ≠ b → (TX1 a).2.1 ≠ (TX1 b).2.1 := by decide +kernel
theorem tyX1_ok : ∀ k, k < 1 → parseFieldDescriptor (TX1 k).2.2.1 = some (tyX1 k) := by decide +kernel
abbrev cX1_init : ByteArray := prog_5_method_1_code
def yX1_init : MethodName := ⟨RX1, "<init>", "(I)V"⟩
def dkwX1_init_1 : List UInt8 := [180, 0, 10, 1, 185, 0, 16, 2, 0, 87, 132, 2, 1, 167, 255, 237, 177]
abbrev dktX1_init_1 : List UInt8 := dkwX1_init_1 ++ []
def dkwX1_init_0 : List UInt8 := [42, 183, 0, 1, 42, 187, 0, 7, 89, 183, 0, 9, 181, 0, 10, 3, 61, 28, 27, 162, 0, 20, 42]
abbrev dktX1_init_0 : List UInt8 := dkwX1_init_0 ++ dktX1_init_1
theorem dksX1_init_0 : cX1_init.data.toList.drop 0 = dktX1_init_0 := by decide +kernel
theorem dksX1_init_1 : cX1_init.data.toList.drop 23 = dktX1_init_1 := dk_seg dksX1_init_0 23 rfl rfl
theorem dX1_init_0 : decode cX1_init 0 = .ok (.aload_n 0, 1) := dk_42 (dk_at dksX1_init_0 0 rfl rfl)
theorem dX1_init_1 : decode cX1_init 1 = .ok (.invokespecial 1, 3) := dk_183 0 1 (dk_at dksX1_init_0 1 rfl rfl)
theorem dX1_init_4 : decode cX1_init 4 = .ok (.aload_n 0, 1) := dk_42 (dk_at dksX1_init_0 4 rfl rfl)
theorem dX1_init_5 : decode cX1_init 5 = .ok (.new 7, 3) := dk_187 0 7 (dk_at dksX1_init_0 5 rfl rfl)
theorem dX1_init_8 : decode cX1_init 8 = .ok (.dup, 1) := dk_89 (dk_at dksX1_init_0 8 rfl rfl)
theorem dX1_init_9 : decode cX1_init 9 = .ok (.invokespecial 9, 3) := dk_183 0 9 (dk_at dksX1_init_0 9 rfl rfl)
theorem dX1_init_12 : decode cX1_init 12 = .ok (.putfield 10, 3) := dk_181 0 10 (dk_at dksX1_init_0 12 rfl rfl)
theorem dX1_init_15 : decode cX1_init 15 = .ok (.iconst 0, 1) := dk_3 (dk_at dksX1_init_0 15 rfl rfl)
theorem dX1_init_16 : decode cX1_init 16 = .ok (.istore_n 2, 1) := dk_61 (dk_at dksX1_init_0 16 rfl rfl)
theorem dX1_init_17 : decode cX1_init 17 = .ok (.iload_n 2, 1) := dk_28 (dk_at dksX1_init_0 17 rfl rfl)
theorem dX1_init_18 : decode cX1_init 18 = .ok (.iload_n 1, 1) := dk_27 (dk_at dksX1_init_0 18 rfl rfl)
theorem dX1_init_19 : decode cX1_init 19 = .ok (.if_icmp .ge 20, 3) := dk_162 0 20 (dk_at dksX1_init_0 19 rfl rfl)
theorem dX1_init_22 : decode cX1_init 22 = .ok (.aload_n 0, 1) := dk_42 (dk_at dksX1_init_0 22 rfl rfl)
theorem dX1_init_23 : decode cX1_init 23 = .ok (.getfield 10, 3) := dk_180 0 10 (dk_at dksX1_init_1 0 rfl rfl)
theorem dX1_init_26 : decode cX1_init 26 = .ok (.aconst_null, 1) := dk_1 (dk_at dksX1_init_1 3 rfl rfl)
theorem dX1_init_27 : decode cX1_init 27 = .ok (.invokeinterface 16 2, 5) := by decide +kernel
theorem dX1_init_32 : decode cX1_init 32 = .ok (.pop, 1) := dk_87 (dk_at dksX1_init_1 9 rfl rfl)
theorem dX1_init_33 : decode cX1_init 33 = .ok (.iinc 2 1, 3) := dk_132 2 1 (dk_at dksX1_init_1 10 rfl rfl)
theorem dX1_init_36 : decode cX1_init 36 = .ok (.goto (-19), 3) := dk_167 255 237 (dk_at dksX1_init_1 13 rfl rfl)
theorem dX1_init_39 : decode cX1_init 39 = .ok (.return_, 1) := dk_177 (dk_at dksX1_init_1 16 rfl rfl)
abbrev cX1_has : ByteArray := prog_5_method_2_code
def yX1_has : MethodName := ⟨RX1, "has", "(I)Z"⟩
def dkwX1_has_0 : List UInt8 := [42, 180, 0, 10, 27, 185, 0, 22, 2, 0, 198, 0, 7, 4, 167, 0, 4, 3, 172]
abbrev dktX1_has_0 : List UInt8 := dkwX1_has_0 ++ []
theorem dksX1_has_0 : cX1_has.data.toList.drop 0 = dktX1_has_0 := by decide +kernel
theorem dX1_has_0 : decode cX1_has 0 = .ok (.aload_n 0, 1) := dk_42 (dk_at dksX1_has_0 0 rfl rfl)
theorem dX1_has_1 : decode cX1_has 1 = .ok (.getfield 10, 3) := dk_180 0 10 (dk_at dksX1_has_0 1 rfl rfl)
theorem dX1_has_4 : decode cX1_has 4 = .ok (.iload_n 1, 1) := dk_27 (dk_at dksX1_has_0 4 rfl rfl)
theorem dX1_has_5 : decode cX1_has 5 = .ok (.invokeinterface 22 2, 5) := by decide +kernel
theorem dX1_has_10 : decode cX1_has 10 = .ok (.ifnull 7, 3) := dk_198 0 7 (dk_at dksX1_has_0 10 rfl rfl)
theorem dX1_has_13 : decode cX1_has 13 = .ok (.iconst 1, 1) := dk_4 (dk_at dksX1_has_0 13 rfl rfl)
theorem dX1_has_14 : decode cX1_has 14 = .ok (.goto 4, 3) := dk_167 0 4 (dk_at dksX1_has_0 14 rfl rfl)
theorem dX1_has_17 : decode cX1_has 17 = .ok (.iconst 0, 1) := dk_3 (dk_at dksX1_has_0 17 rfl rfl)
theorem dX1_has_18 : decode cX1_has 18 = .ok (.ireturn, 1) := dk_172 (dk_at dksX1_has_0 18 rfl rfl)
abbrev cX1_get : ByteArray := prog_5_method_4_code
def yX1_get : MethodName := ⟨RX1, "get", "(I)LMorrisTables$Rules;"⟩
def dkwX1_get_0 : List UInt8 := [42, 180, 0, 10, 27, 185, 0, 22, 2, 0, 192, 0, 30, 176]
abbrev dktX1_get_0 : List UInt8 := dkwX1_get_0 ++ []
theorem dksX1_get_0 : cX1_get.data.toList.drop 0 = dktX1_get_0 := by decide +kernel
theorem dX1_get_0 : decode cX1_get 0 = .ok (.aload_n 0, 1) := dk_42 (dk_at dksX1_get_0 0 rfl rfl)
theorem dX1_get_1 : decode cX1_get 1 = .ok (.getfield 10, 3) := dk_180 0 10 (dk_at dksX1_get_0 1 rfl rfl)
theorem dX1_get_4 : decode cX1_get 4 = .ok (.iload_n 1, 1) := dk_27 (dk_at dksX1_get_0 4 rfl rfl)
theorem dX1_get_5 : decode cX1_get 5 = .ok (.invokeinterface 22 2, 5) := by decide +kernel
theorem dX1_get_10 : decode cX1_get 10 = .ok (.checkcast 30, 3) := dk_192 0 30 (dk_at dksX1_get_0 10 rfl rfl)
theorem dX1_get_13 : decode cX1_get 13 = .ok (.areturn, 1) := dk_176 (dk_at dksX1_get_0 13 rfl rfl)
abbrev cX1_put : ByteArray := prog_5_method_3_code
def yX1_put : MethodName := ⟨RX1, "put", "(ILMorrisTables$Rules;)LMorrisTables$Rules;"⟩
def dkwX1_put_0 : List UInt8 := [42, 180, 0, 10, 27, 44, 185, 0, 26, 3, 0, 87, 44, 176]
abbrev dktX1_put_0 : List UInt8 := dkwX1_put_0 ++ []
theorem dksX1_put_0 : cX1_put.data.toList.drop 0 = dktX1_put_0 := by decide +kernel
theorem dX1_put_0 : decode cX1_put 0 = .ok (.aload_n 0, 1) := dk_42 (dk_at dksX1_put_0 0 rfl rfl)
theorem dX1_put_1 : decode cX1_put 1 = .ok (.getfield 10, 3) := dk_180 0 10 (dk_at dksX1_put_0 1 rfl rfl)
theorem dX1_put_4 : decode cX1_put 4 = .ok (.iload_n 1, 1) := dk_27 (dk_at dksX1_put_0 4 rfl rfl)
theorem dX1_put_5 : decode cX1_put 5 = .ok (.aload_n 2, 1) := dk_44 (dk_at dksX1_put_0 5 rfl rfl)
theorem dX1_put_6 : decode cX1_put 6 = .ok (.invokeinterface 26 3, 5) := by decide +kernel
theorem dX1_put_11 : decode cX1_put 11 = .ok (.pop, 1) := dk_87 (dk_at dksX1_put_0 11 rfl rfl)
theorem dX1_put_12 : decode cX1_put 12 = .ok (.aload_n 2, 1) := dk_44 (dk_at dksX1_put_0 12 rfl rfl)
theorem dX1_put_13 : decode cX1_put 13 = .ok (.areturn, 1) := dk_176 (dk_at dksX1_put_0 13 rfl rfl)
theorem q71 : (Jvm.Cond.initialized "MorrisTables$Store") ∈ lw_all := lw_g (lw_at lw_m1 2 rfl) rfl
theorem q104 : (Jvm.Cond.instantiable "MorrisTables$Store" (1 : Nat)) ∈ lw_all := lw_g (lw_at lw_m1 35 rfl) rfl
theorem q106 : (Jvm.Cond.instanceMethod ({ cls := "MorrisTables$Store", name := "<init>", desc := "(I)V" } : Jvm.MethodName)) ∈ lw_all := lw_g (lw_at lw_m1 37 rfl) rfl
theorem q107 : (Jvm.Cond.code ({ cls := "MorrisTables$Store", name := "<init>", desc := "(I)V" } : Jvm.MethodName) prog_5_method_1_code (3 : Nat) (Option.none : Option Jvm.ClassFile.FieldType)) ∈ lw_all := lw_g (lw_at lw_m1 38 rfl) rfl
theorem q108 : (Jvm.Cond.methodLink "MorrisTables$Store" (1 : Nat) ({ cls := "java/lang/Object", name := "<init>", desc := "()V" } : Jvm.MethodName)) ∈ lw_all := lw_g (lw_at lw_m1 39 rfl) rfl
theorem q109 : (Jvm.Cond.classLink "MorrisTables$Store" (7 : Nat) "java/util/ArrayList") ∈ lw_all := lw_g (lw_at lw_m1 40 rfl) rfl
theorem q111 : (Jvm.Cond.methodLink "MorrisTables$Store" (9 : Nat) ({ cls := "java/util/ArrayList", name := "<init>", desc := "()V" } : Jvm.MethodName)) ∈ lw_all := lw_g (lw_at lw_m1 42 rfl) rfl
theorem q135 : (Jvm.Cond.interfaceEntry "MorrisTables$Store" (16 : Nat)) ∈ lw_tbl := lw_at lw_m1 66 rfl
theorem q136 : (Jvm.Cond.methodLink "MorrisTables$Store" (16 : Nat) ({ cls := "java/util/List", name := "add", desc := "(Ljava/lang/Object;)Z" } : Jvm.MethodName)) ∈ lw_all := lw_g (lw_at lw_m1 67 rfl) rfl
theorem q176 : (Jvm.Cond.selects "MorrisTables$Store" ({ cls := "java/lang/Object", name := "getClass", desc := "()Ljava/lang/Class;" } : Jvm.MethodName) ({ cls := "java/lang/Object", name := "getClass", desc := "()Ljava/lang/Class;" } : Jvm.MethodName)) ∈ lw_all := lw_g (lw_at lw_m1 107 rfl) rfl
theorem q196 : (Jvm.Cond.fieldLink "MorrisTables$Store" (10 : Nat) "MorrisTables$Store" "things" "Ljava/util/List;") ∈ lw_all := lw_g (lw_at lw_m1 127 rfl) rfl
theorem q197 : (Jvm.Cond.laysFinal "MorrisTables$Store" "MorrisTables$Store" "things" "Ljava/util/List;") ∈ lw_all := lw_g (lw_at lw_m1 128 rfl) rfl
theorem q198 : (Jvm.Cond.soleField "MorrisTables$Store" "things") ∈ lw_all := lw_g (lw_at lw_m1 129 rfl) rfl
theorem q199 : (Jvm.Cond.superclass "MorrisTables$Store" "java/lang/Object") ∈ lw_all := lw_g (lw_at lw_m1 130 rfl) rfl
theorem q374 : (Jvm.Cond.instanceMethod ({ cls := "MorrisTables$Store", name := "has", desc := "(I)Z" } : Jvm.MethodName)) ∈ lw_all := lw_g (lw_at lw_m2 65 rfl) rfl
theorem q375 : (Jvm.Cond.selects "MorrisTables$Store" ({ cls := "MorrisTables$Store", name := "has", desc := "(I)Z" } : Jvm.MethodName) ({ cls := "MorrisTables$Store", name := "has", desc := "(I)Z" } : Jvm.MethodName)) ∈ lw_all := lw_g (lw_at lw_m2 66 rfl) rfl
theorem q376 : (Jvm.Cond.code ({ cls := "MorrisTables$Store", name := "has", desc := "(I)Z" } : Jvm.MethodName) prog_5_method_2_code (2 : Nat) (Option.some Jvm.ClassFile.FieldType.boolean)) ∈ lw_all := lw_g (lw_at lw_m2 67 rfl) rfl
theorem q377 : (Jvm.Cond.interfaceEntry "MorrisTables$Store" (22 : Nat)) ∈ lw_tbl := lw_at lw_m2 68 rfl
theorem q378 : (Jvm.Cond.methodLink "MorrisTables$Store" (22 : Nat) ({ cls := "java/util/List", name := "get", desc := "(I)Ljava/lang/Object;" } : Jvm.MethodName)) ∈ lw_all := lw_g (lw_at lw_m2 69 rfl) rfl
theorem q391 : (Jvm.Cond.instanceMethod ({ cls := "MorrisTables$Store", name := "get", desc := "(I)LMorrisTables$Rules;" } : Jvm.MethodName)) ∈ lw_all := lw_g (lw_at lw_m2 82 rfl) rfl
theorem q392 : (Jvm.Cond.selects "MorrisTables$Store" ({ cls := "MorrisTables$Store", name := "get", desc := "(I)LMorrisTables$Rules;" } : Jvm.MethodName) ({ cls := "MorrisTables$Store", name := "get", desc := "(I)LMorrisTables$Rules;" } : Jvm.MethodName)) ∈ lw_all := lw_g (lw_at lw_m2 83 rfl) rfl
theorem q393 : (Jvm.Cond.code ({ cls := "MorrisTables$Store", name := "get", desc := "(I)LMorrisTables$Rules;" } : Jvm.MethodName) prog_5_method_4_code (2 : Nat) (Option.some (Jvm.ClassFile.FieldType.object "MorrisTables$Rules"))) ∈ lw_all := lw_g (lw_at lw_m2 84 rfl) rfl
theorem q394 : (Jvm.Cond.classLink "MorrisTables$Store" (30 : Nat) "MorrisTables$Rules") ∈ lw_all := lw_g (lw_at lw_m2 85 rfl) rfl
theorem q533 : (Jvm.Cond.instanceMethod ({ cls := "MorrisTables$Store", name := "put", desc := "(ILMorrisTables$Rules;)LMorrisTables$Rules;" } : Jvm.MethodName)) ∈ lw_all := lw_g (lw_at lw_m2 224 rfl) rfl
theorem q534 : (Jvm.Cond.selects "MorrisTables$Store" ({ cls := "MorrisTables$Store", name := "put", desc := "(ILMorrisTables$Rules;)LMorrisTables$Rules;" } : Jvm.MethodName) ({ cls := "MorrisTables$Store", name := "put", desc := "(ILMorrisTables$Rules;)LMorrisTables$Rules;" } : Jvm.MethodName)) ∈ lw_all := lw_g (lw_at lw_m2 225 rfl) rfl
theorem q535 : (Jvm.Cond.code ({ cls := "MorrisTables$Store", name := "put", desc := "(ILMorrisTables$Rules;)LMorrisTables$Rules;" } : Jvm.MethodName) prog_5_method_3_code (3 : Nat) (Option.some (Jvm.ClassFile.FieldType.object "MorrisTables$Rules"))) ∈ lw_all := lw_g (lw_at lw_m2 226 rfl) rfl
theorem q536 : (Jvm.Cond.interfaceEntry "MorrisTables$Store" (26 : Nat)) ∈ lw_tbl := lw_at lw_m2 227 rfl
theorem q537 : (Jvm.Cond.methodLink "MorrisTables$Store" (26 : Nat) ({ cls := "java/util/List", name := "set", desc := "(ILjava/lang/Object;)Ljava/lang/Object;" } : Jvm.MethodName)) ∈ lw_all := lw_g (lw_at lw_m2 228 rfl) rfl
theorem q1285 : (Jvm.Cond.castable "MorrisTables$Store" "java/lang/Object") ∈ lw_tbl := lw_at lw_m6 16 rfl
theorem in_X1 : ∀ w ∈ wsX10, w ∈ lw_all := lw_in wsX10 [197] (by decide +kernel) (by decide +kernel)
end

section
/-! MorrisTables$Game -/
set_option maxRecDepth 100000
def RX2 : String := "MorrisTables$Game"
def TX2 : u_T := fun k => match k with
  | 0 => ("MorrisTables$Game", "settings", "[I", false)
  | 1 => ("MorrisTables$Game", "men", "[I", false)
  | 2 => ("MorrisTables$Game", "mover", "I", false)
  | 3 => ("MorrisTables$Game", "came", "[I", false)
  | _ => ("MorrisTables$Game", "moves", "I", false)
def tyX2 : Nat → FieldType := fun k => match k with
  | 0 => .array .int
  | 1 => .array .int
  | 2 => .int
  | 3 => .array .int
  | _ => .int
abbrev wsX20 : List Cond := u_ws RX2 TX2 5
theorem nmX2 : ∀ a, a < 5 → ∀ b, b < 5 → a ≠ b → (TX2 a).2.1 ≠ (TX2 b).2.1 := by decide +kernel
theorem tyX2_ok : ∀ k, k < 5 → parseFieldDescriptor (TX2 k).2.2.1 = some (tyX2 k) := by decide +kernel
abbrev cX2_init : ByteArray := prog_2_method_1_code
def yX2_init : MethodName := ⟨RX2, "<init>", "()V"⟩
def dkwX2_init_1 : List UInt8 := [181, 0, 15, 42, 4, 188, 10, 181, 0, 18, 177]
abbrev dktX2_init_1 : List UInt8 := dkwX2_init_1 ++ []
def dkwX2_init_0 : List UInt8 := [42, 183, 0, 3, 42, 5, 188, 10, 89, 3, 4, 79, 89, 4, 3, 79, 181, 0, 9, 42, 5, 188, 10]
abbrev dktX2_init_0 : List UInt8 := dkwX2_init_0 ++ dktX2_init_1
theorem dksX2_init_0 : cX2_init.data.toList.drop 0 = dktX2_init_0 := by decide +kernel
theorem dksX2_init_1 : cX2_init.data.toList.drop 23 = dktX2_init_1 := dk_seg dksX2_init_0 23 rfl rfl
theorem dX2_init_0 : decode cX2_init 0 = .ok (.aload_n 0, 1) := dk_42 (dk_at dksX2_init_0 0 rfl rfl)
theorem dX2_init_1 : decode cX2_init 1 = .ok (.invokespecial 3, 3) := dk_183 0 3 (dk_at dksX2_init_0 1 rfl rfl)
theorem dX2_init_4 : decode cX2_init 4 = .ok (.aload_n 0, 1) := dk_42 (dk_at dksX2_init_0 4 rfl rfl)
theorem dX2_init_5 : decode cX2_init 5 = .ok (.iconst 2, 1) := dk_5 (dk_at dksX2_init_0 5 rfl rfl)
theorem dX2_init_6 : decode cX2_init 6 = .ok (.newarray .int, 2) := dk_188_10 (dk_at dksX2_init_0 6 rfl rfl)
theorem dX2_init_8 : decode cX2_init 8 = .ok (.dup, 1) := dk_89 (dk_at dksX2_init_0 8 rfl rfl)
theorem dX2_init_9 : decode cX2_init 9 = .ok (.iconst 0, 1) := dk_3 (dk_at dksX2_init_0 9 rfl rfl)
theorem dX2_init_10 : decode cX2_init 10 = .ok (.iconst 1, 1) := dk_4 (dk_at dksX2_init_0 10 rfl rfl)
theorem dX2_init_11 : decode cX2_init 11 = .ok (.iastore, 1) := dk_79 (dk_at dksX2_init_0 11 rfl rfl)
theorem dX2_init_12 : decode cX2_init 12 = .ok (.dup, 1) := dk_89 (dk_at dksX2_init_0 12 rfl rfl)
theorem dX2_init_13 : decode cX2_init 13 = .ok (.iconst 1, 1) := dk_4 (dk_at dksX2_init_0 13 rfl rfl)
theorem dX2_init_14 : decode cX2_init 14 = .ok (.iconst 0, 1) := dk_3 (dk_at dksX2_init_0 14 rfl rfl)
theorem dX2_init_15 : decode cX2_init 15 = .ok (.iastore, 1) := dk_79 (dk_at dksX2_init_0 15 rfl rfl)
theorem dX2_init_16 : decode cX2_init 16 = .ok (.putfield 9, 3) := dk_181 0 9 (dk_at dksX2_init_0 16 rfl rfl)
theorem dX2_init_19 : decode cX2_init 19 = .ok (.aload_n 0, 1) := dk_42 (dk_at dksX2_init_0 19 rfl rfl)
theorem dX2_init_20 : decode cX2_init 20 = .ok (.iconst 2, 1) := dk_5 (dk_at dksX2_init_0 20 rfl rfl)
theorem dX2_init_21 : decode cX2_init 21 = .ok (.newarray .int, 2) := dk_188_10 (dk_at dksX2_init_0 21 rfl rfl)
theorem dX2_init_23 : decode cX2_init 23 = .ok (.putfield 15, 3) := dk_181 0 15 (dk_at dksX2_init_1 0 rfl rfl)
theorem dX2_init_26 : decode cX2_init 26 = .ok (.aload_n 0, 1) := dk_42 (dk_at dksX2_init_1 3 rfl rfl)
theorem dX2_init_27 : decode cX2_init 27 = .ok (.iconst 1, 1) := dk_4 (dk_at dksX2_init_1 4 rfl rfl)
theorem dX2_init_28 : decode cX2_init 28 = .ok (.newarray .int, 2) := dk_188_10 (dk_at dksX2_init_1 5 rfl rfl)
theorem dX2_init_30 : decode cX2_init 30 = .ok (.putfield 18, 3) := dk_181 0 18 (dk_at dksX2_init_1 7 rfl rfl)
theorem dX2_init_33 : decode cX2_init 33 = .ok (.return_, 1) := dk_177 (dk_at dksX2_init_1 10 rfl rfl)
abbrev cX2_copy : ByteArray := prog_2_method_2_code
def yX2_copy : MethodName := ⟨RX2, "copy", "()LMorrisTables$Game;"⟩
def dkwX2_copy_2 : List UInt8 := [180, 0, 18, 182, 0, 22, 192, 0, 23, 181, 0, 18, 43, 42, 180, 0, 31, 181, 0, 31, 43, 176]
abbrev dktX2_copy_2 : List UInt8 := dkwX2_copy_2 ++ []
def dkwX2_copy_1 : List UInt8 := [180, 0, 15, 182, 0, 22, 192, 0, 23, 181, 0, 15, 43, 42, 180, 0, 27, 181, 0, 27, 43, 42]
abbrev dktX2_copy_1 : List UInt8 := dkwX2_copy_1 ++ dktX2_copy_2
def dkwX2_copy_0 : List UInt8 := [187, 0, 10, 89, 183, 0, 21, 76, 43, 42, 180, 0, 9, 182, 0, 22, 192, 0, 23, 181, 0, 9, 43, 42]
abbrev dktX2_copy_0 : List UInt8 := dkwX2_copy_0 ++ dktX2_copy_1
theorem dksX2_copy_0 : cX2_copy.data.toList.drop 0 = dktX2_copy_0 := by decide +kernel
theorem dksX2_copy_1 : cX2_copy.data.toList.drop 24 = dktX2_copy_1 := dk_seg dksX2_copy_0 24 rfl rfl
theorem dksX2_copy_2 : cX2_copy.data.toList.drop 46 = dktX2_copy_2 := dk_seg dksX2_copy_1 22 rfl rfl
theorem dX2_copy_0 : decode cX2_copy 0 = .ok (.new 10, 3) := dk_187 0 10 (dk_at dksX2_copy_0 0 rfl rfl)
theorem dX2_copy_3 : decode cX2_copy 3 = .ok (.dup, 1) := dk_89 (dk_at dksX2_copy_0 3 rfl rfl)
theorem dX2_copy_4 : decode cX2_copy 4 = .ok (.invokespecial 21, 3) := dk_183 0 21 (dk_at dksX2_copy_0 4 rfl rfl)
theorem dX2_copy_7 : decode cX2_copy 7 = .ok (.astore_n 1, 1) := dk_76 (dk_at dksX2_copy_0 7 rfl rfl)
theorem dX2_copy_8 : decode cX2_copy 8 = .ok (.aload_n 1, 1) := dk_43 (dk_at dksX2_copy_0 8 rfl rfl)
theorem dX2_copy_9 : decode cX2_copy 9 = .ok (.aload_n 0, 1) := dk_42 (dk_at dksX2_copy_0 9 rfl rfl)
theorem dX2_copy_10 : decode cX2_copy 10 = .ok (.getfield 9, 3) := dk_180 0 9 (dk_at dksX2_copy_0 10 rfl rfl)
theorem dX2_copy_13 : decode cX2_copy 13 = .ok (.invokevirtual 22, 3) := dk_182 0 22 (dk_at dksX2_copy_0 13 rfl rfl)
theorem dX2_copy_16 : decode cX2_copy 16 = .ok (.checkcast 23, 3) := dk_192 0 23 (dk_at dksX2_copy_0 16 rfl rfl)
theorem dX2_copy_19 : decode cX2_copy 19 = .ok (.putfield 9, 3) := dk_181 0 9 (dk_at dksX2_copy_0 19 rfl rfl)
theorem dX2_copy_22 : decode cX2_copy 22 = .ok (.aload_n 1, 1) := dk_43 (dk_at dksX2_copy_0 22 rfl rfl)
theorem dX2_copy_23 : decode cX2_copy 23 = .ok (.aload_n 0, 1) := dk_42 (dk_at dksX2_copy_0 23 rfl rfl)
theorem dX2_copy_24 : decode cX2_copy 24 = .ok (.getfield 15, 3) := dk_180 0 15 (dk_at dksX2_copy_1 0 rfl rfl)
theorem dX2_copy_27 : decode cX2_copy 27 = .ok (.invokevirtual 22, 3) := dk_182 0 22 (dk_at dksX2_copy_1 3 rfl rfl)
theorem dX2_copy_30 : decode cX2_copy 30 = .ok (.checkcast 23, 3) := dk_192 0 23 (dk_at dksX2_copy_1 6 rfl rfl)
theorem dX2_copy_33 : decode cX2_copy 33 = .ok (.putfield 15, 3) := dk_181 0 15 (dk_at dksX2_copy_1 9 rfl rfl)
theorem dX2_copy_36 : decode cX2_copy 36 = .ok (.aload_n 1, 1) := dk_43 (dk_at dksX2_copy_1 12 rfl rfl)
theorem dX2_copy_37 : decode cX2_copy 37 = .ok (.aload_n 0, 1) := dk_42 (dk_at dksX2_copy_1 13 rfl rfl)
theorem dX2_copy_38 : decode cX2_copy 38 = .ok (.getfield 27, 3) := dk_180 0 27 (dk_at dksX2_copy_1 14 rfl rfl)
theorem dX2_copy_41 : decode cX2_copy 41 = .ok (.putfield 27, 3) := dk_181 0 27 (dk_at dksX2_copy_1 17 rfl rfl)
theorem dX2_copy_44 : decode cX2_copy 44 = .ok (.aload_n 1, 1) := dk_43 (dk_at dksX2_copy_1 20 rfl rfl)
theorem dX2_copy_45 : decode cX2_copy 45 = .ok (.aload_n 0, 1) := dk_42 (dk_at dksX2_copy_1 21 rfl rfl)
theorem dX2_copy_46 : decode cX2_copy 46 = .ok (.getfield 18, 3) := dk_180 0 18 (dk_at dksX2_copy_2 0 rfl rfl)
theorem dX2_copy_49 : decode cX2_copy 49 = .ok (.invokevirtual 22, 3) := dk_182 0 22 (dk_at dksX2_copy_2 3 rfl rfl)
theorem dX2_copy_52 : decode cX2_copy 52 = .ok (.checkcast 23, 3) := dk_192 0 23 (dk_at dksX2_copy_2 6 rfl rfl)
theorem dX2_copy_55 : decode cX2_copy 55 = .ok (.putfield 18, 3) := dk_181 0 18 (dk_at dksX2_copy_2 9 rfl rfl)
theorem dX2_copy_58 : decode cX2_copy 58 = .ok (.aload_n 1, 1) := dk_43 (dk_at dksX2_copy_2 12 rfl rfl)
theorem dX2_copy_59 : decode cX2_copy 59 = .ok (.aload_n 0, 1) := dk_42 (dk_at dksX2_copy_2 13 rfl rfl)
theorem dX2_copy_60 : decode cX2_copy 60 = .ok (.getfield 31, 3) := dk_180 0 31 (dk_at dksX2_copy_2 14 rfl rfl)
theorem dX2_copy_63 : decode cX2_copy 63 = .ok (.putfield 31, 3) := dk_181 0 31 (dk_at dksX2_copy_2 17 rfl rfl)
theorem dX2_copy_66 : decode cX2_copy 66 = .ok (.aload_n 1, 1) := dk_43 (dk_at dksX2_copy_2 20 rfl rfl)
theorem dX2_copy_67 : decode cX2_copy 67 = .ok (.areturn, 1) := dk_176 (dk_at dksX2_copy_2 21 rfl rfl)
abbrev cX2_begin : ByteArray := prog_2_method_5_code
def yX2_begin : MethodName := ⟨RX2, "begin", "()V"⟩
def dkwX2_begin_1 : List UInt8 := [177]
abbrev dktX2_begin_1 : List UInt8 := dkwX2_begin_1 ++ []
def dkwX2_begin_0 : List UInt8 := [42, 5, 188, 10, 181, 0, 15, 42, 3, 181, 0, 27, 42, 3, 181, 0, 31, 42, 4, 188, 10, 181, 0, 18]
abbrev dktX2_begin_0 : List UInt8 := dkwX2_begin_0 ++ dktX2_begin_1
theorem dksX2_begin_0 : cX2_begin.data.toList.drop 0 = dktX2_begin_0 := by decide +kernel
theorem dksX2_begin_1 : cX2_begin.data.toList.drop 24 = dktX2_begin_1 := dk_seg dksX2_begin_0 24 rfl rfl
theorem dX2_begin_0 : decode cX2_begin 0 = .ok (.aload_n 0, 1) := dk_42 (dk_at dksX2_begin_0 0 rfl rfl)
theorem dX2_begin_1 : decode cX2_begin 1 = .ok (.iconst 2, 1) := dk_5 (dk_at dksX2_begin_0 1 rfl rfl)
theorem dX2_begin_2 : decode cX2_begin 2 = .ok (.newarray .int, 2) := dk_188_10 (dk_at dksX2_begin_0 2 rfl rfl)
theorem dX2_begin_4 : decode cX2_begin 4 = .ok (.putfield 15, 3) := dk_181 0 15 (dk_at dksX2_begin_0 4 rfl rfl)
theorem dX2_begin_7 : decode cX2_begin 7 = .ok (.aload_n 0, 1) := dk_42 (dk_at dksX2_begin_0 7 rfl rfl)
theorem dX2_begin_8 : decode cX2_begin 8 = .ok (.iconst 0, 1) := dk_3 (dk_at dksX2_begin_0 8 rfl rfl)
theorem dX2_begin_9 : decode cX2_begin 9 = .ok (.putfield 27, 3) := dk_181 0 27 (dk_at dksX2_begin_0 9 rfl rfl)
theorem dX2_begin_12 : decode cX2_begin 12 = .ok (.aload_n 0, 1) := dk_42 (dk_at dksX2_begin_0 12 rfl rfl)
theorem dX2_begin_13 : decode cX2_begin 13 = .ok (.iconst 0, 1) := dk_3 (dk_at dksX2_begin_0 13 rfl rfl)
theorem dX2_begin_14 : decode cX2_begin 14 = .ok (.putfield 31, 3) := dk_181 0 31 (dk_at dksX2_begin_0 14 rfl rfl)
theorem dX2_begin_17 : decode cX2_begin 17 = .ok (.aload_n 0, 1) := dk_42 (dk_at dksX2_begin_0 17 rfl rfl)
theorem dX2_begin_18 : decode cX2_begin 18 = .ok (.iconst 1, 1) := dk_4 (dk_at dksX2_begin_0 18 rfl rfl)
theorem dX2_begin_19 : decode cX2_begin 19 = .ok (.newarray .int, 2) := dk_188_10 (dk_at dksX2_begin_0 19 rfl rfl)
theorem dX2_begin_21 : decode cX2_begin 21 = .ok (.putfield 18, 3) := dk_181 0 18 (dk_at dksX2_begin_0 21 rfl rfl)
theorem dX2_begin_24 : decode cX2_begin 24 = .ok (.return_, 1) := dk_177 (dk_at dksX2_begin_1 0 rfl rfl)
abbrev cX2_times : ByteArray := prog_2_method_4_code
def yX2_times : MethodName := ⟨RX2, "times", "()I"⟩
def dkwX2_times_2 : List UInt8 := [167, 255, 224, 27, 172]
abbrev dktX2_times_2 : List UInt8 := dkwX2_times_2 ++ []
def dkwX2_times_1 : List UInt8 := [54, 5, 27, 21, 5, 42, 182, 0, 34, 160, 0, 7, 4, 167, 0, 4, 3, 96, 60, 132, 4, 1]
abbrev dktX2_times_1 : List UInt8 := dkwX2_times_1 ++ dktX2_times_2
def dkwX2_times_0 : List UInt8 := [3, 60, 42, 180, 0, 18, 77, 44, 190, 62, 3, 54, 4, 21, 4, 29, 162, 0, 32, 44, 21, 4, 46]
abbrev dktX2_times_0 : List UInt8 := dkwX2_times_0 ++ dktX2_times_1
theorem dksX2_times_0 : cX2_times.data.toList.drop 0 = dktX2_times_0 := by decide +kernel
theorem dksX2_times_1 : cX2_times.data.toList.drop 23 = dktX2_times_1 := dk_seg dksX2_times_0 23 rfl rfl
theorem dksX2_times_2 : cX2_times.data.toList.drop 45 = dktX2_times_2 := dk_seg dksX2_times_1 22 rfl rfl
theorem dX2_times_0 : decode cX2_times 0 = .ok (.iconst 0, 1) := dk_3 (dk_at dksX2_times_0 0 rfl rfl)
theorem dX2_times_1 : decode cX2_times 1 = .ok (.istore_n 1, 1) := dk_60 (dk_at dksX2_times_0 1 rfl rfl)
theorem dX2_times_2 : decode cX2_times 2 = .ok (.aload_n 0, 1) := dk_42 (dk_at dksX2_times_0 2 rfl rfl)
theorem dX2_times_3 : decode cX2_times 3 = .ok (.getfield 18, 3) := dk_180 0 18 (dk_at dksX2_times_0 3 rfl rfl)
theorem dX2_times_6 : decode cX2_times 6 = .ok (.astore_n 2, 1) := dk_77 (dk_at dksX2_times_0 6 rfl rfl)
theorem dX2_times_7 : decode cX2_times 7 = .ok (.aload_n 2, 1) := dk_44 (dk_at dksX2_times_0 7 rfl rfl)
theorem dX2_times_8 : decode cX2_times 8 = .ok (.arraylength, 1) := dk_190 (dk_at dksX2_times_0 8 rfl rfl)
theorem dX2_times_9 : decode cX2_times 9 = .ok (.istore_n 3, 1) := dk_62 (dk_at dksX2_times_0 9 rfl rfl)
theorem dX2_times_10 : decode cX2_times 10 = .ok (.iconst 0, 1) := dk_3 (dk_at dksX2_times_0 10 rfl rfl)
theorem dX2_times_11 : decode cX2_times 11 = .ok (.istore 4, 2) := dk_54 4 (dk_at dksX2_times_0 11 rfl rfl)
theorem dX2_times_13 : decode cX2_times 13 = .ok (.iload 4, 2) := dk_21 4 (dk_at dksX2_times_0 13 rfl rfl)
theorem dX2_times_15 : decode cX2_times 15 = .ok (.iload_n 3, 1) := dk_29 (dk_at dksX2_times_0 15 rfl rfl)
theorem dX2_times_16 : decode cX2_times 16 = .ok (.if_icmp .ge 32, 3) := dk_162 0 32 (dk_at dksX2_times_0 16 rfl rfl)
theorem dX2_times_19 : decode cX2_times 19 = .ok (.aload_n 2, 1) := dk_44 (dk_at dksX2_times_0 19 rfl rfl)
theorem dX2_times_20 : decode cX2_times 20 = .ok (.iload 4, 2) := dk_21 4 (dk_at dksX2_times_0 20 rfl rfl)
theorem dX2_times_22 : decode cX2_times 22 = .ok (.iaload, 1) := dk_46 (dk_at dksX2_times_0 22 rfl rfl)
theorem dX2_times_23 : decode cX2_times 23 = .ok (.istore 5, 2) := dk_54 5 (dk_at dksX2_times_1 0 rfl rfl)
theorem dX2_times_25 : decode cX2_times 25 = .ok (.iload_n 1, 1) := dk_27 (dk_at dksX2_times_1 2 rfl rfl)
theorem dX2_times_26 : decode cX2_times 26 = .ok (.iload 5, 2) := dk_21 5 (dk_at dksX2_times_1 3 rfl rfl)
theorem dX2_times_28 : decode cX2_times 28 = .ok (.aload_n 0, 1) := dk_42 (dk_at dksX2_times_1 5 rfl rfl)
theorem dX2_times_29 : decode cX2_times 29 = .ok (.invokevirtual 34, 3) := dk_182 0 34 (dk_at dksX2_times_1 6 rfl rfl)
theorem dX2_times_32 : decode cX2_times 32 = .ok (.if_icmp .ne 7, 3) := dk_160 0 7 (dk_at dksX2_times_1 9 rfl rfl)
theorem dX2_times_35 : decode cX2_times 35 = .ok (.iconst 1, 1) := dk_4 (dk_at dksX2_times_1 12 rfl rfl)
theorem dX2_times_36 : decode cX2_times 36 = .ok (.goto 4, 3) := dk_167 0 4 (dk_at dksX2_times_1 13 rfl rfl)
theorem dX2_times_39 : decode cX2_times 39 = .ok (.iconst 0, 1) := dk_3 (dk_at dksX2_times_1 16 rfl rfl)
theorem dX2_times_40 : decode cX2_times 40 = .ok (.iadd, 1) := dk_96 (dk_at dksX2_times_1 17 rfl rfl)
theorem dX2_times_41 : decode cX2_times 41 = .ok (.istore_n 1, 1) := dk_60 (dk_at dksX2_times_1 18 rfl rfl)
theorem dX2_times_42 : decode cX2_times 42 = .ok (.iinc 4 1, 3) := dk_132 4 1 (dk_at dksX2_times_1 19 rfl rfl)
theorem dX2_times_45 : decode cX2_times 45 = .ok (.goto (-32), 3) := dk_167 255 224 (dk_at dksX2_times_2 0 rfl rfl)
theorem dX2_times_48 : decode cX2_times 48 = .ok (.iload_n 1, 1) := dk_27 (dk_at dksX2_times_2 3 rfl rfl)
theorem dX2_times_49 : decode cX2_times 49 = .ok (.ireturn, 1) := dk_172 (dk_at dksX2_times_2 4 rfl rfl)
abbrev cX2_board : ByteArray := prog_2_method_3_code
def yX2_board : MethodName := ⟨RX2, "board", "()I"⟩
def dkwX2_board_1 : List UInt8 := [172]
abbrev dktX2_board_1 : List UInt8 := dkwX2_board_1 ++ []
def dkwX2_board_0 : List UInt8 := [42, 180, 0, 15, 3, 46, 42, 180, 0, 15, 4, 46, 16, 9, 120, 128, 42, 180, 0, 27, 16, 18, 120, 128]
abbrev dktX2_board_0 : List UInt8 := dkwX2_board_0 ++ dktX2_board_1
theorem dksX2_board_0 : cX2_board.data.toList.drop 0 = dktX2_board_0 := by decide +kernel
theorem dksX2_board_1 : cX2_board.data.toList.drop 24 = dktX2_board_1 := dk_seg dksX2_board_0 24 rfl rfl
theorem dX2_board_0 : decode cX2_board 0 = .ok (.aload_n 0, 1) := dk_42 (dk_at dksX2_board_0 0 rfl rfl)
theorem dX2_board_1 : decode cX2_board 1 = .ok (.getfield 15, 3) := dk_180 0 15 (dk_at dksX2_board_0 1 rfl rfl)
theorem dX2_board_4 : decode cX2_board 4 = .ok (.iconst 0, 1) := dk_3 (dk_at dksX2_board_0 4 rfl rfl)
theorem dX2_board_5 : decode cX2_board 5 = .ok (.iaload, 1) := dk_46 (dk_at dksX2_board_0 5 rfl rfl)
theorem dX2_board_6 : decode cX2_board 6 = .ok (.aload_n 0, 1) := dk_42 (dk_at dksX2_board_0 6 rfl rfl)
theorem dX2_board_7 : decode cX2_board 7 = .ok (.getfield 15, 3) := dk_180 0 15 (dk_at dksX2_board_0 7 rfl rfl)
theorem dX2_board_10 : decode cX2_board 10 = .ok (.iconst 1, 1) := dk_4 (dk_at dksX2_board_0 10 rfl rfl)
theorem dX2_board_11 : decode cX2_board 11 = .ok (.iaload, 1) := dk_46 (dk_at dksX2_board_0 11 rfl rfl)
theorem dX2_board_12 : decode cX2_board 12 = .ok (.bipush 9, 2) := dk_16 9 (dk_at dksX2_board_0 12 rfl rfl)
theorem dX2_board_14 : decode cX2_board 14 = .ok (.ishl, 1) := dk_120 (dk_at dksX2_board_0 14 rfl rfl)
theorem dX2_board_15 : decode cX2_board 15 = .ok (.ior, 1) := dk_128 (dk_at dksX2_board_0 15 rfl rfl)
theorem dX2_board_16 : decode cX2_board 16 = .ok (.aload_n 0, 1) := dk_42 (dk_at dksX2_board_0 16 rfl rfl)
theorem dX2_board_17 : decode cX2_board 17 = .ok (.getfield 27, 3) := dk_180 0 27 (dk_at dksX2_board_0 17 rfl rfl)
theorem dX2_board_20 : decode cX2_board 20 = .ok (.bipush 18, 2) := dk_16 18 (dk_at dksX2_board_0 20 rfl rfl)
theorem dX2_board_22 : decode cX2_board 22 = .ok (.ishl, 1) := dk_120 (dk_at dksX2_board_0 22 rfl rfl)
theorem dX2_board_23 : decode cX2_board 23 = .ok (.ior, 1) := dk_128 (dk_at dksX2_board_0 23 rfl rfl)
theorem dX2_board_24 : decode cX2_board 24 = .ok (.ireturn, 1) := dk_172 (dk_at dksX2_board_1 0 rfl rfl)
abbrev cX2_make : ByteArray := prog_2_method_6_code
def yX2_make : MethodName := ⟨RX2, "make", "(I)V"⟩
def dkwX2_make_3 : List UInt8 := [180, 0, 18, 44, 190, 42, 182, 0, 34, 79, 177]
abbrev dktX2_make_3 : List UInt8 := dkwX2_make_3 ++ []
def dkwX2_make_2 : List UInt8 := [44, 190, 4, 96, 188, 10, 181, 0, 18, 44, 3, 42, 180, 0, 18, 3, 44, 190, 184, 0, 44, 42]
abbrev dktX2_make_2 : List UInt8 := dkwX2_make_2 ++ dktX2_make_3
def dkwX2_make_1 : List UInt8 := [42, 180, 0, 27, 100, 181, 0, 27, 42, 89, 180, 0, 31, 4, 96, 181, 0, 31, 42, 180, 0, 18, 77, 42]
abbrev dktX2_make_1 : List UInt8 := dkwX2_make_1 ++ dktX2_make_2
def dkwX2_make_0 : List UInt8 := [42, 180, 0, 15, 42, 180, 0, 27, 42, 180, 0, 15, 42, 180, 0, 27, 46, 27, 184, 0, 38, 79, 42, 4]
abbrev dktX2_make_0 : List UInt8 := dkwX2_make_0 ++ dktX2_make_1
theorem dksX2_make_0 : cX2_make.data.toList.drop 0 = dktX2_make_0 := by decide +kernel
theorem dksX2_make_1 : cX2_make.data.toList.drop 24 = dktX2_make_1 := dk_seg dksX2_make_0 24 rfl rfl
theorem dksX2_make_2 : cX2_make.data.toList.drop 48 = dktX2_make_2 := dk_seg dksX2_make_1 24 rfl rfl
theorem dksX2_make_3 : cX2_make.data.toList.drop 70 = dktX2_make_3 := dk_seg dksX2_make_2 22 rfl rfl
theorem dX2_make_0 : decode cX2_make 0 = .ok (.aload_n 0, 1) := dk_42 (dk_at dksX2_make_0 0 rfl rfl)
theorem dX2_make_1 : decode cX2_make 1 = .ok (.getfield 15, 3) := dk_180 0 15 (dk_at dksX2_make_0 1 rfl rfl)
theorem dX2_make_4 : decode cX2_make 4 = .ok (.aload_n 0, 1) := dk_42 (dk_at dksX2_make_0 4 rfl rfl)
theorem dX2_make_5 : decode cX2_make 5 = .ok (.getfield 27, 3) := dk_180 0 27 (dk_at dksX2_make_0 5 rfl rfl)
theorem dX2_make_8 : decode cX2_make 8 = .ok (.aload_n 0, 1) := dk_42 (dk_at dksX2_make_0 8 rfl rfl)
theorem dX2_make_9 : decode cX2_make 9 = .ok (.getfield 15, 3) := dk_180 0 15 (dk_at dksX2_make_0 9 rfl rfl)
theorem dX2_make_12 : decode cX2_make 12 = .ok (.aload_n 0, 1) := dk_42 (dk_at dksX2_make_0 12 rfl rfl)
theorem dX2_make_13 : decode cX2_make 13 = .ok (.getfield 27, 3) := dk_180 0 27 (dk_at dksX2_make_0 13 rfl rfl)
theorem dX2_make_16 : decode cX2_make 16 = .ok (.iaload, 1) := dk_46 (dk_at dksX2_make_0 16 rfl rfl)
theorem dX2_make_17 : decode cX2_make 17 = .ok (.iload_n 1, 1) := dk_27 (dk_at dksX2_make_0 17 rfl rfl)
theorem dX2_make_18 : decode cX2_make 18 = .ok (.invokestatic 38, 3) := dk_184 0 38 (dk_at dksX2_make_0 18 rfl rfl)
theorem dX2_make_21 : decode cX2_make 21 = .ok (.iastore, 1) := dk_79 (dk_at dksX2_make_0 21 rfl rfl)
theorem dX2_make_22 : decode cX2_make 22 = .ok (.aload_n 0, 1) := dk_42 (dk_at dksX2_make_0 22 rfl rfl)
theorem dX2_make_23 : decode cX2_make 23 = .ok (.iconst 1, 1) := dk_4 (dk_at dksX2_make_0 23 rfl rfl)
theorem dX2_make_24 : decode cX2_make 24 = .ok (.aload_n 0, 1) := dk_42 (dk_at dksX2_make_1 0 rfl rfl)
theorem dX2_make_25 : decode cX2_make 25 = .ok (.getfield 27, 3) := dk_180 0 27 (dk_at dksX2_make_1 1 rfl rfl)
theorem dX2_make_28 : decode cX2_make 28 = .ok (.isub, 1) := dk_100 (dk_at dksX2_make_1 4 rfl rfl)
theorem dX2_make_29 : decode cX2_make 29 = .ok (.putfield 27, 3) := dk_181 0 27 (dk_at dksX2_make_1 5 rfl rfl)
theorem dX2_make_32 : decode cX2_make 32 = .ok (.aload_n 0, 1) := dk_42 (dk_at dksX2_make_1 8 rfl rfl)
theorem dX2_make_33 : decode cX2_make 33 = .ok (.dup, 1) := dk_89 (dk_at dksX2_make_1 9 rfl rfl)
theorem dX2_make_34 : decode cX2_make 34 = .ok (.getfield 31, 3) := dk_180 0 31 (dk_at dksX2_make_1 10 rfl rfl)
theorem dX2_make_37 : decode cX2_make 37 = .ok (.iconst 1, 1) := dk_4 (dk_at dksX2_make_1 13 rfl rfl)
theorem dX2_make_38 : decode cX2_make 38 = .ok (.iadd, 1) := dk_96 (dk_at dksX2_make_1 14 rfl rfl)
theorem dX2_make_39 : decode cX2_make 39 = .ok (.putfield 31, 3) := dk_181 0 31 (dk_at dksX2_make_1 15 rfl rfl)
theorem dX2_make_42 : decode cX2_make 42 = .ok (.aload_n 0, 1) := dk_42 (dk_at dksX2_make_1 18 rfl rfl)
theorem dX2_make_43 : decode cX2_make 43 = .ok (.getfield 18, 3) := dk_180 0 18 (dk_at dksX2_make_1 19 rfl rfl)
theorem dX2_make_46 : decode cX2_make 46 = .ok (.astore_n 2, 1) := dk_77 (dk_at dksX2_make_1 22 rfl rfl)
theorem dX2_make_47 : decode cX2_make 47 = .ok (.aload_n 0, 1) := dk_42 (dk_at dksX2_make_1 23 rfl rfl)
theorem dX2_make_48 : decode cX2_make 48 = .ok (.aload_n 2, 1) := dk_44 (dk_at dksX2_make_2 0 rfl rfl)
theorem dX2_make_49 : decode cX2_make 49 = .ok (.arraylength, 1) := dk_190 (dk_at dksX2_make_2 1 rfl rfl)
theorem dX2_make_50 : decode cX2_make 50 = .ok (.iconst 1, 1) := dk_4 (dk_at dksX2_make_2 2 rfl rfl)
theorem dX2_make_51 : decode cX2_make 51 = .ok (.iadd, 1) := dk_96 (dk_at dksX2_make_2 3 rfl rfl)
theorem dX2_make_52 : decode cX2_make 52 = .ok (.newarray .int, 2) := dk_188_10 (dk_at dksX2_make_2 4 rfl rfl)
theorem dX2_make_54 : decode cX2_make 54 = .ok (.putfield 18, 3) := dk_181 0 18 (dk_at dksX2_make_2 6 rfl rfl)
theorem dX2_make_57 : decode cX2_make 57 = .ok (.aload_n 2, 1) := dk_44 (dk_at dksX2_make_2 9 rfl rfl)
theorem dX2_make_58 : decode cX2_make 58 = .ok (.iconst 0, 1) := dk_3 (dk_at dksX2_make_2 10 rfl rfl)
theorem dX2_make_59 : decode cX2_make 59 = .ok (.aload_n 0, 1) := dk_42 (dk_at dksX2_make_2 11 rfl rfl)
theorem dX2_make_60 : decode cX2_make 60 = .ok (.getfield 18, 3) := dk_180 0 18 (dk_at dksX2_make_2 12 rfl rfl)
theorem dX2_make_63 : decode cX2_make 63 = .ok (.iconst 0, 1) := dk_3 (dk_at dksX2_make_2 15 rfl rfl)
theorem dX2_make_64 : decode cX2_make 64 = .ok (.aload_n 2, 1) := dk_44 (dk_at dksX2_make_2 16 rfl rfl)
theorem dX2_make_65 : decode cX2_make 65 = .ok (.arraylength, 1) := dk_190 (dk_at dksX2_make_2 17 rfl rfl)
theorem dX2_make_66 : decode cX2_make 66 = .ok (.invokestatic 44, 3) := dk_184 0 44 (dk_at dksX2_make_2 18 rfl rfl)
theorem dX2_make_69 : decode cX2_make 69 = .ok (.aload_n 0, 1) := dk_42 (dk_at dksX2_make_2 21 rfl rfl)
theorem dX2_make_70 : decode cX2_make 70 = .ok (.getfield 18, 3) := dk_180 0 18 (dk_at dksX2_make_3 0 rfl rfl)
theorem dX2_make_73 : decode cX2_make 73 = .ok (.aload_n 2, 1) := dk_44 (dk_at dksX2_make_3 3 rfl rfl)
theorem dX2_make_74 : decode cX2_make 74 = .ok (.arraylength, 1) := dk_190 (dk_at dksX2_make_3 4 rfl rfl)
theorem dX2_make_75 : decode cX2_make 75 = .ok (.aload_n 0, 1) := dk_42 (dk_at dksX2_make_3 5 rfl rfl)
theorem dX2_make_76 : decode cX2_make 76 = .ok (.invokevirtual 34, 3) := dk_182 0 34 (dk_at dksX2_make_3 6 rfl rfl)
theorem dX2_make_79 : decode cX2_make 79 = .ok (.iastore, 1) := dk_79 (dk_at dksX2_make_3 9 rfl rfl)
theorem dX2_make_80 : decode cX2_make 80 = .ok (.return_, 1) := dk_177 (dk_at dksX2_make_3 10 rfl rfl)
theorem q79 : (Jvm.Cond.initialized "MorrisTables$Game") ∈ lw_all := lw_g (lw_at lw_m1 10 rfl) rfl
theorem q174 : (Jvm.Cond.selects "MorrisTables$Game" ({ cls := "java/lang/Object", name := "getClass", desc := "()Ljava/lang/Class;" } : Jvm.MethodName) ({ cls := "java/lang/Object", name := "getClass", desc := "()Ljava/lang/Class;" } : Jvm.MethodName)) ∈ lw_all := lw_g (lw_at lw_m1 105 rfl) rfl
theorem q201 : (Jvm.Cond.instantiable "MorrisTables$Game" (5 : Nat)) ∈ lw_all := lw_g (lw_at lw_m1 132 rfl) rfl
theorem q203 : (Jvm.Cond.instanceMethod ({ cls := "MorrisTables$Game", name := "<init>", desc := "()V" } : Jvm.MethodName)) ∈ lw_all := lw_g (lw_at lw_m1 134 rfl) rfl
theorem q204 : (Jvm.Cond.code ({ cls := "MorrisTables$Game", name := "<init>", desc := "()V" } : Jvm.MethodName) prog_2_method_1_code (1 : Nat) (Option.none : Option Jvm.ClassFile.FieldType)) ∈ lw_all := lw_g (lw_at lw_m1 135 rfl) rfl
theorem q205 : (Jvm.Cond.methodLink "MorrisTables$Game" (3 : Nat) ({ cls := "java/lang/Object", name := "<init>", desc := "()V" } : Jvm.MethodName)) ∈ lw_all := lw_g (lw_at lw_m1 136 rfl) rfl
theorem q206 : (Jvm.Cond.fieldLink "MorrisTables$Game" (9 : Nat) "MorrisTables$Game" "settings" "[I") ∈ lw_all := lw_g (lw_at lw_m1 137 rfl) rfl
theorem q208 : (Jvm.Cond.fieldLink "MorrisTables$Game" (15 : Nat) "MorrisTables$Game" "men" "[I") ∈ lw_all := lw_g (lw_at lw_m1 139 rfl) rfl
theorem q210 : (Jvm.Cond.fieldLink "MorrisTables$Game" (27 : Nat) "MorrisTables$Game" "mover" "I") ∈ lw_all := lw_g (lw_at lw_m1 141 rfl) rfl
theorem q212 : (Jvm.Cond.fieldLink "MorrisTables$Game" (18 : Nat) "MorrisTables$Game" "came" "[I") ∈ lw_all := lw_g (lw_at lw_m1 143 rfl) rfl
theorem q213 : (Jvm.Cond.fieldLink "MorrisTables$Game" (31 : Nat) "MorrisTables$Game" "moves" "I") ∈ lw_all := lw_g (lw_at lw_m1 144 rfl) rfl
theorem q215 : (Jvm.Cond.lays "MorrisTables$Game" "MorrisTables$Game" "settings" "[I") ∈ lw_all := lw_g (lw_at lw_m1 146 rfl) rfl
theorem q216 : (Jvm.Cond.soleField "MorrisTables$Game" "settings") ∈ lw_all := lw_g (lw_at lw_m1 147 rfl) rfl
theorem q217 : (Jvm.Cond.lays "MorrisTables$Game" "MorrisTables$Game" "men" "[I") ∈ lw_all := lw_g (lw_at lw_m1 148 rfl) rfl
theorem q218 : (Jvm.Cond.soleField "MorrisTables$Game" "men") ∈ lw_all := lw_g (lw_at lw_m1 149 rfl) rfl
theorem q219 : (Jvm.Cond.lays "MorrisTables$Game" "MorrisTables$Game" "mover" "I") ∈ lw_all := lw_g (lw_at lw_m1 150 rfl) rfl
theorem q220 : (Jvm.Cond.soleField "MorrisTables$Game" "mover") ∈ lw_all := lw_g (lw_at lw_m1 151 rfl) rfl
theorem q221 : (Jvm.Cond.lays "MorrisTables$Game" "MorrisTables$Game" "came" "[I") ∈ lw_all := lw_g (lw_at lw_m1 152 rfl) rfl
theorem q222 : (Jvm.Cond.soleField "MorrisTables$Game" "came") ∈ lw_all := lw_g (lw_at lw_m1 153 rfl) rfl
theorem q223 : (Jvm.Cond.lays "MorrisTables$Game" "MorrisTables$Game" "moves" "I") ∈ lw_all := lw_g (lw_at lw_m1 154 rfl) rfl
theorem q224 : (Jvm.Cond.soleField "MorrisTables$Game" "moves") ∈ lw_all := lw_g (lw_at lw_m1 155 rfl) rfl
theorem q225 : (Jvm.Cond.superclass "MorrisTables$Game" "java/lang/Object") ∈ lw_all := lw_g (lw_at lw_m1 156 rfl) rfl
theorem q324 : (Jvm.Cond.instanceMethod ({ cls := "MorrisTables$Game", name := "copy", desc := "()LMorrisTables$Game;" } : Jvm.MethodName)) ∈ lw_all := lw_g (lw_at lw_m2 15 rfl) rfl
theorem q325 : (Jvm.Cond.selects "MorrisTables$Game" ({ cls := "MorrisTables$Game", name := "copy", desc := "()LMorrisTables$Game;" } : Jvm.MethodName) ({ cls := "MorrisTables$Game", name := "copy", desc := "()LMorrisTables$Game;" } : Jvm.MethodName)) ∈ lw_all := lw_g (lw_at lw_m2 16 rfl) rfl
theorem q326 : (Jvm.Cond.code ({ cls := "MorrisTables$Game", name := "copy", desc := "()LMorrisTables$Game;" } : Jvm.MethodName) prog_2_method_2_code (2 : Nat) (Option.some (Jvm.ClassFile.FieldType.object "MorrisTables$Game"))) ∈ lw_all := lw_g (lw_at lw_m2 17 rfl) rfl
theorem q327 : (Jvm.Cond.classLink "MorrisTables$Game" (10 : Nat) "MorrisTables$Game") ∈ lw_all := lw_g (lw_at lw_m2 18 rfl) rfl
theorem q328 : (Jvm.Cond.methodLink "MorrisTables$Game" (21 : Nat) ({ cls := "MorrisTables$Game", name := "<init>", desc := "()V" } : Jvm.MethodName)) ∈ lw_all := lw_g (lw_at lw_m2 19 rfl) rfl
theorem q329 : (Jvm.Cond.methodLink "MorrisTables$Game" (22 : Nat) ({ cls := "[I", name := "clone", desc := "()Ljava/lang/Object;" } : Jvm.MethodName)) ∈ lw_all := lw_g (lw_at lw_m2 20 rfl) rfl
theorem q335 : (Jvm.Cond.classLink "MorrisTables$Game" (23 : Nat) "[I") ∈ lw_all := lw_g (lw_at lw_m2 26 rfl) rfl
theorem q339 : (Jvm.Cond.instanceMethod ({ cls := "MorrisTables$Game", name := "begin", desc := "()V" } : Jvm.MethodName)) ∈ lw_all := lw_g (lw_at lw_m2 30 rfl) rfl
theorem q340 : (Jvm.Cond.selects "MorrisTables$Game" ({ cls := "MorrisTables$Game", name := "begin", desc := "()V" } : Jvm.MethodName) ({ cls := "MorrisTables$Game", name := "begin", desc := "()V" } : Jvm.MethodName)) ∈ lw_all := lw_g (lw_at lw_m2 31 rfl) rfl
theorem q341 : (Jvm.Cond.code ({ cls := "MorrisTables$Game", name := "begin", desc := "()V" } : Jvm.MethodName) prog_2_method_5_code (1 : Nat) (Option.none : Option Jvm.ClassFile.FieldType)) ∈ lw_all := lw_g (lw_at lw_m2 32 rfl) rfl
theorem q555 : (Jvm.Cond.instanceMethod ({ cls := "MorrisTables$Game", name := "times", desc := "()I" } : Jvm.MethodName)) ∈ lw_all := lw_g (lw_at lw_m3 6 rfl) rfl
theorem q556 : (Jvm.Cond.selects "MorrisTables$Game" ({ cls := "MorrisTables$Game", name := "times", desc := "()I" } : Jvm.MethodName) ({ cls := "MorrisTables$Game", name := "times", desc := "()I" } : Jvm.MethodName)) ∈ lw_all := lw_g (lw_at lw_m3 7 rfl) rfl
theorem q557 : (Jvm.Cond.code ({ cls := "MorrisTables$Game", name := "times", desc := "()I" } : Jvm.MethodName) prog_2_method_4_code (6 : Nat) (Option.some Jvm.ClassFile.FieldType.int)) ∈ lw_all := lw_g (lw_at lw_m3 8 rfl) rfl
theorem q558 : (Jvm.Cond.methodLink "MorrisTables$Game" (34 : Nat) ({ cls := "MorrisTables$Game", name := "board", desc := "()I" } : Jvm.MethodName)) ∈ lw_all := lw_g (lw_at lw_m3 9 rfl) rfl
theorem q559 : (Jvm.Cond.instanceMethod ({ cls := "MorrisTables$Game", name := "board", desc := "()I" } : Jvm.MethodName)) ∈ lw_all := lw_g (lw_at lw_m3 10 rfl) rfl
theorem q560 : (Jvm.Cond.selects "MorrisTables$Game" ({ cls := "MorrisTables$Game", name := "board", desc := "()I" } : Jvm.MethodName) ({ cls := "MorrisTables$Game", name := "board", desc := "()I" } : Jvm.MethodName)) ∈ lw_all := lw_g (lw_at lw_m3 11 rfl) rfl
theorem q561 : (Jvm.Cond.code ({ cls := "MorrisTables$Game", name := "board", desc := "()I" } : Jvm.MethodName) prog_2_method_3_code (1 : Nat) (Option.some Jvm.ClassFile.FieldType.int)) ∈ lw_all := lw_g (lw_at lw_m3 12 rfl) rfl
theorem q576 : (Jvm.Cond.instanceMethod ({ cls := "MorrisTables$Game", name := "make", desc := "(I)V" } : Jvm.MethodName)) ∈ lw_all := lw_g (lw_at lw_m3 27 rfl) rfl
theorem q577 : (Jvm.Cond.selects "MorrisTables$Game" ({ cls := "MorrisTables$Game", name := "make", desc := "(I)V" } : Jvm.MethodName) ({ cls := "MorrisTables$Game", name := "make", desc := "(I)V" } : Jvm.MethodName)) ∈ lw_all := lw_g (lw_at lw_m3 28 rfl) rfl
theorem q578 : (Jvm.Cond.code ({ cls := "MorrisTables$Game", name := "make", desc := "(I)V" } : Jvm.MethodName) prog_2_method_6_code (3 : Nat) (Option.none : Option Jvm.ClassFile.FieldType)) ∈ lw_all := lw_g (lw_at lw_m3 29 rfl) rfl
theorem q579 : (Jvm.Cond.methodLink "MorrisTables$Game" (38 : Nat) ({ cls := "MorrisTables$Rules", name := "behind", desc := "(II)I" } : Jvm.MethodName)) ∈ lw_all := lw_g (lw_at lw_m3 30 rfl) rfl
theorem q580 : (Jvm.Cond.methodLink "MorrisTables$Game" (44 : Nat) ({ cls := "java/lang/System", name := "arraycopy", desc := "(Ljava/lang/Object;ILjava/lang/Object;II)V" } : Jvm.MethodName)) ∈ lw_all := lw_g (lw_at lw_m3 31 rfl) rfl
theorem q1283 : (Jvm.Cond.castable "MorrisTables$Game" "java/lang/Object") ∈ lw_tbl := lw_at lw_m6 14 rfl
theorem in_X2 : ∀ w ∈ wsX20, w ∈ lw_all := lw_in wsX20 [215, 217, 219, 221, 223] (by decide +kernel) (by decide +kernel)
end

section
/-! MorrisTables$Rules -/
set_option maxRecDepth 100000
def RX4 : String := "MorrisTables$Rules"
abbrev cX4_init : ByteArray := prog_4_method_1_code
def yX4_init : MethodName := ⟨RX4, "<init>", "(II)V"⟩
def dkwX4_init_2 : List UInt8 := [16, 9, 162, 0, 20, 42, 180, 0, 9, 29, 42, 29, 182, 0, 26, 79, 132, 3, 1, 167, 255, 236, 177]
abbrev dktX4_init_2 : List UInt8 := dkwX4_init_2 ++ []
def dkwX4_init_1 : List UInt8 := [167, 0, 5, 16, 6, 181, 0, 18, 42, 28, 154, 0, 7, 4, 167, 0, 4, 3, 181, 0, 22, 3, 62, 29]
abbrev dktX4_init_1 : List UInt8 := dkwX4_init_1 ++ dktX4_init_2
def dkwX4_init_0 : List UInt8 := [42, 183, 0, 3, 42, 16, 9, 188, 10, 181, 0, 9, 42, 27, 4, 160, 0, 10, 178, 0, 15, 190]
abbrev dktX4_init_0 : List UInt8 := dkwX4_init_0 ++ dktX4_init_1
theorem dksX4_init_0 : cX4_init.data.toList.drop 0 = dktX4_init_0 := by decide +kernel
theorem dksX4_init_1 : cX4_init.data.toList.drop 22 = dktX4_init_1 := dk_seg dksX4_init_0 22 rfl rfl
theorem dksX4_init_2 : cX4_init.data.toList.drop 46 = dktX4_init_2 := dk_seg dksX4_init_1 24 rfl rfl
theorem dX4_init_0 : decode cX4_init 0 = .ok (.aload_n 0, 1) := dk_42 (dk_at dksX4_init_0 0 rfl rfl)
theorem dX4_init_1 : decode cX4_init 1 = .ok (.invokespecial 3, 3) := dk_183 0 3 (dk_at dksX4_init_0 1 rfl rfl)
theorem dX4_init_4 : decode cX4_init 4 = .ok (.aload_n 0, 1) := dk_42 (dk_at dksX4_init_0 4 rfl rfl)
theorem dX4_init_5 : decode cX4_init 5 = .ok (.bipush 9, 2) := dk_16 9 (dk_at dksX4_init_0 5 rfl rfl)
theorem dX4_init_7 : decode cX4_init 7 = .ok (.newarray .int, 2) := dk_188_10 (dk_at dksX4_init_0 7 rfl rfl)
theorem dX4_init_9 : decode cX4_init 9 = .ok (.putfield 9, 3) := dk_181 0 9 (dk_at dksX4_init_0 9 rfl rfl)
theorem dX4_init_12 : decode cX4_init 12 = .ok (.aload_n 0, 1) := dk_42 (dk_at dksX4_init_0 12 rfl rfl)
theorem dX4_init_13 : decode cX4_init 13 = .ok (.iload_n 1, 1) := dk_27 (dk_at dksX4_init_0 13 rfl rfl)
theorem dX4_init_14 : decode cX4_init 14 = .ok (.iconst 1, 1) := dk_4 (dk_at dksX4_init_0 14 rfl rfl)
theorem dX4_init_15 : decode cX4_init 15 = .ok (.if_icmp .ne 10, 3) := dk_160 0 10 (dk_at dksX4_init_0 15 rfl rfl)
theorem dX4_init_18 : decode cX4_init 18 = .ok (.getstatic 15, 3) := dk_178 0 15 (dk_at dksX4_init_0 18 rfl rfl)
theorem dX4_init_21 : decode cX4_init 21 = .ok (.arraylength, 1) := dk_190 (dk_at dksX4_init_0 21 rfl rfl)
theorem dX4_init_22 : decode cX4_init 22 = .ok (.goto 5, 3) := dk_167 0 5 (dk_at dksX4_init_1 0 rfl rfl)
theorem dX4_init_25 : decode cX4_init 25 = .ok (.bipush 6, 2) := dk_16 6 (dk_at dksX4_init_1 3 rfl rfl)
theorem dX4_init_27 : decode cX4_init 27 = .ok (.putfield 18, 3) := dk_181 0 18 (dk_at dksX4_init_1 5 rfl rfl)
theorem dX4_init_30 : decode cX4_init 30 = .ok (.aload_n 0, 1) := dk_42 (dk_at dksX4_init_1 8 rfl rfl)
theorem dX4_init_31 : decode cX4_init 31 = .ok (.iload_n 2, 1) := dk_28 (dk_at dksX4_init_1 9 rfl rfl)
theorem dX4_init_32 : decode cX4_init 32 = .ok (.ifCond .ne 7, 3) := dk_154 0 7 (dk_at dksX4_init_1 10 rfl rfl)
theorem dX4_init_35 : decode cX4_init 35 = .ok (.iconst 1, 1) := dk_4 (dk_at dksX4_init_1 13 rfl rfl)
theorem dX4_init_36 : decode cX4_init 36 = .ok (.goto 4, 3) := dk_167 0 4 (dk_at dksX4_init_1 14 rfl rfl)
theorem dX4_init_39 : decode cX4_init 39 = .ok (.iconst 0, 1) := dk_3 (dk_at dksX4_init_1 17 rfl rfl)
theorem dX4_init_40 : decode cX4_init 40 = .ok (.putfield 22, 3) := dk_181 0 22 (dk_at dksX4_init_1 18 rfl rfl)
theorem dX4_init_43 : decode cX4_init 43 = .ok (.iconst 0, 1) := dk_3 (dk_at dksX4_init_1 21 rfl rfl)
theorem dX4_init_44 : decode cX4_init 44 = .ok (.istore_n 3, 1) := dk_62 (dk_at dksX4_init_1 22 rfl rfl)
theorem dX4_init_45 : decode cX4_init 45 = .ok (.iload_n 3, 1) := dk_29 (dk_at dksX4_init_1 23 rfl rfl)
theorem dX4_init_46 : decode cX4_init 46 = .ok (.bipush 9, 2) := dk_16 9 (dk_at dksX4_init_2 0 rfl rfl)
theorem dX4_init_48 : decode cX4_init 48 = .ok (.if_icmp .ge 20, 3) := dk_162 0 20 (dk_at dksX4_init_2 2 rfl rfl)
theorem dX4_init_51 : decode cX4_init 51 = .ok (.aload_n 0, 1) := dk_42 (dk_at dksX4_init_2 5 rfl rfl)
theorem dX4_init_52 : decode cX4_init 52 = .ok (.getfield 9, 3) := dk_180 0 9 (dk_at dksX4_init_2 6 rfl rfl)
theorem dX4_init_55 : decode cX4_init 55 = .ok (.iload_n 3, 1) := dk_29 (dk_at dksX4_init_2 9 rfl rfl)
theorem dX4_init_56 : decode cX4_init 56 = .ok (.aload_n 0, 1) := dk_42 (dk_at dksX4_init_2 10 rfl rfl)
theorem dX4_init_57 : decode cX4_init 57 = .ok (.iload_n 3, 1) := dk_29 (dk_at dksX4_init_2 11 rfl rfl)
theorem dX4_init_58 : decode cX4_init 58 = .ok (.invokevirtual 26, 3) := dk_182 0 26 (dk_at dksX4_init_2 12 rfl rfl)
theorem dX4_init_61 : decode cX4_init 61 = .ok (.iastore, 1) := dk_79 (dk_at dksX4_init_2 15 rfl rfl)
theorem dX4_init_62 : decode cX4_init 62 = .ok (.iinc 3 1, 3) := dk_132 3 1 (dk_at dksX4_init_2 16 rfl rfl)
theorem dX4_init_65 : decode cX4_init 65 = .ok (.goto (-20), 3) := dk_167 255 236 (dk_at dksX4_init_2 19 rfl rfl)
theorem dX4_init_68 : decode cX4_init 68 = .ok (.return_, 1) := dk_177 (dk_at dksX4_init_2 22 rfl rfl)
abbrev cX4_nextOf : ByteArray := prog_4_method_3_code
def yX4_nextOf : MethodName := ⟨RX4, "nextOf", "(I)I"⟩
def dkwX4_nextOf_4 : List UInt8 := [167, 255, 170, 28, 172]
abbrev dktX4_nextOf_4 : List UInt8 := dkwX4_nextOf_4 ++ []
def dkwX4_nextOf_3 : List UInt8 := [153, 0, 10, 4, 21, 4, 120, 167, 0, 4, 3, 128, 61, 132, 4, 1, 167, 255, 187, 132, 3, 1]
abbrev dktX4_nextOf_3 : List UInt8 := dkwX4_nextOf_3 ++ dktX4_nextOf_4
def dkwX4_nextOf_2 : List UInt8 := [160, 0, 7, 4, 167, 0, 4, 3, 54, 5, 28, 21, 5, 153, 0, 19, 27, 21, 4, 184, 0, 35]
abbrev dktX4_nextOf_2 : List UInt8 := dkwX4_nextOf_2 ++ dktX4_nextOf_3
def dkwX4_nextOf_1 : List UInt8 := [178, 0, 15, 29, 46, 27, 122, 4, 126, 4, 160, 0, 21, 178, 0, 15, 29, 46, 21, 4, 122, 4, 126, 4]
abbrev dktX4_nextOf_1 : List UInt8 := dkwX4_nextOf_1 ++ dktX4_nextOf_2
def dkwX4_nextOf_0 : List UInt8 := [3, 61, 3, 62, 29, 42, 180, 0, 18, 162, 0, 84, 3, 54, 4, 21, 4, 16, 9, 162, 0, 68]
abbrev dktX4_nextOf_0 : List UInt8 := dkwX4_nextOf_0 ++ dktX4_nextOf_1
theorem dksX4_nextOf_0 : cX4_nextOf.data.toList.drop 0 = dktX4_nextOf_0 := by decide +kernel
theorem dksX4_nextOf_1 : cX4_nextOf.data.toList.drop 22 = dktX4_nextOf_1 := dk_seg dksX4_nextOf_0 22 rfl rfl
theorem dksX4_nextOf_2 : cX4_nextOf.data.toList.drop 46 = dktX4_nextOf_2 := dk_seg dksX4_nextOf_1 24 rfl rfl
theorem dksX4_nextOf_3 : cX4_nextOf.data.toList.drop 68 = dktX4_nextOf_3 := dk_seg dksX4_nextOf_2 22 rfl rfl
theorem dksX4_nextOf_4 : cX4_nextOf.data.toList.drop 90 = dktX4_nextOf_4 := dk_seg dksX4_nextOf_3 22 rfl rfl
theorem dX4_nextOf_0 : decode cX4_nextOf 0 = .ok (.iconst 0, 1) := dk_3 (dk_at dksX4_nextOf_0 0 rfl rfl)
theorem dX4_nextOf_1 : decode cX4_nextOf 1 = .ok (.istore_n 2, 1) := dk_61 (dk_at dksX4_nextOf_0 1 rfl rfl)
theorem dX4_nextOf_2 : decode cX4_nextOf 2 = .ok (.iconst 0, 1) := dk_3 (dk_at dksX4_nextOf_0 2 rfl rfl)
theorem dX4_nextOf_3 : decode cX4_nextOf 3 = .ok (.istore_n 3, 1) := dk_62 (dk_at dksX4_nextOf_0 3 rfl rfl)
theorem dX4_nextOf_4 : decode cX4_nextOf 4 = .ok (.iload_n 3, 1) := dk_29 (dk_at dksX4_nextOf_0 4 rfl rfl)
theorem dX4_nextOf_5 : decode cX4_nextOf 5 = .ok (.aload_n 0, 1) := dk_42 (dk_at dksX4_nextOf_0 5 rfl rfl)
theorem dX4_nextOf_6 : decode cX4_nextOf 6 = .ok (.getfield 18, 3) := dk_180 0 18 (dk_at dksX4_nextOf_0 6 rfl rfl)
theorem dX4_nextOf_9 : decode cX4_nextOf 9 = .ok (.if_icmp .ge 84, 3) := dk_162 0 84 (dk_at dksX4_nextOf_0 9 rfl rfl)
theorem dX4_nextOf_12 : decode cX4_nextOf 12 = .ok (.iconst 0, 1) := dk_3 (dk_at dksX4_nextOf_0 12 rfl rfl)
theorem dX4_nextOf_13 : decode cX4_nextOf 13 = .ok (.istore 4, 2) := dk_54 4 (dk_at dksX4_nextOf_0 13 rfl rfl)
theorem dX4_nextOf_15 : decode cX4_nextOf 15 = .ok (.iload 4, 2) := dk_21 4 (dk_at dksX4_nextOf_0 15 rfl rfl)
theorem dX4_nextOf_17 : decode cX4_nextOf 17 = .ok (.bipush 9, 2) := dk_16 9 (dk_at dksX4_nextOf_0 17 rfl rfl)
theorem dX4_nextOf_19 : decode cX4_nextOf 19 = .ok (.if_icmp .ge 68, 3) := dk_162 0 68 (dk_at dksX4_nextOf_0 19 rfl rfl)
theorem dX4_nextOf_22 : decode cX4_nextOf 22 = .ok (.getstatic 15, 3) := dk_178 0 15 (dk_at dksX4_nextOf_1 0 rfl rfl)
theorem dX4_nextOf_25 : decode cX4_nextOf 25 = .ok (.iload_n 3, 1) := dk_29 (dk_at dksX4_nextOf_1 3 rfl rfl)
theorem dX4_nextOf_26 : decode cX4_nextOf 26 = .ok (.iaload, 1) := dk_46 (dk_at dksX4_nextOf_1 4 rfl rfl)
theorem dX4_nextOf_27 : decode cX4_nextOf 27 = .ok (.iload_n 1, 1) := dk_27 (dk_at dksX4_nextOf_1 5 rfl rfl)
theorem dX4_nextOf_28 : decode cX4_nextOf 28 = .ok (.ishr, 1) := dk_122 (dk_at dksX4_nextOf_1 6 rfl rfl)
theorem dX4_nextOf_29 : decode cX4_nextOf 29 = .ok (.iconst 1, 1) := dk_4 (dk_at dksX4_nextOf_1 7 rfl rfl)
theorem dX4_nextOf_30 : decode cX4_nextOf 30 = .ok (.iand, 1) := dk_126 (dk_at dksX4_nextOf_1 8 rfl rfl)
theorem dX4_nextOf_31 : decode cX4_nextOf 31 = .ok (.iconst 1, 1) := dk_4 (dk_at dksX4_nextOf_1 9 rfl rfl)
theorem dX4_nextOf_32 : decode cX4_nextOf 32 = .ok (.if_icmp .ne 21, 3) := dk_160 0 21 (dk_at dksX4_nextOf_1 10 rfl rfl)
theorem dX4_nextOf_35 : decode cX4_nextOf 35 = .ok (.getstatic 15, 3) := dk_178 0 15 (dk_at dksX4_nextOf_1 13 rfl rfl)
theorem dX4_nextOf_38 : decode cX4_nextOf 38 = .ok (.iload_n 3, 1) := dk_29 (dk_at dksX4_nextOf_1 16 rfl rfl)
theorem dX4_nextOf_39 : decode cX4_nextOf 39 = .ok (.iaload, 1) := dk_46 (dk_at dksX4_nextOf_1 17 rfl rfl)
theorem dX4_nextOf_40 : decode cX4_nextOf 40 = .ok (.iload 4, 2) := dk_21 4 (dk_at dksX4_nextOf_1 18 rfl rfl)
theorem dX4_nextOf_42 : decode cX4_nextOf 42 = .ok (.ishr, 1) := dk_122 (dk_at dksX4_nextOf_1 20 rfl rfl)
theorem dX4_nextOf_43 : decode cX4_nextOf 43 = .ok (.iconst 1, 1) := dk_4 (dk_at dksX4_nextOf_1 21 rfl rfl)
theorem dX4_nextOf_44 : decode cX4_nextOf 44 = .ok (.iand, 1) := dk_126 (dk_at dksX4_nextOf_1 22 rfl rfl)
theorem dX4_nextOf_45 : decode cX4_nextOf 45 = .ok (.iconst 1, 1) := dk_4 (dk_at dksX4_nextOf_1 23 rfl rfl)
theorem dX4_nextOf_46 : decode cX4_nextOf 46 = .ok (.if_icmp .ne 7, 3) := dk_160 0 7 (dk_at dksX4_nextOf_2 0 rfl rfl)
theorem dX4_nextOf_49 : decode cX4_nextOf 49 = .ok (.iconst 1, 1) := dk_4 (dk_at dksX4_nextOf_2 3 rfl rfl)
theorem dX4_nextOf_50 : decode cX4_nextOf 50 = .ok (.goto 4, 3) := dk_167 0 4 (dk_at dksX4_nextOf_2 4 rfl rfl)
theorem dX4_nextOf_53 : decode cX4_nextOf 53 = .ok (.iconst 0, 1) := dk_3 (dk_at dksX4_nextOf_2 7 rfl rfl)
theorem dX4_nextOf_54 : decode cX4_nextOf 54 = .ok (.istore 5, 2) := dk_54 5 (dk_at dksX4_nextOf_2 8 rfl rfl)
theorem dX4_nextOf_56 : decode cX4_nextOf 56 = .ok (.iload_n 2, 1) := dk_28 (dk_at dksX4_nextOf_2 10 rfl rfl)
theorem dX4_nextOf_57 : decode cX4_nextOf 57 = .ok (.iload 5, 2) := dk_21 5 (dk_at dksX4_nextOf_2 11 rfl rfl)
theorem dX4_nextOf_59 : decode cX4_nextOf 59 = .ok (.ifCond .eq 19, 3) := dk_153 0 19 (dk_at dksX4_nextOf_2 13 rfl rfl)
theorem dX4_nextOf_62 : decode cX4_nextOf 62 = .ok (.iload_n 1, 1) := dk_27 (dk_at dksX4_nextOf_2 16 rfl rfl)
theorem dX4_nextOf_63 : decode cX4_nextOf 63 = .ok (.iload 4, 2) := dk_21 4 (dk_at dksX4_nextOf_2 17 rfl rfl)
theorem dX4_nextOf_65 : decode cX4_nextOf 65 = .ok (.invokestatic 35, 3) := dk_184 0 35 (dk_at dksX4_nextOf_2 19 rfl rfl)
theorem dX4_nextOf_68 : decode cX4_nextOf 68 = .ok (.ifCond .eq 10, 3) := dk_153 0 10 (dk_at dksX4_nextOf_3 0 rfl rfl)
theorem dX4_nextOf_71 : decode cX4_nextOf 71 = .ok (.iconst 1, 1) := dk_4 (dk_at dksX4_nextOf_3 3 rfl rfl)
theorem dX4_nextOf_72 : decode cX4_nextOf 72 = .ok (.iload 4, 2) := dk_21 4 (dk_at dksX4_nextOf_3 4 rfl rfl)
theorem dX4_nextOf_74 : decode cX4_nextOf 74 = .ok (.ishl, 1) := dk_120 (dk_at dksX4_nextOf_3 6 rfl rfl)
theorem dX4_nextOf_75 : decode cX4_nextOf 75 = .ok (.goto 4, 3) := dk_167 0 4 (dk_at dksX4_nextOf_3 7 rfl rfl)
theorem dX4_nextOf_78 : decode cX4_nextOf 78 = .ok (.iconst 0, 1) := dk_3 (dk_at dksX4_nextOf_3 10 rfl rfl)
theorem dX4_nextOf_79 : decode cX4_nextOf 79 = .ok (.ior, 1) := dk_128 (dk_at dksX4_nextOf_3 11 rfl rfl)
theorem dX4_nextOf_80 : decode cX4_nextOf 80 = .ok (.istore_n 2, 1) := dk_61 (dk_at dksX4_nextOf_3 12 rfl rfl)
theorem dX4_nextOf_81 : decode cX4_nextOf 81 = .ok (.iinc 4 1, 3) := dk_132 4 1 (dk_at dksX4_nextOf_3 13 rfl rfl)
theorem dX4_nextOf_84 : decode cX4_nextOf 84 = .ok (.goto (-69), 3) := dk_167 255 187 (dk_at dksX4_nextOf_3 16 rfl rfl)
theorem dX4_nextOf_87 : decode cX4_nextOf 87 = .ok (.iinc 3 1, 3) := dk_132 3 1 (dk_at dksX4_nextOf_3 19 rfl rfl)
theorem dX4_nextOf_90 : decode cX4_nextOf 90 = .ok (.goto (-86), 3) := dk_167 255 170 (dk_at dksX4_nextOf_4 0 rfl rfl)
theorem dX4_nextOf_93 : decode cX4_nextOf 93 = .ok (.iload_n 2, 1) := dk_28 (dk_at dksX4_nextOf_4 3 rfl rfl)
theorem dX4_nextOf_94 : decode cX4_nextOf 94 = .ok (.ireturn, 1) := dk_172 (dk_at dksX4_nextOf_4 4 rfl rfl)
abbrev cX4_isBeside : ByteArray := prog_4_method_2_code
def yX4_isBeside : MethodName := ⟨RX4, "isBeside", "(II)Z"⟩
def dkwX4_isBeside_1 : List UInt8 := [159, 0, 17, 28, 4, 163, 0, 12, 29, 4, 163, 0, 7, 4, 167, 0, 4, 3, 172]
abbrev dktX4_isBeside_1 : List UInt8 := dkwX4_isBeside_1 ++ []
def dkwX4_isBeside_0 : List UInt8 := [26, 6, 108, 27, 6, 108, 100, 184, 0, 30, 61, 26, 6, 112, 27, 6, 112, 100, 184, 0, 30, 62, 26, 27]
abbrev dktX4_isBeside_0 : List UInt8 := dkwX4_isBeside_0 ++ dktX4_isBeside_1
theorem dksX4_isBeside_0 : cX4_isBeside.data.toList.drop 0 = dktX4_isBeside_0 := by decide +kernel
theorem dksX4_isBeside_1 : cX4_isBeside.data.toList.drop 24 = dktX4_isBeside_1 := dk_seg dksX4_isBeside_0 24 rfl rfl
theorem dX4_isBeside_0 : decode cX4_isBeside 0 = .ok (.iload_n 0, 1) := dk_26 (dk_at dksX4_isBeside_0 0 rfl rfl)
theorem dX4_isBeside_1 : decode cX4_isBeside 1 = .ok (.iconst 3, 1) := dk_6 (dk_at dksX4_isBeside_0 1 rfl rfl)
theorem dX4_isBeside_2 : decode cX4_isBeside 2 = .ok (.idiv, 1) := dk_108 (dk_at dksX4_isBeside_0 2 rfl rfl)
theorem dX4_isBeside_3 : decode cX4_isBeside 3 = .ok (.iload_n 1, 1) := dk_27 (dk_at dksX4_isBeside_0 3 rfl rfl)
theorem dX4_isBeside_4 : decode cX4_isBeside 4 = .ok (.iconst 3, 1) := dk_6 (dk_at dksX4_isBeside_0 4 rfl rfl)
theorem dX4_isBeside_5 : decode cX4_isBeside 5 = .ok (.idiv, 1) := dk_108 (dk_at dksX4_isBeside_0 5 rfl rfl)
theorem dX4_isBeside_6 : decode cX4_isBeside 6 = .ok (.isub, 1) := dk_100 (dk_at dksX4_isBeside_0 6 rfl rfl)
theorem dX4_isBeside_7 : decode cX4_isBeside 7 = .ok (.invokestatic 30, 3) := dk_184 0 30 (dk_at dksX4_isBeside_0 7 rfl rfl)
theorem dX4_isBeside_10 : decode cX4_isBeside 10 = .ok (.istore_n 2, 1) := dk_61 (dk_at dksX4_isBeside_0 10 rfl rfl)
theorem dX4_isBeside_11 : decode cX4_isBeside 11 = .ok (.iload_n 0, 1) := dk_26 (dk_at dksX4_isBeside_0 11 rfl rfl)
theorem dX4_isBeside_12 : decode cX4_isBeside 12 = .ok (.iconst 3, 1) := dk_6 (dk_at dksX4_isBeside_0 12 rfl rfl)
theorem dX4_isBeside_13 : decode cX4_isBeside 13 = .ok (.irem, 1) := dk_112 (dk_at dksX4_isBeside_0 13 rfl rfl)
theorem dX4_isBeside_14 : decode cX4_isBeside 14 = .ok (.iload_n 1, 1) := dk_27 (dk_at dksX4_isBeside_0 14 rfl rfl)
theorem dX4_isBeside_15 : decode cX4_isBeside 15 = .ok (.iconst 3, 1) := dk_6 (dk_at dksX4_isBeside_0 15 rfl rfl)
theorem dX4_isBeside_16 : decode cX4_isBeside 16 = .ok (.irem, 1) := dk_112 (dk_at dksX4_isBeside_0 16 rfl rfl)
theorem dX4_isBeside_17 : decode cX4_isBeside 17 = .ok (.isub, 1) := dk_100 (dk_at dksX4_isBeside_0 17 rfl rfl)
theorem dX4_isBeside_18 : decode cX4_isBeside 18 = .ok (.invokestatic 30, 3) := dk_184 0 30 (dk_at dksX4_isBeside_0 18 rfl rfl)
theorem dX4_isBeside_21 : decode cX4_isBeside 21 = .ok (.istore_n 3, 1) := dk_62 (dk_at dksX4_isBeside_0 21 rfl rfl)
theorem dX4_isBeside_22 : decode cX4_isBeside 22 = .ok (.iload_n 0, 1) := dk_26 (dk_at dksX4_isBeside_0 22 rfl rfl)
theorem dX4_isBeside_23 : decode cX4_isBeside 23 = .ok (.iload_n 1, 1) := dk_27 (dk_at dksX4_isBeside_0 23 rfl rfl)
theorem dX4_isBeside_24 : decode cX4_isBeside 24 = .ok (.if_icmp .eq 17, 3) := dk_159 0 17 (dk_at dksX4_isBeside_1 0 rfl rfl)
theorem dX4_isBeside_27 : decode cX4_isBeside 27 = .ok (.iload_n 2, 1) := dk_28 (dk_at dksX4_isBeside_1 3 rfl rfl)
theorem dX4_isBeside_28 : decode cX4_isBeside 28 = .ok (.iconst 1, 1) := dk_4 (dk_at dksX4_isBeside_1 4 rfl rfl)
theorem dX4_isBeside_29 : decode cX4_isBeside 29 = .ok (.if_icmp .gt 12, 3) := dk_163 0 12 (dk_at dksX4_isBeside_1 5 rfl rfl)
theorem dX4_isBeside_32 : decode cX4_isBeside 32 = .ok (.iload_n 3, 1) := dk_29 (dk_at dksX4_isBeside_1 8 rfl rfl)
theorem dX4_isBeside_33 : decode cX4_isBeside 33 = .ok (.iconst 1, 1) := dk_4 (dk_at dksX4_isBeside_1 9 rfl rfl)
theorem dX4_isBeside_34 : decode cX4_isBeside 34 = .ok (.if_icmp .gt 7, 3) := dk_163 0 7 (dk_at dksX4_isBeside_1 10 rfl rfl)
theorem dX4_isBeside_37 : decode cX4_isBeside 37 = .ok (.iconst 1, 1) := dk_4 (dk_at dksX4_isBeside_1 13 rfl rfl)
theorem dX4_isBeside_38 : decode cX4_isBeside 38 = .ok (.goto 4, 3) := dk_167 0 4 (dk_at dksX4_isBeside_1 14 rfl rfl)
theorem dX4_isBeside_41 : decode cX4_isBeside 41 = .ok (.iconst 0, 1) := dk_3 (dk_at dksX4_isBeside_1 17 rfl rfl)
theorem dX4_isBeside_42 : decode cX4_isBeside 42 = .ok (.ireturn, 1) := dk_172 (dk_at dksX4_isBeside_1 18 rfl rfl)
abbrev cX4_isLegal : ByteArray := prog_4_method_11_code
def yX4_isLegal : MethodName := ⟨RX4, "isLegal", "(III)Z"⟩
def dkwX4_isLegal_4 : List UInt8 := [154, 0, 7, 4, 167, 0, 4, 3, 172]
abbrev dktX4_isLegal_4 : List UInt8 := dkwX4_isLegal_4 ++ []
def dkwX4_isLegal_3 : List UInt8 := [153, 0, 29, 27, 28, 126, 154, 0, 23, 42, 29, 154, 0, 7, 27, 167, 0, 4, 28, 182, 0, 44]
abbrev dktX4_isLegal_3 : List UInt8 := dkwX4_isLegal_3 ++ dktX4_isLegal_4
def dkwX4_isLegal_2 : List UInt8 := [159, 0, 15, 21, 4, 6, 160, 0, 13, 21, 5, 6, 160, 0, 7, 4, 167, 0, 4, 3, 54, 6, 21, 6]
abbrev dktX4_isLegal_2 : List UInt8 := dkwX4_isLegal_2 ++ dktX4_isLegal_3
def dkwX4_isLegal_1 : List UInt8 := [162, 0, 7, 29, 153, 0, 35, 21, 4, 21, 5, 4, 96, 160, 0, 14, 21, 4, 6, 163, 0, 8, 29, 4]
abbrev dktX4_isLegal_1 : List UInt8 := dkwX4_isLegal_1 ++ dktX4_isLegal_2
def dkwX4_isLegal_0 : List UInt8 := [27, 184, 0, 39, 54, 4, 28, 184, 0, 39, 54, 5, 21, 4, 21, 5, 160, 0, 13, 21, 4, 6]
abbrev dktX4_isLegal_0 : List UInt8 := dkwX4_isLegal_0 ++ dktX4_isLegal_1
theorem dksX4_isLegal_0 : cX4_isLegal.data.toList.drop 0 = dktX4_isLegal_0 := by decide +kernel
theorem dksX4_isLegal_1 : cX4_isLegal.data.toList.drop 22 = dktX4_isLegal_1 := dk_seg dksX4_isLegal_0 22 rfl rfl
theorem dksX4_isLegal_2 : cX4_isLegal.data.toList.drop 46 = dktX4_isLegal_2 := dk_seg dksX4_isLegal_1 24 rfl rfl
theorem dksX4_isLegal_3 : cX4_isLegal.data.toList.drop 70 = dktX4_isLegal_3 := dk_seg dksX4_isLegal_2 24 rfl rfl
theorem dksX4_isLegal_4 : cX4_isLegal.data.toList.drop 92 = dktX4_isLegal_4 := dk_seg dksX4_isLegal_3 22 rfl rfl
theorem dX4_isLegal_0 : decode cX4_isLegal 0 = .ok (.iload_n 1, 1) := dk_27 (dk_at dksX4_isLegal_0 0 rfl rfl)
theorem dX4_isLegal_1 : decode cX4_isLegal 1 = .ok (.invokestatic 39, 3) := dk_184 0 39 (dk_at dksX4_isLegal_0 1 rfl rfl)
theorem dX4_isLegal_4 : decode cX4_isLegal 4 = .ok (.istore 4, 2) := dk_54 4 (dk_at dksX4_isLegal_0 4 rfl rfl)
theorem dX4_isLegal_6 : decode cX4_isLegal 6 = .ok (.iload_n 2, 1) := dk_28 (dk_at dksX4_isLegal_0 6 rfl rfl)
theorem dX4_isLegal_7 : decode cX4_isLegal 7 = .ok (.invokestatic 39, 3) := dk_184 0 39 (dk_at dksX4_isLegal_0 7 rfl rfl)
theorem dX4_isLegal_10 : decode cX4_isLegal 10 = .ok (.istore 5, 2) := dk_54 5 (dk_at dksX4_isLegal_0 10 rfl rfl)
theorem dX4_isLegal_12 : decode cX4_isLegal 12 = .ok (.iload 4, 2) := dk_21 4 (dk_at dksX4_isLegal_0 12 rfl rfl)
theorem dX4_isLegal_14 : decode cX4_isLegal 14 = .ok (.iload 5, 2) := dk_21 5 (dk_at dksX4_isLegal_0 14 rfl rfl)
theorem dX4_isLegal_16 : decode cX4_isLegal 16 = .ok (.if_icmp .ne 13, 3) := dk_160 0 13 (dk_at dksX4_isLegal_0 16 rfl rfl)
theorem dX4_isLegal_19 : decode cX4_isLegal 19 = .ok (.iload 4, 2) := dk_21 4 (dk_at dksX4_isLegal_0 19 rfl rfl)
theorem dX4_isLegal_21 : decode cX4_isLegal 21 = .ok (.iconst 3, 1) := dk_6 (dk_at dksX4_isLegal_0 21 rfl rfl)
theorem dX4_isLegal_22 : decode cX4_isLegal 22 = .ok (.if_icmp .ge 7, 3) := dk_162 0 7 (dk_at dksX4_isLegal_1 0 rfl rfl)
theorem dX4_isLegal_25 : decode cX4_isLegal 25 = .ok (.iload_n 3, 1) := dk_29 (dk_at dksX4_isLegal_1 3 rfl rfl)
theorem dX4_isLegal_26 : decode cX4_isLegal 26 = .ok (.ifCond .eq 35, 3) := dk_153 0 35 (dk_at dksX4_isLegal_1 4 rfl rfl)
theorem dX4_isLegal_29 : decode cX4_isLegal 29 = .ok (.iload 4, 2) := dk_21 4 (dk_at dksX4_isLegal_1 7 rfl rfl)
theorem dX4_isLegal_31 : decode cX4_isLegal 31 = .ok (.iload 5, 2) := dk_21 5 (dk_at dksX4_isLegal_1 9 rfl rfl)
theorem dX4_isLegal_33 : decode cX4_isLegal 33 = .ok (.iconst 1, 1) := dk_4 (dk_at dksX4_isLegal_1 11 rfl rfl)
theorem dX4_isLegal_34 : decode cX4_isLegal 34 = .ok (.iadd, 1) := dk_96 (dk_at dksX4_isLegal_1 12 rfl rfl)
theorem dX4_isLegal_35 : decode cX4_isLegal 35 = .ok (.if_icmp .ne 14, 3) := dk_160 0 14 (dk_at dksX4_isLegal_1 13 rfl rfl)
theorem dX4_isLegal_38 : decode cX4_isLegal 38 = .ok (.iload 4, 2) := dk_21 4 (dk_at dksX4_isLegal_1 16 rfl rfl)
theorem dX4_isLegal_40 : decode cX4_isLegal 40 = .ok (.iconst 3, 1) := dk_6 (dk_at dksX4_isLegal_1 18 rfl rfl)
theorem dX4_isLegal_41 : decode cX4_isLegal 41 = .ok (.if_icmp .gt 8, 3) := dk_163 0 8 (dk_at dksX4_isLegal_1 19 rfl rfl)
theorem dX4_isLegal_44 : decode cX4_isLegal 44 = .ok (.iload_n 3, 1) := dk_29 (dk_at dksX4_isLegal_1 22 rfl rfl)
theorem dX4_isLegal_45 : decode cX4_isLegal 45 = .ok (.iconst 1, 1) := dk_4 (dk_at dksX4_isLegal_1 23 rfl rfl)
theorem dX4_isLegal_46 : decode cX4_isLegal 46 = .ok (.if_icmp .eq 15, 3) := dk_159 0 15 (dk_at dksX4_isLegal_2 0 rfl rfl)
theorem dX4_isLegal_49 : decode cX4_isLegal 49 = .ok (.iload 4, 2) := dk_21 4 (dk_at dksX4_isLegal_2 3 rfl rfl)
theorem dX4_isLegal_51 : decode cX4_isLegal 51 = .ok (.iconst 3, 1) := dk_6 (dk_at dksX4_isLegal_2 5 rfl rfl)
theorem dX4_isLegal_52 : decode cX4_isLegal 52 = .ok (.if_icmp .ne 13, 3) := dk_160 0 13 (dk_at dksX4_isLegal_2 6 rfl rfl)
theorem dX4_isLegal_55 : decode cX4_isLegal 55 = .ok (.iload 5, 2) := dk_21 5 (dk_at dksX4_isLegal_2 9 rfl rfl)
theorem dX4_isLegal_57 : decode cX4_isLegal 57 = .ok (.iconst 3, 1) := dk_6 (dk_at dksX4_isLegal_2 11 rfl rfl)
theorem dX4_isLegal_58 : decode cX4_isLegal 58 = .ok (.if_icmp .ne 7, 3) := dk_160 0 7 (dk_at dksX4_isLegal_2 12 rfl rfl)
theorem dX4_isLegal_61 : decode cX4_isLegal 61 = .ok (.iconst 1, 1) := dk_4 (dk_at dksX4_isLegal_2 15 rfl rfl)
theorem dX4_isLegal_62 : decode cX4_isLegal 62 = .ok (.goto 4, 3) := dk_167 0 4 (dk_at dksX4_isLegal_2 16 rfl rfl)
theorem dX4_isLegal_65 : decode cX4_isLegal 65 = .ok (.iconst 0, 1) := dk_3 (dk_at dksX4_isLegal_2 19 rfl rfl)
theorem dX4_isLegal_66 : decode cX4_isLegal 66 = .ok (.istore 6, 2) := dk_54 6 (dk_at dksX4_isLegal_2 20 rfl rfl)
theorem dX4_isLegal_68 : decode cX4_isLegal 68 = .ok (.iload 6, 2) := dk_21 6 (dk_at dksX4_isLegal_2 22 rfl rfl)
theorem dX4_isLegal_70 : decode cX4_isLegal 70 = .ok (.ifCond .eq 29, 3) := dk_153 0 29 (dk_at dksX4_isLegal_3 0 rfl rfl)
theorem dX4_isLegal_73 : decode cX4_isLegal 73 = .ok (.iload_n 1, 1) := dk_27 (dk_at dksX4_isLegal_3 3 rfl rfl)
theorem dX4_isLegal_74 : decode cX4_isLegal 74 = .ok (.iload_n 2, 1) := dk_28 (dk_at dksX4_isLegal_3 4 rfl rfl)
theorem dX4_isLegal_75 : decode cX4_isLegal 75 = .ok (.iand, 1) := dk_126 (dk_at dksX4_isLegal_3 5 rfl rfl)
theorem dX4_isLegal_76 : decode cX4_isLegal 76 = .ok (.ifCond .ne 23, 3) := dk_154 0 23 (dk_at dksX4_isLegal_3 6 rfl rfl)
theorem dX4_isLegal_79 : decode cX4_isLegal 79 = .ok (.aload_n 0, 1) := dk_42 (dk_at dksX4_isLegal_3 9 rfl rfl)
theorem dX4_isLegal_80 : decode cX4_isLegal 80 = .ok (.iload_n 3, 1) := dk_29 (dk_at dksX4_isLegal_3 10 rfl rfl)
theorem dX4_isLegal_81 : decode cX4_isLegal 81 = .ok (.ifCond .ne 7, 3) := dk_154 0 7 (dk_at dksX4_isLegal_3 11 rfl rfl)
theorem dX4_isLegal_84 : decode cX4_isLegal 84 = .ok (.iload_n 1, 1) := dk_27 (dk_at dksX4_isLegal_3 14 rfl rfl)
theorem dX4_isLegal_85 : decode cX4_isLegal 85 = .ok (.goto 4, 3) := dk_167 0 4 (dk_at dksX4_isLegal_3 15 rfl rfl)
theorem dX4_isLegal_88 : decode cX4_isLegal 88 = .ok (.iload_n 2, 1) := dk_28 (dk_at dksX4_isLegal_3 18 rfl rfl)
theorem dX4_isLegal_89 : decode cX4_isLegal 89 = .ok (.invokevirtual 44, 3) := dk_182 0 44 (dk_at dksX4_isLegal_3 19 rfl rfl)
theorem dX4_isLegal_92 : decode cX4_isLegal 92 = .ok (.ifCond .ne 7, 3) := dk_154 0 7 (dk_at dksX4_isLegal_4 0 rfl rfl)
theorem dX4_isLegal_95 : decode cX4_isLegal 95 = .ok (.iconst 1, 1) := dk_4 (dk_at dksX4_isLegal_4 3 rfl rfl)
theorem dX4_isLegal_96 : decode cX4_isLegal 96 = .ok (.goto 4, 3) := dk_167 0 4 (dk_at dksX4_isLegal_4 4 rfl rfl)
theorem dX4_isLegal_99 : decode cX4_isLegal 99 = .ok (.iconst 0, 1) := dk_3 (dk_at dksX4_isLegal_4 7 rfl rfl)
theorem dX4_isLegal_100 : decode cX4_isLegal 100 = .ok (.ireturn, 1) := dk_172 (dk_at dksX4_isLegal_4 8 rfl rfl)
abbrev cX4_hasLine : ByteArray := prog_4_method_5_code
def yX4_hasLine : MethodName := ⟨RX4, "hasLine", "(I)Z"⟩
def dkwX4_hasLine_1 : List UInt8 := [46, 160, 0, 7, 4, 167, 0, 4, 3, 128, 61, 132, 3, 1, 167, 255, 222, 28, 172]
abbrev dktX4_hasLine_1 : List UInt8 := dkwX4_hasLine_1 ++ []
def dkwX4_hasLine_0 : List UInt8 := [3, 61, 3, 62, 29, 42, 180, 0, 18, 162, 0, 32, 28, 27, 178, 0, 15, 29, 46, 126, 178, 0, 15, 29]
abbrev dktX4_hasLine_0 : List UInt8 := dkwX4_hasLine_0 ++ dktX4_hasLine_1
theorem dksX4_hasLine_0 : cX4_hasLine.data.toList.drop 0 = dktX4_hasLine_0 := by decide +kernel
theorem dksX4_hasLine_1 : cX4_hasLine.data.toList.drop 24 = dktX4_hasLine_1 := dk_seg dksX4_hasLine_0 24 rfl rfl
theorem dX4_hasLine_0 : decode cX4_hasLine 0 = .ok (.iconst 0, 1) := dk_3 (dk_at dksX4_hasLine_0 0 rfl rfl)
theorem dX4_hasLine_1 : decode cX4_hasLine 1 = .ok (.istore_n 2, 1) := dk_61 (dk_at dksX4_hasLine_0 1 rfl rfl)
theorem dX4_hasLine_2 : decode cX4_hasLine 2 = .ok (.iconst 0, 1) := dk_3 (dk_at dksX4_hasLine_0 2 rfl rfl)
theorem dX4_hasLine_3 : decode cX4_hasLine 3 = .ok (.istore_n 3, 1) := dk_62 (dk_at dksX4_hasLine_0 3 rfl rfl)
theorem dX4_hasLine_4 : decode cX4_hasLine 4 = .ok (.iload_n 3, 1) := dk_29 (dk_at dksX4_hasLine_0 4 rfl rfl)
theorem dX4_hasLine_5 : decode cX4_hasLine 5 = .ok (.aload_n 0, 1) := dk_42 (dk_at dksX4_hasLine_0 5 rfl rfl)
theorem dX4_hasLine_6 : decode cX4_hasLine 6 = .ok (.getfield 18, 3) := dk_180 0 18 (dk_at dksX4_hasLine_0 6 rfl rfl)
theorem dX4_hasLine_9 : decode cX4_hasLine 9 = .ok (.if_icmp .ge 32, 3) := dk_162 0 32 (dk_at dksX4_hasLine_0 9 rfl rfl)
theorem dX4_hasLine_12 : decode cX4_hasLine 12 = .ok (.iload_n 2, 1) := dk_28 (dk_at dksX4_hasLine_0 12 rfl rfl)
theorem dX4_hasLine_13 : decode cX4_hasLine 13 = .ok (.iload_n 1, 1) := dk_27 (dk_at dksX4_hasLine_0 13 rfl rfl)
theorem dX4_hasLine_14 : decode cX4_hasLine 14 = .ok (.getstatic 15, 3) := dk_178 0 15 (dk_at dksX4_hasLine_0 14 rfl rfl)
theorem dX4_hasLine_17 : decode cX4_hasLine 17 = .ok (.iload_n 3, 1) := dk_29 (dk_at dksX4_hasLine_0 17 rfl rfl)
theorem dX4_hasLine_18 : decode cX4_hasLine 18 = .ok (.iaload, 1) := dk_46 (dk_at dksX4_hasLine_0 18 rfl rfl)
theorem dX4_hasLine_19 : decode cX4_hasLine 19 = .ok (.iand, 1) := dk_126 (dk_at dksX4_hasLine_0 19 rfl rfl)
theorem dX4_hasLine_20 : decode cX4_hasLine 20 = .ok (.getstatic 15, 3) := dk_178 0 15 (dk_at dksX4_hasLine_0 20 rfl rfl)
theorem dX4_hasLine_23 : decode cX4_hasLine 23 = .ok (.iload_n 3, 1) := dk_29 (dk_at dksX4_hasLine_0 23 rfl rfl)
theorem dX4_hasLine_24 : decode cX4_hasLine 24 = .ok (.iaload, 1) := dk_46 (dk_at dksX4_hasLine_1 0 rfl rfl)
theorem dX4_hasLine_25 : decode cX4_hasLine 25 = .ok (.if_icmp .ne 7, 3) := dk_160 0 7 (dk_at dksX4_hasLine_1 1 rfl rfl)
theorem dX4_hasLine_28 : decode cX4_hasLine 28 = .ok (.iconst 1, 1) := dk_4 (dk_at dksX4_hasLine_1 4 rfl rfl)
theorem dX4_hasLine_29 : decode cX4_hasLine 29 = .ok (.goto 4, 3) := dk_167 0 4 (dk_at dksX4_hasLine_1 5 rfl rfl)
theorem dX4_hasLine_32 : decode cX4_hasLine 32 = .ok (.iconst 0, 1) := dk_3 (dk_at dksX4_hasLine_1 8 rfl rfl)
theorem dX4_hasLine_33 : decode cX4_hasLine 33 = .ok (.ior, 1) := dk_128 (dk_at dksX4_hasLine_1 9 rfl rfl)
theorem dX4_hasLine_34 : decode cX4_hasLine 34 = .ok (.istore_n 2, 1) := dk_61 (dk_at dksX4_hasLine_1 10 rfl rfl)
theorem dX4_hasLine_35 : decode cX4_hasLine 35 = .ok (.iinc 3 1, 3) := dk_132 3 1 (dk_at dksX4_hasLine_1 11 rfl rfl)
theorem dX4_hasLine_38 : decode cX4_hasLine 38 = .ok (.goto (-34), 3) := dk_167 255 222 (dk_at dksX4_hasLine_1 14 rfl rfl)
theorem dX4_hasLine_41 : decode cX4_hasLine 41 = .ok (.iload_n 2, 1) := dk_28 (dk_at dksX4_hasLine_1 17 rfl rfl)
theorem dX4_hasLine_42 : decode cX4_hasLine 42 = .ok (.ireturn, 1) := dk_172 (dk_at dksX4_hasLine_1 18 rfl rfl)
abbrev cX4_hasLost : ByteArray := prog_4_method_8_code
def yX4_hasLost : MethodName := ⟨RX4, "hasLost", "(II)Z"⟩
def dkwX4_hasLost_1 : List UInt8 := [4, 167, 0, 4, 3, 172]
abbrev dktX4_hasLost_1 : List UInt8 := dkwX4_hasLost_1 ++ []
def dkwX4_hasLost_0 : List UInt8 := [42, 28, 182, 0, 44, 154, 0, 19, 42, 180, 0, 22, 153, 0, 16, 42, 27, 28, 182, 0, 48, 153, 0, 7]
abbrev dktX4_hasLost_0 : List UInt8 := dkwX4_hasLost_0 ++ dktX4_hasLost_1
theorem dksX4_hasLost_0 : cX4_hasLost.data.toList.drop 0 = dktX4_hasLost_0 := by decide +kernel
theorem dksX4_hasLost_1 : cX4_hasLost.data.toList.drop 24 = dktX4_hasLost_1 := dk_seg dksX4_hasLost_0 24 rfl rfl
theorem dX4_hasLost_0 : decode cX4_hasLost 0 = .ok (.aload_n 0, 1) := dk_42 (dk_at dksX4_hasLost_0 0 rfl rfl)
theorem dX4_hasLost_1 : decode cX4_hasLost 1 = .ok (.iload_n 2, 1) := dk_28 (dk_at dksX4_hasLost_0 1 rfl rfl)
theorem dX4_hasLost_2 : decode cX4_hasLost 2 = .ok (.invokevirtual 44, 3) := dk_182 0 44 (dk_at dksX4_hasLost_0 2 rfl rfl)
theorem dX4_hasLost_5 : decode cX4_hasLost 5 = .ok (.ifCond .ne 19, 3) := dk_154 0 19 (dk_at dksX4_hasLost_0 5 rfl rfl)
theorem dX4_hasLost_8 : decode cX4_hasLost 8 = .ok (.aload_n 0, 1) := dk_42 (dk_at dksX4_hasLost_0 8 rfl rfl)
theorem dX4_hasLost_9 : decode cX4_hasLost 9 = .ok (.getfield 22, 3) := dk_180 0 22 (dk_at dksX4_hasLost_0 9 rfl rfl)
theorem dX4_hasLost_12 : decode cX4_hasLost 12 = .ok (.ifCond .eq 16, 3) := dk_153 0 16 (dk_at dksX4_hasLost_0 12 rfl rfl)
theorem dX4_hasLost_15 : decode cX4_hasLost 15 = .ok (.aload_n 0, 1) := dk_42 (dk_at dksX4_hasLost_0 15 rfl rfl)
theorem dX4_hasLost_16 : decode cX4_hasLost 16 = .ok (.iload_n 1, 1) := dk_27 (dk_at dksX4_hasLost_0 16 rfl rfl)
theorem dX4_hasLost_17 : decode cX4_hasLost 17 = .ok (.iload_n 2, 1) := dk_28 (dk_at dksX4_hasLost_0 17 rfl rfl)
theorem dX4_hasLost_18 : decode cX4_hasLost 18 = .ok (.invokevirtual 48, 3) := dk_182 0 48 (dk_at dksX4_hasLost_0 18 rfl rfl)
theorem dX4_hasLost_21 : decode cX4_hasLost 21 = .ok (.ifCond .eq 7, 3) := dk_153 0 7 (dk_at dksX4_hasLost_0 21 rfl rfl)
theorem dX4_hasLost_24 : decode cX4_hasLost 24 = .ok (.iconst 1, 1) := dk_4 (dk_at dksX4_hasLost_1 0 rfl rfl)
theorem dX4_hasLost_25 : decode cX4_hasLost 25 = .ok (.goto 4, 3) := dk_167 0 4 (dk_at dksX4_hasLost_1 1 rfl rfl)
theorem dX4_hasLost_28 : decode cX4_hasLost 28 = .ok (.iconst 0, 1) := dk_3 (dk_at dksX4_hasLost_1 4 rfl rfl)
theorem dX4_hasLost_29 : decode cX4_hasLost 29 = .ok (.ireturn, 1) := dk_172 (dk_at dksX4_hasLost_1 5 rfl rfl)
abbrev cX4_isLocked : ByteArray := prog_4_method_7_code
def yX4_isLocked : MethodName := ⟨RX4, "isLocked", "(II)Z"⟩
def dkwX4_isLocked_2 : List UInt8 := [160, 0, 19, 29, 27, 2, 130, 126, 28, 2, 130, 126, 154, 0, 7, 4, 167, 0, 4, 3, 172]
abbrev dktX4_isLocked_2 : List UInt8 := dkwX4_isLocked_2 ++ []
def dkwX4_isLocked_1 : List UInt8 := [180, 0, 9, 21, 4, 46, 167, 0, 4, 3, 128, 62, 132, 4, 1, 167, 255, 222, 27, 184, 0, 39, 6]
abbrev dktX4_isLocked_1 : List UInt8 := dkwX4_isLocked_1 ++ dktX4_isLocked_2
def dkwX4_isLocked_0 : List UInt8 := [3, 62, 3, 54, 4, 21, 4, 16, 9, 162, 0, 33, 29, 27, 21, 4, 122, 4, 126, 4, 160, 0, 13, 42]
abbrev dktX4_isLocked_0 : List UInt8 := dkwX4_isLocked_0 ++ dktX4_isLocked_1
theorem dksX4_isLocked_0 : cX4_isLocked.data.toList.drop 0 = dktX4_isLocked_0 := by decide +kernel
theorem dksX4_isLocked_1 : cX4_isLocked.data.toList.drop 24 = dktX4_isLocked_1 := dk_seg dksX4_isLocked_0 24 rfl rfl
theorem dksX4_isLocked_2 : cX4_isLocked.data.toList.drop 47 = dktX4_isLocked_2 := dk_seg dksX4_isLocked_1 23 rfl rfl
theorem dX4_isLocked_0 : decode cX4_isLocked 0 = .ok (.iconst 0, 1) := dk_3 (dk_at dksX4_isLocked_0 0 rfl rfl)
theorem dX4_isLocked_1 : decode cX4_isLocked 1 = .ok (.istore_n 3, 1) := dk_62 (dk_at dksX4_isLocked_0 1 rfl rfl)
theorem dX4_isLocked_2 : decode cX4_isLocked 2 = .ok (.iconst 0, 1) := dk_3 (dk_at dksX4_isLocked_0 2 rfl rfl)
theorem dX4_isLocked_3 : decode cX4_isLocked 3 = .ok (.istore 4, 2) := dk_54 4 (dk_at dksX4_isLocked_0 3 rfl rfl)
theorem dX4_isLocked_5 : decode cX4_isLocked 5 = .ok (.iload 4, 2) := dk_21 4 (dk_at dksX4_isLocked_0 5 rfl rfl)
theorem dX4_isLocked_7 : decode cX4_isLocked 7 = .ok (.bipush 9, 2) := dk_16 9 (dk_at dksX4_isLocked_0 7 rfl rfl)
theorem dX4_isLocked_9 : decode cX4_isLocked 9 = .ok (.if_icmp .ge 33, 3) := dk_162 0 33 (dk_at dksX4_isLocked_0 9 rfl rfl)
theorem dX4_isLocked_12 : decode cX4_isLocked 12 = .ok (.iload_n 3, 1) := dk_29 (dk_at dksX4_isLocked_0 12 rfl rfl)
theorem dX4_isLocked_13 : decode cX4_isLocked 13 = .ok (.iload_n 1, 1) := dk_27 (dk_at dksX4_isLocked_0 13 rfl rfl)
theorem dX4_isLocked_14 : decode cX4_isLocked 14 = .ok (.iload 4, 2) := dk_21 4 (dk_at dksX4_isLocked_0 14 rfl rfl)
theorem dX4_isLocked_16 : decode cX4_isLocked 16 = .ok (.ishr, 1) := dk_122 (dk_at dksX4_isLocked_0 16 rfl rfl)
theorem dX4_isLocked_17 : decode cX4_isLocked 17 = .ok (.iconst 1, 1) := dk_4 (dk_at dksX4_isLocked_0 17 rfl rfl)
theorem dX4_isLocked_18 : decode cX4_isLocked 18 = .ok (.iand, 1) := dk_126 (dk_at dksX4_isLocked_0 18 rfl rfl)
theorem dX4_isLocked_19 : decode cX4_isLocked 19 = .ok (.iconst 1, 1) := dk_4 (dk_at dksX4_isLocked_0 19 rfl rfl)
theorem dX4_isLocked_20 : decode cX4_isLocked 20 = .ok (.if_icmp .ne 13, 3) := dk_160 0 13 (dk_at dksX4_isLocked_0 20 rfl rfl)
theorem dX4_isLocked_23 : decode cX4_isLocked 23 = .ok (.aload_n 0, 1) := dk_42 (dk_at dksX4_isLocked_0 23 rfl rfl)
theorem dX4_isLocked_24 : decode cX4_isLocked 24 = .ok (.getfield 9, 3) := dk_180 0 9 (dk_at dksX4_isLocked_1 0 rfl rfl)
theorem dX4_isLocked_27 : decode cX4_isLocked 27 = .ok (.iload 4, 2) := dk_21 4 (dk_at dksX4_isLocked_1 3 rfl rfl)
theorem dX4_isLocked_29 : decode cX4_isLocked 29 = .ok (.iaload, 1) := dk_46 (dk_at dksX4_isLocked_1 5 rfl rfl)
theorem dX4_isLocked_30 : decode cX4_isLocked 30 = .ok (.goto 4, 3) := dk_167 0 4 (dk_at dksX4_isLocked_1 6 rfl rfl)
theorem dX4_isLocked_33 : decode cX4_isLocked 33 = .ok (.iconst 0, 1) := dk_3 (dk_at dksX4_isLocked_1 9 rfl rfl)
theorem dX4_isLocked_34 : decode cX4_isLocked 34 = .ok (.ior, 1) := dk_128 (dk_at dksX4_isLocked_1 10 rfl rfl)
theorem dX4_isLocked_35 : decode cX4_isLocked 35 = .ok (.istore_n 3, 1) := dk_62 (dk_at dksX4_isLocked_1 11 rfl rfl)
theorem dX4_isLocked_36 : decode cX4_isLocked 36 = .ok (.iinc 4 1, 3) := dk_132 4 1 (dk_at dksX4_isLocked_1 12 rfl rfl)
theorem dX4_isLocked_39 : decode cX4_isLocked 39 = .ok (.goto (-34), 3) := dk_167 255 222 (dk_at dksX4_isLocked_1 15 rfl rfl)
theorem dX4_isLocked_42 : decode cX4_isLocked 42 = .ok (.iload_n 1, 1) := dk_27 (dk_at dksX4_isLocked_1 18 rfl rfl)
theorem dX4_isLocked_43 : decode cX4_isLocked 43 = .ok (.invokestatic 39, 3) := dk_184 0 39 (dk_at dksX4_isLocked_1 19 rfl rfl)
theorem dX4_isLocked_46 : decode cX4_isLocked 46 = .ok (.iconst 3, 1) := dk_6 (dk_at dksX4_isLocked_1 22 rfl rfl)
theorem dX4_isLocked_47 : decode cX4_isLocked 47 = .ok (.if_icmp .ne 19, 3) := dk_160 0 19 (dk_at dksX4_isLocked_2 0 rfl rfl)
theorem dX4_isLocked_50 : decode cX4_isLocked 50 = .ok (.iload_n 3, 1) := dk_29 (dk_at dksX4_isLocked_2 3 rfl rfl)
theorem dX4_isLocked_51 : decode cX4_isLocked 51 = .ok (.iload_n 1, 1) := dk_27 (dk_at dksX4_isLocked_2 4 rfl rfl)
theorem dX4_isLocked_52 : decode cX4_isLocked 52 = .ok (.iconst (-1), 1) := dk_2 (dk_at dksX4_isLocked_2 5 rfl rfl)
theorem dX4_isLocked_53 : decode cX4_isLocked 53 = .ok (.ixor, 1) := dk_130 (dk_at dksX4_isLocked_2 6 rfl rfl)
theorem dX4_isLocked_54 : decode cX4_isLocked 54 = .ok (.iand, 1) := dk_126 (dk_at dksX4_isLocked_2 7 rfl rfl)
theorem dX4_isLocked_55 : decode cX4_isLocked 55 = .ok (.iload_n 2, 1) := dk_28 (dk_at dksX4_isLocked_2 8 rfl rfl)
theorem dX4_isLocked_56 : decode cX4_isLocked 56 = .ok (.iconst (-1), 1) := dk_2 (dk_at dksX4_isLocked_2 9 rfl rfl)
theorem dX4_isLocked_57 : decode cX4_isLocked 57 = .ok (.ixor, 1) := dk_130 (dk_at dksX4_isLocked_2 10 rfl rfl)
theorem dX4_isLocked_58 : decode cX4_isLocked 58 = .ok (.iand, 1) := dk_126 (dk_at dksX4_isLocked_2 11 rfl rfl)
theorem dX4_isLocked_59 : decode cX4_isLocked 59 = .ok (.ifCond .ne 7, 3) := dk_154 0 7 (dk_at dksX4_isLocked_2 12 rfl rfl)
theorem dX4_isLocked_62 : decode cX4_isLocked 62 = .ok (.iconst 1, 1) := dk_4 (dk_at dksX4_isLocked_2 15 rfl rfl)
theorem dX4_isLocked_63 : decode cX4_isLocked 63 = .ok (.goto 4, 3) := dk_167 0 4 (dk_at dksX4_isLocked_2 16 rfl rfl)
theorem dX4_isLocked_66 : decode cX4_isLocked 66 = .ok (.iconst 0, 1) := dk_3 (dk_at dksX4_isLocked_2 19 rfl rfl)
theorem dX4_isLocked_67 : decode cX4_isLocked 67 = .ok (.ireturn, 1) := dk_172 (dk_at dksX4_isLocked_2 20 rfl rfl)
abbrev cX4_next : ByteArray := prog_4_method_4_code
def yX4_next : MethodName := ⟨RX4, "next", "(I)I"⟩
def dkwX4_next_0 : List UInt8 := [42, 180, 0, 9, 27, 46, 172]
abbrev dktX4_next_0 : List UInt8 := dkwX4_next_0 ++ []
theorem dksX4_next_0 : cX4_next.data.toList.drop 0 = dktX4_next_0 := by decide +kernel
theorem dX4_next_0 : decode cX4_next 0 = .ok (.aload_n 0, 1) := dk_42 (dk_at dksX4_next_0 0 rfl rfl)
theorem dX4_next_1 : decode cX4_next 1 = .ok (.getfield 9, 3) := dk_180 0 9 (dk_at dksX4_next_0 1 rfl rfl)
theorem dX4_next_4 : decode cX4_next 4 = .ok (.iload_n 1, 1) := dk_27 (dk_at dksX4_next_0 4 rfl rfl)
theorem dX4_next_5 : decode cX4_next 5 = .ok (.iaload, 1) := dk_46 (dk_at dksX4_next_0 5 rfl rfl)
theorem dX4_next_6 : decode cX4_next 6 = .ok (.ireturn, 1) := dk_172 (dk_at dksX4_next_0 6 rfl rfl)
abbrev cX4_behind : ByteArray := prog_4_method_10_code
def yX4_behind : MethodName := ⟨RX4, "behind", "(II)I"⟩
def dkwX4_behind_1 : List UInt8 := [27, 16, 9, 100, 16, 9, 108, 120, 2, 130, 126, 4, 27, 16, 9, 100, 16, 9, 112, 120, 128, 172]
abbrev dktX4_behind_1 : List UInt8 := dkwX4_behind_1 ++ []
def dkwX4_behind_0 : List UInt8 := [27, 16, 90, 160, 0, 5, 26, 172, 27, 16, 9, 162, 0, 11, 26, 4, 27, 120, 128, 167, 0, 26, 26, 4]
abbrev dktX4_behind_0 : List UInt8 := dkwX4_behind_0 ++ dktX4_behind_1
theorem dksX4_behind_0 : cX4_behind.data.toList.drop 0 = dktX4_behind_0 := by decide +kernel
theorem dksX4_behind_1 : cX4_behind.data.toList.drop 24 = dktX4_behind_1 := dk_seg dksX4_behind_0 24 rfl rfl
theorem dX4_behind_0 : decode cX4_behind 0 = .ok (.iload_n 1, 1) := dk_27 (dk_at dksX4_behind_0 0 rfl rfl)
theorem dX4_behind_1 : decode cX4_behind 1 = .ok (.bipush 90, 2) := dk_16 90 (dk_at dksX4_behind_0 1 rfl rfl)
theorem dX4_behind_3 : decode cX4_behind 3 = .ok (.if_icmp .ne 5, 3) := dk_160 0 5 (dk_at dksX4_behind_0 3 rfl rfl)
theorem dX4_behind_6 : decode cX4_behind 6 = .ok (.iload_n 0, 1) := dk_26 (dk_at dksX4_behind_0 6 rfl rfl)
theorem dX4_behind_7 : decode cX4_behind 7 = .ok (.ireturn, 1) := dk_172 (dk_at dksX4_behind_0 7 rfl rfl)
theorem dX4_behind_8 : decode cX4_behind 8 = .ok (.iload_n 1, 1) := dk_27 (dk_at dksX4_behind_0 8 rfl rfl)
theorem dX4_behind_9 : decode cX4_behind 9 = .ok (.bipush 9, 2) := dk_16 9 (dk_at dksX4_behind_0 9 rfl rfl)
theorem dX4_behind_11 : decode cX4_behind 11 = .ok (.if_icmp .ge 11, 3) := dk_162 0 11 (dk_at dksX4_behind_0 11 rfl rfl)
theorem dX4_behind_14 : decode cX4_behind 14 = .ok (.iload_n 0, 1) := dk_26 (dk_at dksX4_behind_0 14 rfl rfl)
theorem dX4_behind_15 : decode cX4_behind 15 = .ok (.iconst 1, 1) := dk_4 (dk_at dksX4_behind_0 15 rfl rfl)
theorem dX4_behind_16 : decode cX4_behind 16 = .ok (.iload_n 1, 1) := dk_27 (dk_at dksX4_behind_0 16 rfl rfl)
theorem dX4_behind_17 : decode cX4_behind 17 = .ok (.ishl, 1) := dk_120 (dk_at dksX4_behind_0 17 rfl rfl)
theorem dX4_behind_18 : decode cX4_behind 18 = .ok (.ior, 1) := dk_128 (dk_at dksX4_behind_0 18 rfl rfl)
theorem dX4_behind_19 : decode cX4_behind 19 = .ok (.goto 26, 3) := dk_167 0 26 (dk_at dksX4_behind_0 19 rfl rfl)
theorem dX4_behind_22 : decode cX4_behind 22 = .ok (.iload_n 0, 1) := dk_26 (dk_at dksX4_behind_0 22 rfl rfl)
theorem dX4_behind_23 : decode cX4_behind 23 = .ok (.iconst 1, 1) := dk_4 (dk_at dksX4_behind_0 23 rfl rfl)
theorem dX4_behind_24 : decode cX4_behind 24 = .ok (.iload_n 1, 1) := dk_27 (dk_at dksX4_behind_1 0 rfl rfl)
theorem dX4_behind_25 : decode cX4_behind 25 = .ok (.bipush 9, 2) := dk_16 9 (dk_at dksX4_behind_1 1 rfl rfl)
theorem dX4_behind_27 : decode cX4_behind 27 = .ok (.isub, 1) := dk_100 (dk_at dksX4_behind_1 3 rfl rfl)
theorem dX4_behind_28 : decode cX4_behind 28 = .ok (.bipush 9, 2) := dk_16 9 (dk_at dksX4_behind_1 4 rfl rfl)
theorem dX4_behind_30 : decode cX4_behind 30 = .ok (.idiv, 1) := dk_108 (dk_at dksX4_behind_1 6 rfl rfl)
theorem dX4_behind_31 : decode cX4_behind 31 = .ok (.ishl, 1) := dk_120 (dk_at dksX4_behind_1 7 rfl rfl)
theorem dX4_behind_32 : decode cX4_behind 32 = .ok (.iconst (-1), 1) := dk_2 (dk_at dksX4_behind_1 8 rfl rfl)
theorem dX4_behind_33 : decode cX4_behind 33 = .ok (.ixor, 1) := dk_130 (dk_at dksX4_behind_1 9 rfl rfl)
theorem dX4_behind_34 : decode cX4_behind 34 = .ok (.iand, 1) := dk_126 (dk_at dksX4_behind_1 10 rfl rfl)
theorem dX4_behind_35 : decode cX4_behind 35 = .ok (.iconst 1, 1) := dk_4 (dk_at dksX4_behind_1 11 rfl rfl)
theorem dX4_behind_36 : decode cX4_behind 36 = .ok (.iload_n 1, 1) := dk_27 (dk_at dksX4_behind_1 12 rfl rfl)
theorem dX4_behind_37 : decode cX4_behind 37 = .ok (.bipush 9, 2) := dk_16 9 (dk_at dksX4_behind_1 13 rfl rfl)
theorem dX4_behind_39 : decode cX4_behind 39 = .ok (.isub, 1) := dk_100 (dk_at dksX4_behind_1 15 rfl rfl)
theorem dX4_behind_40 : decode cX4_behind 40 = .ok (.bipush 9, 2) := dk_16 9 (dk_at dksX4_behind_1 16 rfl rfl)
theorem dX4_behind_42 : decode cX4_behind 42 = .ok (.irem, 1) := dk_112 (dk_at dksX4_behind_1 18 rfl rfl)
theorem dX4_behind_43 : decode cX4_behind 43 = .ok (.ishl, 1) := dk_120 (dk_at dksX4_behind_1 19 rfl rfl)
theorem dX4_behind_44 : decode cX4_behind 44 = .ok (.ior, 1) := dk_128 (dk_at dksX4_behind_1 20 rfl rfl)
theorem dX4_behind_45 : decode cX4_behind 45 = .ok (.ireturn, 1) := dk_172 (dk_at dksX4_behind_1 21 rfl rfl)
abbrev cX4_isMove : ByteArray := prog_4_method_9_code
def yX4_isMove : MethodName := ⟨RX4, "isMove", "(III)Z"⟩
def dkwX4_isMove_1 : List UInt8 := [160, 0, 12, 42, 27, 28, 182, 0, 48, 167, 0, 10, 42, 27, 28, 29, 182, 0, 58, 172]
abbrev dktX4_isMove_1 : List UInt8 := dkwX4_isMove_1 ++ []
def dkwX4_isMove_0 : List UInt8 := [42, 27, 28, 182, 0, 51, 154, 0, 13, 29, 3, 16, 90, 184, 0, 54, 154, 0, 5, 3, 172, 29, 16, 90]
abbrev dktX4_isMove_0 : List UInt8 := dkwX4_isMove_0 ++ dktX4_isMove_1
theorem dksX4_isMove_0 : cX4_isMove.data.toList.drop 0 = dktX4_isMove_0 := by decide +kernel
theorem dksX4_isMove_1 : cX4_isMove.data.toList.drop 24 = dktX4_isMove_1 := dk_seg dksX4_isMove_0 24 rfl rfl
theorem dX4_isMove_0 : decode cX4_isMove 0 = .ok (.aload_n 0, 1) := dk_42 (dk_at dksX4_isMove_0 0 rfl rfl)
theorem dX4_isMove_1 : decode cX4_isMove 1 = .ok (.iload_n 1, 1) := dk_27 (dk_at dksX4_isMove_0 1 rfl rfl)
theorem dX4_isMove_2 : decode cX4_isMove 2 = .ok (.iload_n 2, 1) := dk_28 (dk_at dksX4_isMove_0 2 rfl rfl)
theorem dX4_isMove_3 : decode cX4_isMove 3 = .ok (.invokevirtual 51, 3) := dk_182 0 51 (dk_at dksX4_isMove_0 3 rfl rfl)
theorem dX4_isMove_6 : decode cX4_isMove 6 = .ok (.ifCond .ne 13, 3) := dk_154 0 13 (dk_at dksX4_isMove_0 6 rfl rfl)
theorem dX4_isMove_9 : decode cX4_isMove 9 = .ok (.iload_n 3, 1) := dk_29 (dk_at dksX4_isMove_0 9 rfl rfl)
theorem dX4_isMove_10 : decode cX4_isMove 10 = .ok (.iconst 0, 1) := dk_3 (dk_at dksX4_isMove_0 10 rfl rfl)
theorem dX4_isMove_11 : decode cX4_isMove 11 = .ok (.bipush 90, 2) := dk_16 90 (dk_at dksX4_isMove_0 11 rfl rfl)
theorem dX4_isMove_13 : decode cX4_isMove 13 = .ok (.invokestatic 54, 3) := dk_184 0 54 (dk_at dksX4_isMove_0 13 rfl rfl)
theorem dX4_isMove_16 : decode cX4_isMove 16 = .ok (.ifCond .ne 5, 3) := dk_154 0 5 (dk_at dksX4_isMove_0 16 rfl rfl)
theorem dX4_isMove_19 : decode cX4_isMove 19 = .ok (.iconst 0, 1) := dk_3 (dk_at dksX4_isMove_0 19 rfl rfl)
theorem dX4_isMove_20 : decode cX4_isMove 20 = .ok (.ireturn, 1) := dk_172 (dk_at dksX4_isMove_0 20 rfl rfl)
theorem dX4_isMove_21 : decode cX4_isMove 21 = .ok (.iload_n 3, 1) := dk_29 (dk_at dksX4_isMove_0 21 rfl rfl)
theorem dX4_isMove_22 : decode cX4_isMove 22 = .ok (.bipush 90, 2) := dk_16 90 (dk_at dksX4_isMove_0 22 rfl rfl)
theorem dX4_isMove_24 : decode cX4_isMove 24 = .ok (.if_icmp .ne 12, 3) := dk_160 0 12 (dk_at dksX4_isMove_1 0 rfl rfl)
theorem dX4_isMove_27 : decode cX4_isMove 27 = .ok (.aload_n 0, 1) := dk_42 (dk_at dksX4_isMove_1 3 rfl rfl)
theorem dX4_isMove_28 : decode cX4_isMove 28 = .ok (.iload_n 1, 1) := dk_27 (dk_at dksX4_isMove_1 4 rfl rfl)
theorem dX4_isMove_29 : decode cX4_isMove 29 = .ok (.iload_n 2, 1) := dk_28 (dk_at dksX4_isMove_1 5 rfl rfl)
theorem dX4_isMove_30 : decode cX4_isMove 30 = .ok (.invokevirtual 48, 3) := dk_182 0 48 (dk_at dksX4_isMove_1 6 rfl rfl)
theorem dX4_isMove_33 : decode cX4_isMove 33 = .ok (.goto 10, 3) := dk_167 0 10 (dk_at dksX4_isMove_1 9 rfl rfl)
theorem dX4_isMove_36 : decode cX4_isMove 36 = .ok (.aload_n 0, 1) := dk_42 (dk_at dksX4_isMove_1 12 rfl rfl)
theorem dX4_isMove_37 : decode cX4_isMove 37 = .ok (.iload_n 1, 1) := dk_27 (dk_at dksX4_isMove_1 13 rfl rfl)
theorem dX4_isMove_38 : decode cX4_isMove 38 = .ok (.iload_n 2, 1) := dk_28 (dk_at dksX4_isMove_1 14 rfl rfl)
theorem dX4_isMove_39 : decode cX4_isMove 39 = .ok (.iload_n 3, 1) := dk_29 (dk_at dksX4_isMove_1 15 rfl rfl)
theorem dX4_isMove_40 : decode cX4_isMove 40 = .ok (.invokevirtual 58, 3) := dk_182 0 58 (dk_at dksX4_isMove_1 16 rfl rfl)
theorem dX4_isMove_43 : decode cX4_isMove 43 = .ok (.ireturn, 1) := dk_172 (dk_at dksX4_isMove_1 19 rfl rfl)
abbrev cX4_isPlain : ByteArray := prog_4_method_6_code
def yX4_isPlain : MethodName := ⟨RX4, "isPlain", "(III)Z"⟩
def dkwX4_isPlain_4 : List UInt8 := [21, 6, 122, 4, 126, 4, 160, 0, 7, 4, 167, 0, 4, 3, 172]
abbrev dktX4_isPlain_4 : List UInt8 := dkwX4_isPlain_4 ++ []
def dkwX4_isPlain_3 : List UInt8 := [6, 160, 0, 36, 27, 21, 5, 122, 4, 126, 4, 160, 0, 26, 42, 180, 0, 9, 21, 5, 46, 21, 4, 126]
abbrev dktX4_isPlain_3 : List UInt8 := dkwX4_isPlain_3 ++ dktX4_isPlain_4
def dkwX4_isPlain_2 : List UInt8 := [16, 9, 108, 54, 5, 29, 16, 9, 100, 16, 9, 112, 54, 6, 29, 16, 90, 162, 0, 44, 27, 184, 0, 39]
abbrev dktX4_isPlain_2 : List UInt8 := dkwX4_isPlain_2 ++ dktX4_isPlain_3
def dkwX4_isPlain_1 : List UInt8 := [162, 0, 17, 21, 4, 29, 122, 4, 126, 4, 160, 0, 7, 4, 167, 0, 4, 3, 172, 29, 16, 9, 100]
abbrev dktX4_isPlain_1 : List UInt8 := dkwX4_isPlain_1 ++ dktX4_isPlain_2
def dkwX4_isPlain_0 : List UInt8 := [17, 1, 255, 27, 2, 130, 126, 28, 2, 130, 126, 54, 4, 29, 16, 9, 162, 0, 27, 27, 184, 0, 39, 6]
abbrev dktX4_isPlain_0 : List UInt8 := dkwX4_isPlain_0 ++ dktX4_isPlain_1
theorem dksX4_isPlain_0 : cX4_isPlain.data.toList.drop 0 = dktX4_isPlain_0 := by decide +kernel
theorem dksX4_isPlain_1 : cX4_isPlain.data.toList.drop 24 = dktX4_isPlain_1 := dk_seg dksX4_isPlain_0 24 rfl rfl
theorem dksX4_isPlain_2 : cX4_isPlain.data.toList.drop 47 = dktX4_isPlain_2 := dk_seg dksX4_isPlain_1 23 rfl rfl
theorem dksX4_isPlain_3 : cX4_isPlain.data.toList.drop 71 = dktX4_isPlain_3 := dk_seg dksX4_isPlain_2 24 rfl rfl
theorem dksX4_isPlain_4 : cX4_isPlain.data.toList.drop 95 = dktX4_isPlain_4 := dk_seg dksX4_isPlain_3 24 rfl rfl
theorem dX4_isPlain_0 : decode cX4_isPlain 0 = .ok (.sipush 511, 3) := dk_17 1 255 (dk_at dksX4_isPlain_0 0 rfl rfl)
theorem dX4_isPlain_3 : decode cX4_isPlain 3 = .ok (.iload_n 1, 1) := dk_27 (dk_at dksX4_isPlain_0 3 rfl rfl)
theorem dX4_isPlain_4 : decode cX4_isPlain 4 = .ok (.iconst (-1), 1) := dk_2 (dk_at dksX4_isPlain_0 4 rfl rfl)
theorem dX4_isPlain_5 : decode cX4_isPlain 5 = .ok (.ixor, 1) := dk_130 (dk_at dksX4_isPlain_0 5 rfl rfl)
theorem dX4_isPlain_6 : decode cX4_isPlain 6 = .ok (.iand, 1) := dk_126 (dk_at dksX4_isPlain_0 6 rfl rfl)
theorem dX4_isPlain_7 : decode cX4_isPlain 7 = .ok (.iload_n 2, 1) := dk_28 (dk_at dksX4_isPlain_0 7 rfl rfl)
theorem dX4_isPlain_8 : decode cX4_isPlain 8 = .ok (.iconst (-1), 1) := dk_2 (dk_at dksX4_isPlain_0 8 rfl rfl)
theorem dX4_isPlain_9 : decode cX4_isPlain 9 = .ok (.ixor, 1) := dk_130 (dk_at dksX4_isPlain_0 9 rfl rfl)
theorem dX4_isPlain_10 : decode cX4_isPlain 10 = .ok (.iand, 1) := dk_126 (dk_at dksX4_isPlain_0 10 rfl rfl)
theorem dX4_isPlain_11 : decode cX4_isPlain 11 = .ok (.istore 4, 2) := dk_54 4 (dk_at dksX4_isPlain_0 11 rfl rfl)
theorem dX4_isPlain_13 : decode cX4_isPlain 13 = .ok (.iload_n 3, 1) := dk_29 (dk_at dksX4_isPlain_0 13 rfl rfl)
theorem dX4_isPlain_14 : decode cX4_isPlain 14 = .ok (.bipush 9, 2) := dk_16 9 (dk_at dksX4_isPlain_0 14 rfl rfl)
theorem dX4_isPlain_16 : decode cX4_isPlain 16 = .ok (.if_icmp .ge 27, 3) := dk_162 0 27 (dk_at dksX4_isPlain_0 16 rfl rfl)
theorem dX4_isPlain_19 : decode cX4_isPlain 19 = .ok (.iload_n 1, 1) := dk_27 (dk_at dksX4_isPlain_0 19 rfl rfl)
theorem dX4_isPlain_20 : decode cX4_isPlain 20 = .ok (.invokestatic 39, 3) := dk_184 0 39 (dk_at dksX4_isPlain_0 20 rfl rfl)
theorem dX4_isPlain_23 : decode cX4_isPlain 23 = .ok (.iconst 3, 1) := dk_6 (dk_at dksX4_isPlain_0 23 rfl rfl)
theorem dX4_isPlain_24 : decode cX4_isPlain 24 = .ok (.if_icmp .ge 17, 3) := dk_162 0 17 (dk_at dksX4_isPlain_1 0 rfl rfl)
theorem dX4_isPlain_27 : decode cX4_isPlain 27 = .ok (.iload 4, 2) := dk_21 4 (dk_at dksX4_isPlain_1 3 rfl rfl)
theorem dX4_isPlain_29 : decode cX4_isPlain 29 = .ok (.iload_n 3, 1) := dk_29 (dk_at dksX4_isPlain_1 5 rfl rfl)
theorem dX4_isPlain_30 : decode cX4_isPlain 30 = .ok (.ishr, 1) := dk_122 (dk_at dksX4_isPlain_1 6 rfl rfl)
theorem dX4_isPlain_31 : decode cX4_isPlain 31 = .ok (.iconst 1, 1) := dk_4 (dk_at dksX4_isPlain_1 7 rfl rfl)
theorem dX4_isPlain_32 : decode cX4_isPlain 32 = .ok (.iand, 1) := dk_126 (dk_at dksX4_isPlain_1 8 rfl rfl)
theorem dX4_isPlain_33 : decode cX4_isPlain 33 = .ok (.iconst 1, 1) := dk_4 (dk_at dksX4_isPlain_1 9 rfl rfl)
theorem dX4_isPlain_34 : decode cX4_isPlain 34 = .ok (.if_icmp .ne 7, 3) := dk_160 0 7 (dk_at dksX4_isPlain_1 10 rfl rfl)
theorem dX4_isPlain_37 : decode cX4_isPlain 37 = .ok (.iconst 1, 1) := dk_4 (dk_at dksX4_isPlain_1 13 rfl rfl)
theorem dX4_isPlain_38 : decode cX4_isPlain 38 = .ok (.goto 4, 3) := dk_167 0 4 (dk_at dksX4_isPlain_1 14 rfl rfl)
theorem dX4_isPlain_41 : decode cX4_isPlain 41 = .ok (.iconst 0, 1) := dk_3 (dk_at dksX4_isPlain_1 17 rfl rfl)
theorem dX4_isPlain_42 : decode cX4_isPlain 42 = .ok (.ireturn, 1) := dk_172 (dk_at dksX4_isPlain_1 18 rfl rfl)
theorem dX4_isPlain_43 : decode cX4_isPlain 43 = .ok (.iload_n 3, 1) := dk_29 (dk_at dksX4_isPlain_1 19 rfl rfl)
theorem dX4_isPlain_44 : decode cX4_isPlain 44 = .ok (.bipush 9, 2) := dk_16 9 (dk_at dksX4_isPlain_1 20 rfl rfl)
theorem dX4_isPlain_46 : decode cX4_isPlain 46 = .ok (.isub, 1) := dk_100 (dk_at dksX4_isPlain_1 22 rfl rfl)
theorem dX4_isPlain_47 : decode cX4_isPlain 47 = .ok (.bipush 9, 2) := dk_16 9 (dk_at dksX4_isPlain_2 0 rfl rfl)
theorem dX4_isPlain_49 : decode cX4_isPlain 49 = .ok (.idiv, 1) := dk_108 (dk_at dksX4_isPlain_2 2 rfl rfl)
theorem dX4_isPlain_50 : decode cX4_isPlain 50 = .ok (.istore 5, 2) := dk_54 5 (dk_at dksX4_isPlain_2 3 rfl rfl)
theorem dX4_isPlain_52 : decode cX4_isPlain 52 = .ok (.iload_n 3, 1) := dk_29 (dk_at dksX4_isPlain_2 5 rfl rfl)
theorem dX4_isPlain_53 : decode cX4_isPlain 53 = .ok (.bipush 9, 2) := dk_16 9 (dk_at dksX4_isPlain_2 6 rfl rfl)
theorem dX4_isPlain_55 : decode cX4_isPlain 55 = .ok (.isub, 1) := dk_100 (dk_at dksX4_isPlain_2 8 rfl rfl)
theorem dX4_isPlain_56 : decode cX4_isPlain 56 = .ok (.bipush 9, 2) := dk_16 9 (dk_at dksX4_isPlain_2 9 rfl rfl)
theorem dX4_isPlain_58 : decode cX4_isPlain 58 = .ok (.irem, 1) := dk_112 (dk_at dksX4_isPlain_2 11 rfl rfl)
theorem dX4_isPlain_59 : decode cX4_isPlain 59 = .ok (.istore 6, 2) := dk_54 6 (dk_at dksX4_isPlain_2 12 rfl rfl)
theorem dX4_isPlain_61 : decode cX4_isPlain 61 = .ok (.iload_n 3, 1) := dk_29 (dk_at dksX4_isPlain_2 14 rfl rfl)
theorem dX4_isPlain_62 : decode cX4_isPlain 62 = .ok (.bipush 90, 2) := dk_16 90 (dk_at dksX4_isPlain_2 15 rfl rfl)
theorem dX4_isPlain_64 : decode cX4_isPlain 64 = .ok (.if_icmp .ge 44, 3) := dk_162 0 44 (dk_at dksX4_isPlain_2 17 rfl rfl)
theorem dX4_isPlain_67 : decode cX4_isPlain 67 = .ok (.iload_n 1, 1) := dk_27 (dk_at dksX4_isPlain_2 20 rfl rfl)
theorem dX4_isPlain_68 : decode cX4_isPlain 68 = .ok (.invokestatic 39, 3) := dk_184 0 39 (dk_at dksX4_isPlain_2 21 rfl rfl)
theorem dX4_isPlain_71 : decode cX4_isPlain 71 = .ok (.iconst 3, 1) := dk_6 (dk_at dksX4_isPlain_3 0 rfl rfl)
theorem dX4_isPlain_72 : decode cX4_isPlain 72 = .ok (.if_icmp .ne 36, 3) := dk_160 0 36 (dk_at dksX4_isPlain_3 1 rfl rfl)
theorem dX4_isPlain_75 : decode cX4_isPlain 75 = .ok (.iload_n 1, 1) := dk_27 (dk_at dksX4_isPlain_3 4 rfl rfl)
theorem dX4_isPlain_76 : decode cX4_isPlain 76 = .ok (.iload 5, 2) := dk_21 5 (dk_at dksX4_isPlain_3 5 rfl rfl)
theorem dX4_isPlain_78 : decode cX4_isPlain 78 = .ok (.ishr, 1) := dk_122 (dk_at dksX4_isPlain_3 7 rfl rfl)
theorem dX4_isPlain_79 : decode cX4_isPlain 79 = .ok (.iconst 1, 1) := dk_4 (dk_at dksX4_isPlain_3 8 rfl rfl)
theorem dX4_isPlain_80 : decode cX4_isPlain 80 = .ok (.iand, 1) := dk_126 (dk_at dksX4_isPlain_3 9 rfl rfl)
theorem dX4_isPlain_81 : decode cX4_isPlain 81 = .ok (.iconst 1, 1) := dk_4 (dk_at dksX4_isPlain_3 10 rfl rfl)
theorem dX4_isPlain_82 : decode cX4_isPlain 82 = .ok (.if_icmp .ne 26, 3) := dk_160 0 26 (dk_at dksX4_isPlain_3 11 rfl rfl)
theorem dX4_isPlain_85 : decode cX4_isPlain 85 = .ok (.aload_n 0, 1) := dk_42 (dk_at dksX4_isPlain_3 14 rfl rfl)
theorem dX4_isPlain_86 : decode cX4_isPlain 86 = .ok (.getfield 9, 3) := dk_180 0 9 (dk_at dksX4_isPlain_3 15 rfl rfl)
theorem dX4_isPlain_89 : decode cX4_isPlain 89 = .ok (.iload 5, 2) := dk_21 5 (dk_at dksX4_isPlain_3 18 rfl rfl)
theorem dX4_isPlain_91 : decode cX4_isPlain 91 = .ok (.iaload, 1) := dk_46 (dk_at dksX4_isPlain_3 20 rfl rfl)
theorem dX4_isPlain_92 : decode cX4_isPlain 92 = .ok (.iload 4, 2) := dk_21 4 (dk_at dksX4_isPlain_3 21 rfl rfl)
theorem dX4_isPlain_94 : decode cX4_isPlain 94 = .ok (.iand, 1) := dk_126 (dk_at dksX4_isPlain_3 23 rfl rfl)
theorem dX4_isPlain_95 : decode cX4_isPlain 95 = .ok (.iload 6, 2) := dk_21 6 (dk_at dksX4_isPlain_4 0 rfl rfl)
theorem dX4_isPlain_97 : decode cX4_isPlain 97 = .ok (.ishr, 1) := dk_122 (dk_at dksX4_isPlain_4 2 rfl rfl)
theorem dX4_isPlain_98 : decode cX4_isPlain 98 = .ok (.iconst 1, 1) := dk_4 (dk_at dksX4_isPlain_4 3 rfl rfl)
theorem dX4_isPlain_99 : decode cX4_isPlain 99 = .ok (.iand, 1) := dk_126 (dk_at dksX4_isPlain_4 4 rfl rfl)
theorem dX4_isPlain_100 : decode cX4_isPlain 100 = .ok (.iconst 1, 1) := dk_4 (dk_at dksX4_isPlain_4 5 rfl rfl)
theorem dX4_isPlain_101 : decode cX4_isPlain 101 = .ok (.if_icmp .ne 7, 3) := dk_160 0 7 (dk_at dksX4_isPlain_4 6 rfl rfl)
theorem dX4_isPlain_104 : decode cX4_isPlain 104 = .ok (.iconst 1, 1) := dk_4 (dk_at dksX4_isPlain_4 9 rfl rfl)
theorem dX4_isPlain_105 : decode cX4_isPlain 105 = .ok (.goto 4, 3) := dk_167 0 4 (dk_at dksX4_isPlain_4 10 rfl rfl)
theorem dX4_isPlain_108 : decode cX4_isPlain 108 = .ok (.iconst 0, 1) := dk_3 (dk_at dksX4_isPlain_4 13 rfl rfl)
theorem dX4_isPlain_109 : decode cX4_isPlain 109 = .ok (.ireturn, 1) := dk_172 (dk_at dksX4_isPlain_4 14 rfl rfl)
theorem q87 : (Jvm.Cond.initialized "MorrisTables$Rules") ∈ lw_all := lw_g (lw_at lw_m1 18 rfl) rfl
theorem q401 : (Jvm.Cond.instanceMethod ({ cls := "MorrisTables$Rules", name := "<init>", desc := "(II)V" } : Jvm.MethodName)) ∈ lw_all := lw_g (lw_at lw_m2 92 rfl) rfl
theorem q402 : (Jvm.Cond.code ({ cls := "MorrisTables$Rules", name := "<init>", desc := "(II)V" } : Jvm.MethodName) prog_4_method_1_code (4 : Nat) (Option.none : Option Jvm.ClassFile.FieldType)) ∈ lw_all := lw_g (lw_at lw_m2 93 rfl) rfl
theorem q403 : (Jvm.Cond.methodLink "MorrisTables$Rules" (3 : Nat) ({ cls := "java/lang/Object", name := "<init>", desc := "()V" } : Jvm.MethodName)) ∈ lw_all := lw_g (lw_at lw_m2 94 rfl) rfl
theorem q404 : (Jvm.Cond.fieldLinkNest "MorrisTables$Rules" (15 : Nat) "MorrisTables" "LINES" "[I" "MorrisTables") ∈ lw_tbl := lw_at lw_m2 95 rfl
theorem q406 : (Jvm.Cond.methodLink "MorrisTables$Rules" (26 : Nat) ({ cls := "MorrisTables$Rules", name := "nextOf", desc := "(I)I" } : Jvm.MethodName)) ∈ lw_all := lw_g (lw_at lw_m2 97 rfl) rfl
theorem q407 : (Jvm.Cond.privateMethod ({ cls := "MorrisTables$Rules", name := "nextOf", desc := "(I)I" } : Jvm.MethodName)) ∈ lw_tbl := lw_at lw_m2 98 rfl
theorem q408 : (Jvm.Cond.instanceMethod ({ cls := "MorrisTables$Rules", name := "nextOf", desc := "(I)I" } : Jvm.MethodName)) ∈ lw_all := lw_g (lw_at lw_m2 99 rfl) rfl
theorem q409 : (Jvm.Cond.instantiable "MorrisTables$Rules" (3 : Nat)) ∈ lw_all := lw_g (lw_at lw_m2 100 rfl) rfl
theorem q410 : (Jvm.Cond.code ({ cls := "MorrisTables$Rules", name := "nextOf", desc := "(I)I" } : Jvm.MethodName) prog_4_method_3_code (6 : Nat) (Option.some Jvm.ClassFile.FieldType.int)) ∈ lw_all := lw_g (lw_at lw_m2 101 rfl) rfl
theorem q411 : (Jvm.Cond.methodLink "MorrisTables$Rules" (35 : Nat) ({ cls := "MorrisTables$Rules", name := "isBeside", desc := "(II)Z" } : Jvm.MethodName)) ∈ lw_all := lw_g (lw_at lw_m2 102 rfl) rfl
theorem q412 : (Jvm.Cond.static ({ cls := "MorrisTables$Rules", name := "isBeside", desc := "(II)Z" } : Jvm.MethodName)) ∈ lw_all := lw_g (lw_at lw_m2 103 rfl) rfl
theorem q413 : (Jvm.Cond.code ({ cls := "MorrisTables$Rules", name := "isBeside", desc := "(II)Z" } : Jvm.MethodName) prog_4_method_2_code (4 : Nat) (Option.some Jvm.ClassFile.FieldType.boolean)) ∈ lw_all := lw_g (lw_at lw_m2 104 rfl) rfl
theorem q414 : (Jvm.Cond.methodLink "MorrisTables$Rules" (30 : Nat) ({ cls := "java/lang/Math", name := "abs", desc := "(I)I" } : Jvm.MethodName)) ∈ lw_all := lw_g (lw_at lw_m2 105 rfl) rfl
theorem q434 : (Jvm.Cond.declares ({ cls := "MorrisTables$Rules", name := "isLegal", desc := "(III)Z" } : Jvm.MethodName)) ∈ lw_tbl := lw_at lw_m2 125 rfl
theorem q436 : (Jvm.Cond.instanceMethod ({ cls := "MorrisTables$Rules", name := "isLegal", desc := "(III)Z" } : Jvm.MethodName)) ∈ lw_all := lw_g (lw_at lw_m2 127 rfl) rfl
theorem q437 : (Jvm.Cond.code ({ cls := "MorrisTables$Rules", name := "isLegal", desc := "(III)Z" } : Jvm.MethodName) prog_4_method_11_code (7 : Nat) (Option.some Jvm.ClassFile.FieldType.boolean)) ∈ lw_all := lw_g (lw_at lw_m2 128 rfl) rfl
theorem q438 : (Jvm.Cond.methodLink "MorrisTables$Rules" (39 : Nat) ({ cls := "java/lang/Integer", name := "bitCount", desc := "(I)I" } : Jvm.MethodName)) ∈ lw_all := lw_g (lw_at lw_m2 129 rfl) rfl
theorem q439 : (Jvm.Cond.methodLink "MorrisTables$Rules" (44 : Nat) ({ cls := "MorrisTables$Rules", name := "hasLine", desc := "(I)Z" } : Jvm.MethodName)) ∈ lw_all := lw_g (lw_at lw_m2 130 rfl) rfl
theorem q440 : (Jvm.Cond.instanceMethod ({ cls := "MorrisTables$Rules", name := "hasLine", desc := "(I)Z" } : Jvm.MethodName)) ∈ lw_all := lw_g (lw_at lw_m2 131 rfl) rfl
theorem q441 : (Jvm.Cond.sameMethod "MorrisTables$Rules" "MorrisTables$Rules" "hasLine" "(I)Z") ∈ lw_all := lw_g (lw_at lw_m2 132 rfl) rfl
theorem q443 : (Jvm.Cond.code ({ cls := "MorrisTables$Rules", name := "hasLine", desc := "(I)Z" } : Jvm.MethodName) prog_4_method_5_code (4 : Nat) (Option.some Jvm.ClassFile.FieldType.boolean)) ∈ lw_all := lw_g (lw_at lw_m2 134 rfl) rfl
theorem q446 : (Jvm.Cond.declares ({ cls := "MorrisTables$Rules", name := "hasLost", desc := "(II)Z" } : Jvm.MethodName)) ∈ lw_tbl := lw_at lw_m2 137 rfl
theorem q448 : (Jvm.Cond.instanceMethod ({ cls := "MorrisTables$Rules", name := "hasLost", desc := "(II)Z" } : Jvm.MethodName)) ∈ lw_all := lw_g (lw_at lw_m2 139 rfl) rfl
theorem q449 : (Jvm.Cond.code ({ cls := "MorrisTables$Rules", name := "hasLost", desc := "(II)Z" } : Jvm.MethodName) prog_4_method_8_code (3 : Nat) (Option.some Jvm.ClassFile.FieldType.boolean)) ∈ lw_all := lw_g (lw_at lw_m2 140 rfl) rfl
theorem q450 : (Jvm.Cond.methodLink "MorrisTables$Rules" (48 : Nat) ({ cls := "MorrisTables$Rules", name := "isLocked", desc := "(II)Z" } : Jvm.MethodName)) ∈ lw_all := lw_g (lw_at lw_m2 141 rfl) rfl
theorem q451 : (Jvm.Cond.instanceMethod ({ cls := "MorrisTables$Rules", name := "isLocked", desc := "(II)Z" } : Jvm.MethodName)) ∈ lw_all := lw_g (lw_at lw_m2 142 rfl) rfl
theorem q452 : (Jvm.Cond.sameMethod "MorrisTables$Rules" "MorrisTables$Rules" "isLocked" "(II)Z") ∈ lw_all := lw_g (lw_at lw_m2 143 rfl) rfl
theorem q454 : (Jvm.Cond.code ({ cls := "MorrisTables$Rules", name := "isLocked", desc := "(II)Z" } : Jvm.MethodName) prog_4_method_7_code (5 : Nat) (Option.some Jvm.ClassFile.FieldType.boolean)) ∈ lw_all := lw_g (lw_at lw_m2 145 rfl) rfl
theorem q489 : (Jvm.Cond.declares ({ cls := "MorrisTables$Rules", name := "next", desc := "(I)I" } : Jvm.MethodName)) ∈ lw_tbl := lw_at lw_m2 180 rfl
theorem q491 : (Jvm.Cond.instanceMethod ({ cls := "MorrisTables$Rules", name := "next", desc := "(I)I" } : Jvm.MethodName)) ∈ lw_all := lw_g (lw_at lw_m2 182 rfl) rfl
theorem q492 : (Jvm.Cond.code ({ cls := "MorrisTables$Rules", name := "next", desc := "(I)I" } : Jvm.MethodName) prog_4_method_4_code (2 : Nat) (Option.some Jvm.ClassFile.FieldType.int)) ∈ lw_all := lw_g (lw_at lw_m2 183 rfl) rfl
theorem q499 : (Jvm.Cond.static ({ cls := "MorrisTables$Rules", name := "behind", desc := "(II)I" } : Jvm.MethodName)) ∈ lw_all := lw_g (lw_at lw_m2 190 rfl) rfl
theorem q500 : (Jvm.Cond.code ({ cls := "MorrisTables$Rules", name := "behind", desc := "(II)I" } : Jvm.MethodName) prog_4_method_10_code (2 : Nat) (Option.some Jvm.ClassFile.FieldType.int)) ∈ lw_all := lw_g (lw_at lw_m2 191 rfl) rfl
theorem q507 : (Jvm.Cond.declares ({ cls := "MorrisTables$Rules", name := "isLocked", desc := "(II)Z" } : Jvm.MethodName)) ∈ lw_tbl := lw_at lw_m2 198 rfl
theorem q514 : (Jvm.Cond.fieldLink "MorrisTables$Rules" (18 : Nat) "MorrisTables$Rules" "lines" "I") ∈ lw_all := lw_g (lw_at lw_m2 205 rfl) rfl
theorem q515 : (Jvm.Cond.fieldLink "MorrisTables$Rules" (22 : Nat) "MorrisTables$Rules" "lockLoses" "Z") ∈ lw_all := lw_g (lw_at lw_m2 206 rfl) rfl
theorem q516 : (Jvm.Cond.fieldLink "MorrisTables$Rules" (9 : Nat) "MorrisTables$Rules" "next" "[I") ∈ lw_all := lw_g (lw_at lw_m2 207 rfl) rfl
theorem q526 : (Jvm.Cond.soleField "MorrisTables$Rules" "lines") ∈ lw_all := lw_g (lw_at lw_m2 217 rfl) rfl
theorem q528 : (Jvm.Cond.soleField "MorrisTables$Rules" "lockLoses") ∈ lw_all := lw_g (lw_at lw_m2 219 rfl) rfl
theorem q530 : (Jvm.Cond.soleField "MorrisTables$Rules" "next") ∈ lw_all := lw_g (lw_at lw_m2 221 rfl) rfl
theorem q564 : (Jvm.Cond.declares ({ cls := "MorrisTables$Rules", name := "isMove", desc := "(III)Z" } : Jvm.MethodName)) ∈ lw_tbl := lw_at lw_m3 15 rfl
theorem q566 : (Jvm.Cond.instanceMethod ({ cls := "MorrisTables$Rules", name := "isMove", desc := "(III)Z" } : Jvm.MethodName)) ∈ lw_all := lw_g (lw_at lw_m3 17 rfl) rfl
theorem q567 : (Jvm.Cond.code ({ cls := "MorrisTables$Rules", name := "isMove", desc := "(III)Z" } : Jvm.MethodName) prog_4_method_9_code (4 : Nat) (Option.some Jvm.ClassFile.FieldType.boolean)) ∈ lw_all := lw_g (lw_at lw_m3 18 rfl) rfl
theorem q568 : (Jvm.Cond.methodLink "MorrisTables$Rules" (51 : Nat) ({ cls := "MorrisTables$Rules", name := "hasLost", desc := "(II)Z" } : Jvm.MethodName)) ∈ lw_all := lw_g (lw_at lw_m3 19 rfl) rfl
theorem q569 : (Jvm.Cond.methodLinkNest "MorrisTables$Rules" (54 : Nat) ({ cls := "MorrisTables", name := "isIn", desc := "(III)Z" } : Jvm.MethodName) "MorrisTables") ∈ lw_tbl := lw_at lw_m3 20 rfl
theorem q570 : (Jvm.Cond.methodLink "MorrisTables$Rules" (58 : Nat) ({ cls := "MorrisTables$Rules", name := "isPlain", desc := "(III)Z" } : Jvm.MethodName)) ∈ lw_all := lw_g (lw_at lw_m3 21 rfl) rfl
theorem q571 : (Jvm.Cond.instanceMethod ({ cls := "MorrisTables$Rules", name := "isPlain", desc := "(III)Z" } : Jvm.MethodName)) ∈ lw_all := lw_g (lw_at lw_m3 22 rfl) rfl
theorem q572 : (Jvm.Cond.sameMethod "MorrisTables$Rules" "MorrisTables$Rules" "isPlain" "(III)Z") ∈ lw_all := lw_g (lw_at lw_m3 23 rfl) rfl
theorem q574 : (Jvm.Cond.code ({ cls := "MorrisTables$Rules", name := "isPlain", desc := "(III)Z" } : Jvm.MethodName) prog_4_method_6_code (7 : Nat) (Option.some Jvm.ClassFile.FieldType.boolean)) ∈ lw_all := lw_g (lw_at lw_m3 25 rfl) rfl
theorem q1271 : (Jvm.Cond.sameMethod "MorrisTables$Rules" "MorrisTables$Rules" "nextOf" "(I)I") ∈ lw_all := lw_g (lw_at lw_m6 2 rfl) rfl
theorem q1272 : (Jvm.Cond.sameMethod "MorrisTables$Rules" "MorrisTables$Rules" "hasLost" "(II)Z") ∈ lw_all := lw_g (lw_at lw_m6 3 rfl) rfl
theorem q1291 : (Jvm.Cond.castable "MorrisTables$Rules" "java/lang/Object") ∈ lw_tbl := lw_at lw_m6 22 rfl
end

section
/-! MorrisTables$Table -/
set_option maxRecDepth 100000
def RX5 : String := "MorrisTables$Table"
def TX5 : u_T := fun k => match k with
  | 0 => ("MorrisTables$Rules", "lines", "I", true)
  | 1 => ("MorrisTables$Rules", "lockLoses", "Z", true)
  | 2 => ("MorrisTables$Rules", "next", "[I", true)
  | 3 => ("MorrisTables$Table", "codes", "[I", true)
  | 4 => ("MorrisTables$Table", "worths", "[I", true)
  | 5 => ("MorrisTables$Table", "legal", "[I", true)
  | _ => ("MorrisTables$Table", "many", "I", false)
def tyX5 : Nat → FieldType := fun k => match k with
  | 0 => .int
  | 1 => .boolean
  | 2 => .array .int
  | 3 => .array .int
  | 4 => .array .int
  | 5 => .array .int
  | _ => .int
abbrev wsX50 : List Cond := u_ws RX5 TX5 7
theorem nmX5 : ∀ a, a < 7 → ∀ b, b < 7 → a ≠ b → (TX5 a).2.1 ≠ (TX5 b).2.1 := by decide +kernel
theorem tyX5_ok : ∀ k, k < 7 → parseFieldDescriptor (TX5 k).2.2.1 = some (tyX5 k) := by decide +kernel
abbrev cX5_init : ByteArray := prog_6_method_1_code
def yX5_init : MethodName := ⟨RX5, "<init>", "(II)V"⟩
def dkwX5_init_3 : List UInt8 := [62, 4, 54, 4, 29, 158, 0, 16, 42, 21, 4, 182, 0, 26, 62, 132, 4, 1, 167, 255, 242, 177]
abbrev dktX5_init_3 : List UInt8 := dkwX5_init_3 ++ []
def dkwX5_init_2 : List UInt8 := [180, 0, 9, 29, 4, 122, 46, 104, 29, 4, 126, 96, 79, 132, 3, 1, 167, 255, 226, 42, 182, 0, 22, 4]
abbrev dktX5_init_2 : List UInt8 := dkwX5_init_2 ++ dktX5_init_3
def dkwX5_init_1 : List UInt8 := [17, 76, 227, 188, 10, 181, 0, 19, 4, 62, 29, 17, 1, 255, 163, 0, 29, 42, 180, 0, 9, 29, 6, 42]
abbrev dktX5_init_1 : List UInt8 := dkwX5_init_1 ++ dktX5_init_2
def dkwX5_init_0 : List UInt8 := [42, 27, 28, 183, 0, 3, 42, 17, 2, 0, 188, 10, 181, 0, 9, 42, 18, 15, 188, 10, 181, 0, 16, 42]
abbrev dktX5_init_0 : List UInt8 := dkwX5_init_0 ++ dktX5_init_1
theorem dksX5_init_0 : cX5_init.data.toList.drop 0 = dktX5_init_0 := by decide +kernel
theorem dksX5_init_1 : cX5_init.data.toList.drop 24 = dktX5_init_1 := dk_seg dksX5_init_0 24 rfl rfl
theorem dksX5_init_2 : cX5_init.data.toList.drop 48 = dktX5_init_2 := dk_seg dksX5_init_1 24 rfl rfl
theorem dksX5_init_3 : cX5_init.data.toList.drop 72 = dktX5_init_3 := dk_seg dksX5_init_2 24 rfl rfl
theorem dX5_init_0 : decode cX5_init 0 = .ok (.aload_n 0, 1) := dk_42 (dk_at dksX5_init_0 0 rfl rfl)
theorem dX5_init_1 : decode cX5_init 1 = .ok (.iload_n 1, 1) := dk_27 (dk_at dksX5_init_0 1 rfl rfl)
theorem dX5_init_2 : decode cX5_init 2 = .ok (.iload_n 2, 1) := dk_28 (dk_at dksX5_init_0 2 rfl rfl)
theorem dX5_init_3 : decode cX5_init 3 = .ok (.invokespecial 3, 3) := dk_183 0 3 (dk_at dksX5_init_0 3 rfl rfl)
theorem dX5_init_6 : decode cX5_init 6 = .ok (.aload_n 0, 1) := dk_42 (dk_at dksX5_init_0 6 rfl rfl)
theorem dX5_init_7 : decode cX5_init 7 = .ok (.sipush 512, 3) := dk_17 2 0 (dk_at dksX5_init_0 7 rfl rfl)
theorem dX5_init_10 : decode cX5_init 10 = .ok (.newarray .int, 2) := dk_188_10 (dk_at dksX5_init_0 10 rfl rfl)
theorem dX5_init_12 : decode cX5_init 12 = .ok (.putfield 9, 3) := dk_181 0 9 (dk_at dksX5_init_0 12 rfl rfl)
theorem dX5_init_15 : decode cX5_init 15 = .ok (.aload_n 0, 1) := dk_42 (dk_at dksX5_init_0 15 rfl rfl)
theorem dX5_init_16 : decode cX5_init 16 = .ok (.ldc 15, 2) := dk_18 15 (dk_at dksX5_init_0 16 rfl rfl)
theorem dX5_init_18 : decode cX5_init 18 = .ok (.newarray .int, 2) := dk_188_10 (dk_at dksX5_init_0 18 rfl rfl)
theorem dX5_init_20 : decode cX5_init 20 = .ok (.putfield 16, 3) := dk_181 0 16 (dk_at dksX5_init_0 20 rfl rfl)
theorem dX5_init_23 : decode cX5_init 23 = .ok (.aload_n 0, 1) := dk_42 (dk_at dksX5_init_0 23 rfl rfl)
theorem dX5_init_24 : decode cX5_init 24 = .ok (.sipush 19683, 3) := dk_17 76 227 (dk_at dksX5_init_1 0 rfl rfl)
theorem dX5_init_27 : decode cX5_init 27 = .ok (.newarray .int, 2) := dk_188_10 (dk_at dksX5_init_1 3 rfl rfl)
theorem dX5_init_29 : decode cX5_init 29 = .ok (.putfield 19, 3) := dk_181 0 19 (dk_at dksX5_init_1 5 rfl rfl)
theorem dX5_init_32 : decode cX5_init 32 = .ok (.iconst 1, 1) := dk_4 (dk_at dksX5_init_1 8 rfl rfl)
theorem dX5_init_33 : decode cX5_init 33 = .ok (.istore_n 3, 1) := dk_62 (dk_at dksX5_init_1 9 rfl rfl)
theorem dX5_init_34 : decode cX5_init 34 = .ok (.iload_n 3, 1) := dk_29 (dk_at dksX5_init_1 10 rfl rfl)
theorem dX5_init_35 : decode cX5_init 35 = .ok (.sipush 511, 3) := dk_17 1 255 (dk_at dksX5_init_1 11 rfl rfl)
theorem dX5_init_38 : decode cX5_init 38 = .ok (.if_icmp .gt 29, 3) := dk_163 0 29 (dk_at dksX5_init_1 14 rfl rfl)
theorem dX5_init_41 : decode cX5_init 41 = .ok (.aload_n 0, 1) := dk_42 (dk_at dksX5_init_1 17 rfl rfl)
theorem dX5_init_42 : decode cX5_init 42 = .ok (.getfield 9, 3) := dk_180 0 9 (dk_at dksX5_init_1 18 rfl rfl)
theorem dX5_init_45 : decode cX5_init 45 = .ok (.iload_n 3, 1) := dk_29 (dk_at dksX5_init_1 21 rfl rfl)
theorem dX5_init_46 : decode cX5_init 46 = .ok (.iconst 3, 1) := dk_6 (dk_at dksX5_init_1 22 rfl rfl)
theorem dX5_init_47 : decode cX5_init 47 = .ok (.aload_n 0, 1) := dk_42 (dk_at dksX5_init_1 23 rfl rfl)
theorem dX5_init_48 : decode cX5_init 48 = .ok (.getfield 9, 3) := dk_180 0 9 (dk_at dksX5_init_2 0 rfl rfl)
theorem dX5_init_51 : decode cX5_init 51 = .ok (.iload_n 3, 1) := dk_29 (dk_at dksX5_init_2 3 rfl rfl)
theorem dX5_init_52 : decode cX5_init 52 = .ok (.iconst 1, 1) := dk_4 (dk_at dksX5_init_2 4 rfl rfl)
theorem dX5_init_53 : decode cX5_init 53 = .ok (.ishr, 1) := dk_122 (dk_at dksX5_init_2 5 rfl rfl)
theorem dX5_init_54 : decode cX5_init 54 = .ok (.iaload, 1) := dk_46 (dk_at dksX5_init_2 6 rfl rfl)
theorem dX5_init_55 : decode cX5_init 55 = .ok (.imul, 1) := dk_104 (dk_at dksX5_init_2 7 rfl rfl)
theorem dX5_init_56 : decode cX5_init 56 = .ok (.iload_n 3, 1) := dk_29 (dk_at dksX5_init_2 8 rfl rfl)
theorem dX5_init_57 : decode cX5_init 57 = .ok (.iconst 1, 1) := dk_4 (dk_at dksX5_init_2 9 rfl rfl)
theorem dX5_init_58 : decode cX5_init 58 = .ok (.iand, 1) := dk_126 (dk_at dksX5_init_2 10 rfl rfl)
theorem dX5_init_59 : decode cX5_init 59 = .ok (.iadd, 1) := dk_96 (dk_at dksX5_init_2 11 rfl rfl)
theorem dX5_init_60 : decode cX5_init 60 = .ok (.iastore, 1) := dk_79 (dk_at dksX5_init_2 12 rfl rfl)
theorem dX5_init_61 : decode cX5_init 61 = .ok (.iinc 3 1, 3) := dk_132 3 1 (dk_at dksX5_init_2 13 rfl rfl)
theorem dX5_init_64 : decode cX5_init 64 = .ok (.goto (-30), 3) := dk_167 255 226 (dk_at dksX5_init_2 16 rfl rfl)
theorem dX5_init_67 : decode cX5_init 67 = .ok (.aload_n 0, 1) := dk_42 (dk_at dksX5_init_2 19 rfl rfl)
theorem dX5_init_68 : decode cX5_init 68 = .ok (.invokevirtual 22, 3) := dk_182 0 22 (dk_at dksX5_init_2 20 rfl rfl)
theorem dX5_init_71 : decode cX5_init 71 = .ok (.iconst 1, 1) := dk_4 (dk_at dksX5_init_2 23 rfl rfl)
theorem dX5_init_72 : decode cX5_init 72 = .ok (.istore_n 3, 1) := dk_62 (dk_at dksX5_init_3 0 rfl rfl)
theorem dX5_init_73 : decode cX5_init 73 = .ok (.iconst 1, 1) := dk_4 (dk_at dksX5_init_3 1 rfl rfl)
theorem dX5_init_74 : decode cX5_init 74 = .ok (.istore 4, 2) := dk_54 4 (dk_at dksX5_init_3 2 rfl rfl)
theorem dX5_init_76 : decode cX5_init 76 = .ok (.iload_n 3, 1) := dk_29 (dk_at dksX5_init_3 4 rfl rfl)
theorem dX5_init_77 : decode cX5_init 77 = .ok (.ifCond .le 16, 3) := dk_158 0 16 (dk_at dksX5_init_3 5 rfl rfl)
theorem dX5_init_80 : decode cX5_init 80 = .ok (.aload_n 0, 1) := dk_42 (dk_at dksX5_init_3 8 rfl rfl)
theorem dX5_init_81 : decode cX5_init 81 = .ok (.iload 4, 2) := dk_21 4 (dk_at dksX5_init_3 9 rfl rfl)
theorem dX5_init_83 : decode cX5_init 83 = .ok (.invokevirtual 26, 3) := dk_182 0 26 (dk_at dksX5_init_3 11 rfl rfl)
theorem dX5_init_86 : decode cX5_init 86 = .ok (.istore_n 3, 1) := dk_62 (dk_at dksX5_init_3 14 rfl rfl)
theorem dX5_init_87 : decode cX5_init 87 = .ok (.iinc 4 1, 3) := dk_132 4 1 (dk_at dksX5_init_3 15 rfl rfl)
theorem dX5_init_90 : decode cX5_init 90 = .ok (.goto (-14), 3) := dk_167 255 242 (dk_at dksX5_init_3 18 rfl rfl)
theorem dX5_init_93 : decode cX5_init 93 = .ok (.return_, 1) := dk_177 (dk_at dksX5_init_3 21 rfl rfl)
abbrev cX5_findLegal : ByteArray := prog_6_method_5_code
def yX5_findLegal : MethodName := ⟨RX5, "findLegal", "()V"⟩
def dkwX5_findLegal_2 : List UInt8 := [132, 1, 1, 167, 255, 209, 177]
abbrev dktX5_findLegal_2 : List UInt8 := dkwX5_findLegal_2 ++ []
def dkwX5_findLegal_1 : List UInt8 := [163, 0, 23, 42, 27, 28, 3, 182, 0, 51, 42, 27, 28, 4, 182, 0, 51, 132, 2, 1, 167, 255, 224]
abbrev dktX5_findLegal_1 : List UInt8 := dkwX5_findLegal_1 ++ dktX5_findLegal_2
def dkwX5_findLegal_0 : List UInt8 := [3, 60, 27, 17, 1, 255, 163, 0, 46, 3, 61, 28, 17, 1, 255, 163, 0, 31, 27, 184, 0, 46, 6]
abbrev dktX5_findLegal_0 : List UInt8 := dkwX5_findLegal_0 ++ dktX5_findLegal_1
theorem dksX5_findLegal_0 : cX5_findLegal.data.toList.drop 0 = dktX5_findLegal_0 := by decide +kernel
theorem dksX5_findLegal_1 : cX5_findLegal.data.toList.drop 23 = dktX5_findLegal_1 := dk_seg dksX5_findLegal_0 23 rfl rfl
theorem dksX5_findLegal_2 : cX5_findLegal.data.toList.drop 46 = dktX5_findLegal_2 := dk_seg dksX5_findLegal_1 23 rfl rfl
theorem dX5_findLegal_0 : decode cX5_findLegal 0 = .ok (.iconst 0, 1) := dk_3 (dk_at dksX5_findLegal_0 0 rfl rfl)
theorem dX5_findLegal_1 : decode cX5_findLegal 1 = .ok (.istore_n 1, 1) := dk_60 (dk_at dksX5_findLegal_0 1 rfl rfl)
theorem dX5_findLegal_2 : decode cX5_findLegal 2 = .ok (.iload_n 1, 1) := dk_27 (dk_at dksX5_findLegal_0 2 rfl rfl)
theorem dX5_findLegal_3 : decode cX5_findLegal 3 = .ok (.sipush 511, 3) := dk_17 1 255 (dk_at dksX5_findLegal_0 3 rfl rfl)
theorem dX5_findLegal_6 : decode cX5_findLegal 6 = .ok (.if_icmp .gt 46, 3) := dk_163 0 46 (dk_at dksX5_findLegal_0 6 rfl rfl)
theorem dX5_findLegal_9 : decode cX5_findLegal 9 = .ok (.iconst 0, 1) := dk_3 (dk_at dksX5_findLegal_0 9 rfl rfl)
theorem dX5_findLegal_10 : decode cX5_findLegal 10 = .ok (.istore_n 2, 1) := dk_61 (dk_at dksX5_findLegal_0 10 rfl rfl)
theorem dX5_findLegal_11 : decode cX5_findLegal 11 = .ok (.iload_n 2, 1) := dk_28 (dk_at dksX5_findLegal_0 11 rfl rfl)
theorem dX5_findLegal_12 : decode cX5_findLegal 12 = .ok (.sipush 511, 3) := dk_17 1 255 (dk_at dksX5_findLegal_0 12 rfl rfl)
theorem dX5_findLegal_15 : decode cX5_findLegal 15 = .ok (.if_icmp .gt 31, 3) := dk_163 0 31 (dk_at dksX5_findLegal_0 15 rfl rfl)
theorem dX5_findLegal_18 : decode cX5_findLegal 18 = .ok (.iload_n 1, 1) := dk_27 (dk_at dksX5_findLegal_0 18 rfl rfl)
theorem dX5_findLegal_19 : decode cX5_findLegal 19 = .ok (.invokestatic 46, 3) := dk_184 0 46 (dk_at dksX5_findLegal_0 19 rfl rfl)
theorem dX5_findLegal_22 : decode cX5_findLegal 22 = .ok (.iconst 3, 1) := dk_6 (dk_at dksX5_findLegal_0 22 rfl rfl)
theorem dX5_findLegal_23 : decode cX5_findLegal 23 = .ok (.if_icmp .gt 23, 3) := dk_163 0 23 (dk_at dksX5_findLegal_1 0 rfl rfl)
theorem dX5_findLegal_26 : decode cX5_findLegal 26 = .ok (.aload_n 0, 1) := dk_42 (dk_at dksX5_findLegal_1 3 rfl rfl)
theorem dX5_findLegal_27 : decode cX5_findLegal 27 = .ok (.iload_n 1, 1) := dk_27 (dk_at dksX5_findLegal_1 4 rfl rfl)
theorem dX5_findLegal_28 : decode cX5_findLegal 28 = .ok (.iload_n 2, 1) := dk_28 (dk_at dksX5_findLegal_1 5 rfl rfl)
theorem dX5_findLegal_29 : decode cX5_findLegal 29 = .ok (.iconst 0, 1) := dk_3 (dk_at dksX5_findLegal_1 6 rfl rfl)
theorem dX5_findLegal_30 : decode cX5_findLegal 30 = .ok (.invokevirtual 51, 3) := dk_182 0 51 (dk_at dksX5_findLegal_1 7 rfl rfl)
theorem dX5_findLegal_33 : decode cX5_findLegal 33 = .ok (.aload_n 0, 1) := dk_42 (dk_at dksX5_findLegal_1 10 rfl rfl)
theorem dX5_findLegal_34 : decode cX5_findLegal 34 = .ok (.iload_n 1, 1) := dk_27 (dk_at dksX5_findLegal_1 11 rfl rfl)
theorem dX5_findLegal_35 : decode cX5_findLegal 35 = .ok (.iload_n 2, 1) := dk_28 (dk_at dksX5_findLegal_1 12 rfl rfl)
theorem dX5_findLegal_36 : decode cX5_findLegal 36 = .ok (.iconst 1, 1) := dk_4 (dk_at dksX5_findLegal_1 13 rfl rfl)
theorem dX5_findLegal_37 : decode cX5_findLegal 37 = .ok (.invokevirtual 51, 3) := dk_182 0 51 (dk_at dksX5_findLegal_1 14 rfl rfl)
theorem dX5_findLegal_40 : decode cX5_findLegal 40 = .ok (.iinc 2 1, 3) := dk_132 2 1 (dk_at dksX5_findLegal_1 17 rfl rfl)
theorem dX5_findLegal_43 : decode cX5_findLegal 43 = .ok (.goto (-32), 3) := dk_167 255 224 (dk_at dksX5_findLegal_1 20 rfl rfl)
theorem dX5_findLegal_46 : decode cX5_findLegal 46 = .ok (.iinc 1 1, 3) := dk_132 1 1 (dk_at dksX5_findLegal_2 0 rfl rfl)
theorem dX5_findLegal_49 : decode cX5_findLegal 49 = .ok (.goto (-47), 3) := dk_167 255 209 (dk_at dksX5_findLegal_2 3 rfl rfl)
theorem dX5_findLegal_52 : decode cX5_findLegal 52 = .ok (.return_, 1) := dk_177 (dk_at dksX5_findLegal_2 6 rfl rfl)
abbrev cX5_add : ByteArray := prog_6_method_4_code
def yX5_add : MethodName := ⟨RX5, "add", "(III)V"⟩
def dkwX5_add_3 : List UInt8 := [182, 0, 30, 21, 4, 153, 0, 7, 2, 167, 0, 4, 3, 79, 177]
abbrev dktX5_add_3 : List UInt8 := dkwX5_add_3 ++ []
def dkwX5_add_2 : List UInt8 := [182, 0, 42, 167, 0, 9, 42, 28, 27, 182, 0, 42, 54, 4, 42, 180, 0, 16, 42, 27, 28, 29]
abbrev dktX5_add_2 : List UInt8 := dkwX5_add_2 ++ dktX5_add_3
def dkwX5_add_1 : List UInt8 := [128, 29, 16, 18, 120, 128, 79, 42, 89, 180, 0, 38, 4, 96, 181, 0, 38, 29, 154, 0, 12, 42, 27, 28]
abbrev dktX5_add_1 : List UInt8 := dkwX5_add_1 ++ dktX5_add_2
def dkwX5_add_0 : List UInt8 := [42, 27, 28, 29, 182, 0, 34, 154, 0, 4, 177, 42, 180, 0, 19, 42, 180, 0, 38, 27, 28, 16, 9, 120]
abbrev dktX5_add_0 : List UInt8 := dkwX5_add_0 ++ dktX5_add_1
theorem dksX5_add_0 : cX5_add.data.toList.drop 0 = dktX5_add_0 := by decide +kernel
theorem dksX5_add_1 : cX5_add.data.toList.drop 24 = dktX5_add_1 := dk_seg dksX5_add_0 24 rfl rfl
theorem dksX5_add_2 : cX5_add.data.toList.drop 48 = dktX5_add_2 := dk_seg dksX5_add_1 24 rfl rfl
theorem dksX5_add_3 : cX5_add.data.toList.drop 70 = dktX5_add_3 := dk_seg dksX5_add_2 22 rfl rfl
theorem dX5_add_0 : decode cX5_add 0 = .ok (.aload_n 0, 1) := dk_42 (dk_at dksX5_add_0 0 rfl rfl)
theorem dX5_add_1 : decode cX5_add 1 = .ok (.iload_n 1, 1) := dk_27 (dk_at dksX5_add_0 1 rfl rfl)
theorem dX5_add_2 : decode cX5_add 2 = .ok (.iload_n 2, 1) := dk_28 (dk_at dksX5_add_0 2 rfl rfl)
theorem dX5_add_3 : decode cX5_add 3 = .ok (.iload_n 3, 1) := dk_29 (dk_at dksX5_add_0 3 rfl rfl)
theorem dX5_add_4 : decode cX5_add 4 = .ok (.invokevirtual 34, 3) := dk_182 0 34 (dk_at dksX5_add_0 4 rfl rfl)
theorem dX5_add_7 : decode cX5_add 7 = .ok (.ifCond .ne 4, 3) := dk_154 0 4 (dk_at dksX5_add_0 7 rfl rfl)
theorem dX5_add_10 : decode cX5_add 10 = .ok (.return_, 1) := dk_177 (dk_at dksX5_add_0 10 rfl rfl)
theorem dX5_add_11 : decode cX5_add 11 = .ok (.aload_n 0, 1) := dk_42 (dk_at dksX5_add_0 11 rfl rfl)
theorem dX5_add_12 : decode cX5_add 12 = .ok (.getfield 19, 3) := dk_180 0 19 (dk_at dksX5_add_0 12 rfl rfl)
theorem dX5_add_15 : decode cX5_add 15 = .ok (.aload_n 0, 1) := dk_42 (dk_at dksX5_add_0 15 rfl rfl)
theorem dX5_add_16 : decode cX5_add 16 = .ok (.getfield 38, 3) := dk_180 0 38 (dk_at dksX5_add_0 16 rfl rfl)
theorem dX5_add_19 : decode cX5_add 19 = .ok (.iload_n 1, 1) := dk_27 (dk_at dksX5_add_0 19 rfl rfl)
theorem dX5_add_20 : decode cX5_add 20 = .ok (.iload_n 2, 1) := dk_28 (dk_at dksX5_add_0 20 rfl rfl)
theorem dX5_add_21 : decode cX5_add 21 = .ok (.bipush 9, 2) := dk_16 9 (dk_at dksX5_add_0 21 rfl rfl)
theorem dX5_add_23 : decode cX5_add 23 = .ok (.ishl, 1) := dk_120 (dk_at dksX5_add_0 23 rfl rfl)
theorem dX5_add_24 : decode cX5_add 24 = .ok (.ior, 1) := dk_128 (dk_at dksX5_add_1 0 rfl rfl)
theorem dX5_add_25 : decode cX5_add 25 = .ok (.iload_n 3, 1) := dk_29 (dk_at dksX5_add_1 1 rfl rfl)
theorem dX5_add_26 : decode cX5_add 26 = .ok (.bipush 18, 2) := dk_16 18 (dk_at dksX5_add_1 2 rfl rfl)
theorem dX5_add_28 : decode cX5_add 28 = .ok (.ishl, 1) := dk_120 (dk_at dksX5_add_1 4 rfl rfl)
theorem dX5_add_29 : decode cX5_add 29 = .ok (.ior, 1) := dk_128 (dk_at dksX5_add_1 5 rfl rfl)
theorem dX5_add_30 : decode cX5_add 30 = .ok (.iastore, 1) := dk_79 (dk_at dksX5_add_1 6 rfl rfl)
theorem dX5_add_31 : decode cX5_add 31 = .ok (.aload_n 0, 1) := dk_42 (dk_at dksX5_add_1 7 rfl rfl)
theorem dX5_add_32 : decode cX5_add 32 = .ok (.dup, 1) := dk_89 (dk_at dksX5_add_1 8 rfl rfl)
theorem dX5_add_33 : decode cX5_add 33 = .ok (.getfield 38, 3) := dk_180 0 38 (dk_at dksX5_add_1 9 rfl rfl)
theorem dX5_add_36 : decode cX5_add 36 = .ok (.iconst 1, 1) := dk_4 (dk_at dksX5_add_1 12 rfl rfl)
theorem dX5_add_37 : decode cX5_add 37 = .ok (.iadd, 1) := dk_96 (dk_at dksX5_add_1 13 rfl rfl)
theorem dX5_add_38 : decode cX5_add 38 = .ok (.putfield 38, 3) := dk_181 0 38 (dk_at dksX5_add_1 14 rfl rfl)
theorem dX5_add_41 : decode cX5_add 41 = .ok (.iload_n 3, 1) := dk_29 (dk_at dksX5_add_1 17 rfl rfl)
theorem dX5_add_42 : decode cX5_add 42 = .ok (.ifCond .ne 12, 3) := dk_154 0 12 (dk_at dksX5_add_1 18 rfl rfl)
theorem dX5_add_45 : decode cX5_add 45 = .ok (.aload_n 0, 1) := dk_42 (dk_at dksX5_add_1 21 rfl rfl)
theorem dX5_add_46 : decode cX5_add 46 = .ok (.iload_n 1, 1) := dk_27 (dk_at dksX5_add_1 22 rfl rfl)
theorem dX5_add_47 : decode cX5_add 47 = .ok (.iload_n 2, 1) := dk_28 (dk_at dksX5_add_1 23 rfl rfl)
theorem dX5_add_48 : decode cX5_add 48 = .ok (.invokevirtual 42, 3) := dk_182 0 42 (dk_at dksX5_add_2 0 rfl rfl)
theorem dX5_add_51 : decode cX5_add 51 = .ok (.goto 9, 3) := dk_167 0 9 (dk_at dksX5_add_2 3 rfl rfl)
theorem dX5_add_54 : decode cX5_add 54 = .ok (.aload_n 0, 1) := dk_42 (dk_at dksX5_add_2 6 rfl rfl)
theorem dX5_add_55 : decode cX5_add 55 = .ok (.iload_n 2, 1) := dk_28 (dk_at dksX5_add_2 7 rfl rfl)
theorem dX5_add_56 : decode cX5_add 56 = .ok (.iload_n 1, 1) := dk_27 (dk_at dksX5_add_2 8 rfl rfl)
theorem dX5_add_57 : decode cX5_add 57 = .ok (.invokevirtual 42, 3) := dk_182 0 42 (dk_at dksX5_add_2 9 rfl rfl)
theorem dX5_add_60 : decode cX5_add 60 = .ok (.istore 4, 2) := dk_54 4 (dk_at dksX5_add_2 12 rfl rfl)
theorem dX5_add_62 : decode cX5_add 62 = .ok (.aload_n 0, 1) := dk_42 (dk_at dksX5_add_2 14 rfl rfl)
theorem dX5_add_63 : decode cX5_add 63 = .ok (.getfield 16, 3) := dk_180 0 16 (dk_at dksX5_add_2 15 rfl rfl)
theorem dX5_add_66 : decode cX5_add 66 = .ok (.aload_n 0, 1) := dk_42 (dk_at dksX5_add_2 18 rfl rfl)
theorem dX5_add_67 : decode cX5_add 67 = .ok (.iload_n 1, 1) := dk_27 (dk_at dksX5_add_2 19 rfl rfl)
theorem dX5_add_68 : decode cX5_add 68 = .ok (.iload_n 2, 1) := dk_28 (dk_at dksX5_add_2 20 rfl rfl)
theorem dX5_add_69 : decode cX5_add 69 = .ok (.iload_n 3, 1) := dk_29 (dk_at dksX5_add_2 21 rfl rfl)
theorem dX5_add_70 : decode cX5_add 70 = .ok (.invokevirtual 30, 3) := dk_182 0 30 (dk_at dksX5_add_3 0 rfl rfl)
theorem dX5_add_73 : decode cX5_add 73 = .ok (.iload 4, 2) := dk_21 4 (dk_at dksX5_add_3 3 rfl rfl)
theorem dX5_add_75 : decode cX5_add 75 = .ok (.ifCond .eq 7, 3) := dk_153 0 7 (dk_at dksX5_add_3 5 rfl rfl)
theorem dX5_add_78 : decode cX5_add 78 = .ok (.iconst (-1), 1) := dk_2 (dk_at dksX5_add_3 8 rfl rfl)
theorem dX5_add_79 : decode cX5_add 79 = .ok (.goto 4, 3) := dk_167 0 4 (dk_at dksX5_add_3 9 rfl rfl)
theorem dX5_add_82 : decode cX5_add 82 = .ok (.iconst 0, 1) := dk_3 (dk_at dksX5_add_3 12 rfl rfl)
theorem dX5_add_83 : decode cX5_add 83 = .ok (.iastore, 1) := dk_79 (dk_at dksX5_add_3 13 rfl rfl)
theorem dX5_add_84 : decode cX5_add 84 = .ok (.return_, 1) := dk_177 (dk_at dksX5_add_3 14 rfl rfl)
abbrev cX5_indexOf : ByteArray := prog_6_method_2_code
def yX5_indexOf : MethodName := ⟨RX5, "indexOf", "(III)I"⟩
def dkwX5_indexOf_0 : List UInt8 := [5, 42, 180, 0, 9, 27, 46, 5, 42, 180, 0, 9, 28, 46, 104, 96, 104, 29, 96, 172]
abbrev dktX5_indexOf_0 : List UInt8 := dkwX5_indexOf_0 ++ []
theorem dksX5_indexOf_0 : cX5_indexOf.data.toList.drop 0 = dktX5_indexOf_0 := by decide +kernel
theorem dX5_indexOf_0 : decode cX5_indexOf 0 = .ok (.iconst 2, 1) := dk_5 (dk_at dksX5_indexOf_0 0 rfl rfl)
theorem dX5_indexOf_1 : decode cX5_indexOf 1 = .ok (.aload_n 0, 1) := dk_42 (dk_at dksX5_indexOf_0 1 rfl rfl)
theorem dX5_indexOf_2 : decode cX5_indexOf 2 = .ok (.getfield 9, 3) := dk_180 0 9 (dk_at dksX5_indexOf_0 2 rfl rfl)
theorem dX5_indexOf_5 : decode cX5_indexOf 5 = .ok (.iload_n 1, 1) := dk_27 (dk_at dksX5_indexOf_0 5 rfl rfl)
theorem dX5_indexOf_6 : decode cX5_indexOf 6 = .ok (.iaload, 1) := dk_46 (dk_at dksX5_indexOf_0 6 rfl rfl)
theorem dX5_indexOf_7 : decode cX5_indexOf 7 = .ok (.iconst 2, 1) := dk_5 (dk_at dksX5_indexOf_0 7 rfl rfl)
theorem dX5_indexOf_8 : decode cX5_indexOf 8 = .ok (.aload_n 0, 1) := dk_42 (dk_at dksX5_indexOf_0 8 rfl rfl)
theorem dX5_indexOf_9 : decode cX5_indexOf 9 = .ok (.getfield 9, 3) := dk_180 0 9 (dk_at dksX5_indexOf_0 9 rfl rfl)
theorem dX5_indexOf_12 : decode cX5_indexOf 12 = .ok (.iload_n 2, 1) := dk_28 (dk_at dksX5_indexOf_0 12 rfl rfl)
theorem dX5_indexOf_13 : decode cX5_indexOf 13 = .ok (.iaload, 1) := dk_46 (dk_at dksX5_indexOf_0 13 rfl rfl)
theorem dX5_indexOf_14 : decode cX5_indexOf 14 = .ok (.imul, 1) := dk_104 (dk_at dksX5_indexOf_0 14 rfl rfl)
theorem dX5_indexOf_15 : decode cX5_indexOf 15 = .ok (.iadd, 1) := dk_96 (dk_at dksX5_indexOf_0 15 rfl rfl)
theorem dX5_indexOf_16 : decode cX5_indexOf 16 = .ok (.imul, 1) := dk_104 (dk_at dksX5_indexOf_0 16 rfl rfl)
theorem dX5_indexOf_17 : decode cX5_indexOf 17 = .ok (.iload_n 3, 1) := dk_29 (dk_at dksX5_indexOf_0 17 rfl rfl)
theorem dX5_indexOf_18 : decode cX5_indexOf 18 = .ok (.iadd, 1) := dk_96 (dk_at dksX5_indexOf_0 18 rfl rfl)
theorem dX5_indexOf_19 : decode cX5_indexOf 19 = .ok (.ireturn, 1) := dk_172 (dk_at dksX5_indexOf_0 19 rfl rfl)
abbrev cX5_level : ByteArray := prog_6_method_13_code
def yX5_level : MethodName := ⟨RX5, "level", "(I)I"⟩
def dkwX5_level_5 : List UInt8 := [46, 79, 132, 3, 1, 132, 4, 1, 167, 255, 203, 29, 172]
abbrev dktX5_level_5 : List UInt8 := dkwX5_level_5 ++ []
def dkwX5_level_4 : List UInt8 := [42, 21, 4, 182, 0, 62, 42, 21, 4, 182, 0, 65, 42, 21, 4, 182, 0, 71, 182, 0, 30, 44, 21, 4]
abbrev dktX5_level_4 : List UInt8 := dkwX5_level_4 ++ dktX5_level_5
def dkwX5_level_3 : List UInt8 := [3, 54, 4, 21, 4, 42, 180, 0, 38, 162, 0, 50, 44, 21, 4, 46, 153, 0, 37, 42, 180, 0, 16, 42]
abbrev dktX5_level_3 : List UInt8 := dkwX5_level_3 ++ dktX5_level_4
def dkwX5_level_2 : List UInt8 := [21, 4, 153, 0, 12, 42, 29, 27, 182, 0, 91, 167, 0, 4, 3, 79, 132, 3, 1, 167, 255, 198, 3, 62]
abbrev dktX5_level_2 : List UInt8 := dkwX5_level_2 ++ dktX5_level_3
def dkwX5_level_1 : List UInt8 := [29, 182, 0, 65, 42, 29, 182, 0, 71, 182, 0, 59, 154, 0, 7, 4, 167, 0, 4, 3, 54, 4, 44, 29]
abbrev dktX5_level_1 : List UInt8 := dkwX5_level_1 ++ dktX5_level_2
def dkwX5_level_0 : List UInt8 := [42, 180, 0, 38, 188, 10, 77, 3, 62, 29, 42, 180, 0, 38, 162, 0, 56, 42, 42, 29, 182, 0, 62, 42]
abbrev dktX5_level_0 : List UInt8 := dkwX5_level_0 ++ dktX5_level_1
theorem dksX5_level_0 : cX5_level.data.toList.drop 0 = dktX5_level_0 := by decide +kernel
theorem dksX5_level_1 : cX5_level.data.toList.drop 24 = dktX5_level_1 := dk_seg dksX5_level_0 24 rfl rfl
theorem dksX5_level_2 : cX5_level.data.toList.drop 48 = dktX5_level_2 := dk_seg dksX5_level_1 24 rfl rfl
theorem dksX5_level_3 : cX5_level.data.toList.drop 72 = dktX5_level_3 := dk_seg dksX5_level_2 24 rfl rfl
theorem dksX5_level_4 : cX5_level.data.toList.drop 96 = dktX5_level_4 := dk_seg dksX5_level_3 24 rfl rfl
theorem dksX5_level_5 : cX5_level.data.toList.drop 120 = dktX5_level_5 := dk_seg dksX5_level_4 24 rfl rfl
theorem dX5_level_0 : decode cX5_level 0 = .ok (.aload_n 0, 1) := dk_42 (dk_at dksX5_level_0 0 rfl rfl)
theorem dX5_level_1 : decode cX5_level 1 = .ok (.getfield 38, 3) := dk_180 0 38 (dk_at dksX5_level_0 1 rfl rfl)
theorem dX5_level_4 : decode cX5_level 4 = .ok (.newarray .int, 2) := dk_188_10 (dk_at dksX5_level_0 4 rfl rfl)
theorem dX5_level_6 : decode cX5_level 6 = .ok (.astore_n 2, 1) := dk_77 (dk_at dksX5_level_0 6 rfl rfl)
theorem dX5_level_7 : decode cX5_level 7 = .ok (.iconst 0, 1) := dk_3 (dk_at dksX5_level_0 7 rfl rfl)
theorem dX5_level_8 : decode cX5_level 8 = .ok (.istore_n 3, 1) := dk_62 (dk_at dksX5_level_0 8 rfl rfl)
theorem dX5_level_9 : decode cX5_level 9 = .ok (.iload_n 3, 1) := dk_29 (dk_at dksX5_level_0 9 rfl rfl)
theorem dX5_level_10 : decode cX5_level 10 = .ok (.aload_n 0, 1) := dk_42 (dk_at dksX5_level_0 10 rfl rfl)
theorem dX5_level_11 : decode cX5_level 11 = .ok (.getfield 38, 3) := dk_180 0 38 (dk_at dksX5_level_0 11 rfl rfl)
theorem dX5_level_14 : decode cX5_level 14 = .ok (.if_icmp .ge 56, 3) := dk_162 0 56 (dk_at dksX5_level_0 14 rfl rfl)
theorem dX5_level_17 : decode cX5_level 17 = .ok (.aload_n 0, 1) := dk_42 (dk_at dksX5_level_0 17 rfl rfl)
theorem dX5_level_18 : decode cX5_level 18 = .ok (.aload_n 0, 1) := dk_42 (dk_at dksX5_level_0 18 rfl rfl)
theorem dX5_level_19 : decode cX5_level 19 = .ok (.iload_n 3, 1) := dk_29 (dk_at dksX5_level_0 19 rfl rfl)
theorem dX5_level_20 : decode cX5_level 20 = .ok (.invokevirtual 62, 3) := dk_182 0 62 (dk_at dksX5_level_0 20 rfl rfl)
theorem dX5_level_23 : decode cX5_level 23 = .ok (.aload_n 0, 1) := dk_42 (dk_at dksX5_level_0 23 rfl rfl)
theorem dX5_level_24 : decode cX5_level 24 = .ok (.iload_n 3, 1) := dk_29 (dk_at dksX5_level_1 0 rfl rfl)
theorem dX5_level_25 : decode cX5_level 25 = .ok (.invokevirtual 65, 3) := dk_182 0 65 (dk_at dksX5_level_1 1 rfl rfl)
theorem dX5_level_28 : decode cX5_level 28 = .ok (.aload_n 0, 1) := dk_42 (dk_at dksX5_level_1 4 rfl rfl)
theorem dX5_level_29 : decode cX5_level 29 = .ok (.iload_n 3, 1) := dk_29 (dk_at dksX5_level_1 5 rfl rfl)
theorem dX5_level_30 : decode cX5_level 30 = .ok (.invokevirtual 71, 3) := dk_182 0 71 (dk_at dksX5_level_1 6 rfl rfl)
theorem dX5_level_33 : decode cX5_level 33 = .ok (.invokevirtual 59, 3) := dk_182 0 59 (dk_at dksX5_level_1 9 rfl rfl)
theorem dX5_level_36 : decode cX5_level 36 = .ok (.ifCond .ne 7, 3) := dk_154 0 7 (dk_at dksX5_level_1 12 rfl rfl)
theorem dX5_level_39 : decode cX5_level 39 = .ok (.iconst 1, 1) := dk_4 (dk_at dksX5_level_1 15 rfl rfl)
theorem dX5_level_40 : decode cX5_level 40 = .ok (.goto 4, 3) := dk_167 0 4 (dk_at dksX5_level_1 16 rfl rfl)
theorem dX5_level_43 : decode cX5_level 43 = .ok (.iconst 0, 1) := dk_3 (dk_at dksX5_level_1 19 rfl rfl)
theorem dX5_level_44 : decode cX5_level 44 = .ok (.istore 4, 2) := dk_54 4 (dk_at dksX5_level_1 20 rfl rfl)
theorem dX5_level_46 : decode cX5_level 46 = .ok (.aload_n 2, 1) := dk_44 (dk_at dksX5_level_1 22 rfl rfl)
theorem dX5_level_47 : decode cX5_level 47 = .ok (.iload_n 3, 1) := dk_29 (dk_at dksX5_level_1 23 rfl rfl)
theorem dX5_level_48 : decode cX5_level 48 = .ok (.iload 4, 2) := dk_21 4 (dk_at dksX5_level_2 0 rfl rfl)
theorem dX5_level_50 : decode cX5_level 50 = .ok (.ifCond .eq 12, 3) := dk_153 0 12 (dk_at dksX5_level_2 2 rfl rfl)
theorem dX5_level_53 : decode cX5_level 53 = .ok (.aload_n 0, 1) := dk_42 (dk_at dksX5_level_2 5 rfl rfl)
theorem dX5_level_54 : decode cX5_level 54 = .ok (.iload_n 3, 1) := dk_29 (dk_at dksX5_level_2 6 rfl rfl)
theorem dX5_level_55 : decode cX5_level 55 = .ok (.iload_n 1, 1) := dk_27 (dk_at dksX5_level_2 7 rfl rfl)
theorem dX5_level_56 : decode cX5_level 56 = .ok (.invokevirtual 91, 3) := dk_182 0 91 (dk_at dksX5_level_2 8 rfl rfl)
theorem dX5_level_59 : decode cX5_level 59 = .ok (.goto 4, 3) := dk_167 0 4 (dk_at dksX5_level_2 11 rfl rfl)
theorem dX5_level_62 : decode cX5_level 62 = .ok (.iconst 0, 1) := dk_3 (dk_at dksX5_level_2 14 rfl rfl)
theorem dX5_level_63 : decode cX5_level 63 = .ok (.iastore, 1) := dk_79 (dk_at dksX5_level_2 15 rfl rfl)
theorem dX5_level_64 : decode cX5_level 64 = .ok (.iinc 3 1, 3) := dk_132 3 1 (dk_at dksX5_level_2 16 rfl rfl)
theorem dX5_level_67 : decode cX5_level 67 = .ok (.goto (-58), 3) := dk_167 255 198 (dk_at dksX5_level_2 19 rfl rfl)
theorem dX5_level_70 : decode cX5_level 70 = .ok (.iconst 0, 1) := dk_3 (dk_at dksX5_level_2 22 rfl rfl)
theorem dX5_level_71 : decode cX5_level 71 = .ok (.istore_n 3, 1) := dk_62 (dk_at dksX5_level_2 23 rfl rfl)
theorem dX5_level_72 : decode cX5_level 72 = .ok (.iconst 0, 1) := dk_3 (dk_at dksX5_level_3 0 rfl rfl)
theorem dX5_level_73 : decode cX5_level 73 = .ok (.istore 4, 2) := dk_54 4 (dk_at dksX5_level_3 1 rfl rfl)
theorem dX5_level_75 : decode cX5_level 75 = .ok (.iload 4, 2) := dk_21 4 (dk_at dksX5_level_3 3 rfl rfl)
theorem dX5_level_77 : decode cX5_level 77 = .ok (.aload_n 0, 1) := dk_42 (dk_at dksX5_level_3 5 rfl rfl)
theorem dX5_level_78 : decode cX5_level 78 = .ok (.getfield 38, 3) := dk_180 0 38 (dk_at dksX5_level_3 6 rfl rfl)
theorem dX5_level_81 : decode cX5_level 81 = .ok (.if_icmp .ge 50, 3) := dk_162 0 50 (dk_at dksX5_level_3 9 rfl rfl)
theorem dX5_level_84 : decode cX5_level 84 = .ok (.aload_n 2, 1) := dk_44 (dk_at dksX5_level_3 12 rfl rfl)
theorem dX5_level_85 : decode cX5_level 85 = .ok (.iload 4, 2) := dk_21 4 (dk_at dksX5_level_3 13 rfl rfl)
theorem dX5_level_87 : decode cX5_level 87 = .ok (.iaload, 1) := dk_46 (dk_at dksX5_level_3 15 rfl rfl)
theorem dX5_level_88 : decode cX5_level 88 = .ok (.ifCond .eq 37, 3) := dk_153 0 37 (dk_at dksX5_level_3 16 rfl rfl)
theorem dX5_level_91 : decode cX5_level 91 = .ok (.aload_n 0, 1) := dk_42 (dk_at dksX5_level_3 19 rfl rfl)
theorem dX5_level_92 : decode cX5_level 92 = .ok (.getfield 16, 3) := dk_180 0 16 (dk_at dksX5_level_3 20 rfl rfl)
theorem dX5_level_95 : decode cX5_level 95 = .ok (.aload_n 0, 1) := dk_42 (dk_at dksX5_level_3 23 rfl rfl)
theorem dX5_level_96 : decode cX5_level 96 = .ok (.aload_n 0, 1) := dk_42 (dk_at dksX5_level_4 0 rfl rfl)
theorem dX5_level_97 : decode cX5_level 97 = .ok (.iload 4, 2) := dk_21 4 (dk_at dksX5_level_4 1 rfl rfl)
theorem dX5_level_99 : decode cX5_level 99 = .ok (.invokevirtual 62, 3) := dk_182 0 62 (dk_at dksX5_level_4 3 rfl rfl)
theorem dX5_level_102 : decode cX5_level 102 = .ok (.aload_n 0, 1) := dk_42 (dk_at dksX5_level_4 6 rfl rfl)
theorem dX5_level_103 : decode cX5_level 103 = .ok (.iload 4, 2) := dk_21 4 (dk_at dksX5_level_4 7 rfl rfl)
theorem dX5_level_105 : decode cX5_level 105 = .ok (.invokevirtual 65, 3) := dk_182 0 65 (dk_at dksX5_level_4 9 rfl rfl)
theorem dX5_level_108 : decode cX5_level 108 = .ok (.aload_n 0, 1) := dk_42 (dk_at dksX5_level_4 12 rfl rfl)
theorem dX5_level_109 : decode cX5_level 109 = .ok (.iload 4, 2) := dk_21 4 (dk_at dksX5_level_4 13 rfl rfl)
theorem dX5_level_111 : decode cX5_level 111 = .ok (.invokevirtual 71, 3) := dk_182 0 71 (dk_at dksX5_level_4 15 rfl rfl)
theorem dX5_level_114 : decode cX5_level 114 = .ok (.invokevirtual 30, 3) := dk_182 0 30 (dk_at dksX5_level_4 18 rfl rfl)
theorem dX5_level_117 : decode cX5_level 117 = .ok (.aload_n 2, 1) := dk_44 (dk_at dksX5_level_4 21 rfl rfl)
theorem dX5_level_118 : decode cX5_level 118 = .ok (.iload 4, 2) := dk_21 4 (dk_at dksX5_level_4 22 rfl rfl)
theorem dX5_level_120 : decode cX5_level 120 = .ok (.iaload, 1) := dk_46 (dk_at dksX5_level_5 0 rfl rfl)
theorem dX5_level_121 : decode cX5_level 121 = .ok (.iastore, 1) := dk_79 (dk_at dksX5_level_5 1 rfl rfl)
theorem dX5_level_122 : decode cX5_level 122 = .ok (.iinc 3 1, 3) := dk_132 3 1 (dk_at dksX5_level_5 2 rfl rfl)
theorem dX5_level_125 : decode cX5_level 125 = .ok (.iinc 4 1, 3) := dk_132 4 1 (dk_at dksX5_level_5 5 rfl rfl)
theorem dX5_level_128 : decode cX5_level 128 = .ok (.goto (-53), 3) := dk_167 255 203 (dk_at dksX5_level_5 8 rfl rfl)
theorem dX5_level_131 : decode cX5_level 131 = .ok (.iload_n 3, 1) := dk_29 (dk_at dksX5_level_5 11 rfl rfl)
theorem dX5_level_132 : decode cX5_level 132 = .ok (.ireturn, 1) := dk_172 (dk_at dksX5_level_5 12 rfl rfl)
abbrev cX5_first : ByteArray := prog_6_method_6_code
def yX5_first : MethodName := ⟨RX5, "first", "(I)I"⟩
def dkwX5_first_0 : List UInt8 := [42, 180, 0, 19, 27, 46, 17, 1, 255, 126, 172]
abbrev dktX5_first_0 : List UInt8 := dkwX5_first_0 ++ []
theorem dksX5_first_0 : cX5_first.data.toList.drop 0 = dktX5_first_0 := by decide +kernel
theorem dX5_first_0 : decode cX5_first 0 = .ok (.aload_n 0, 1) := dk_42 (dk_at dksX5_first_0 0 rfl rfl)
theorem dX5_first_1 : decode cX5_first 1 = .ok (.getfield 19, 3) := dk_180 0 19 (dk_at dksX5_first_0 1 rfl rfl)
theorem dX5_first_4 : decode cX5_first 4 = .ok (.iload_n 1, 1) := dk_27 (dk_at dksX5_first_0 4 rfl rfl)
theorem dX5_first_5 : decode cX5_first 5 = .ok (.iaload, 1) := dk_46 (dk_at dksX5_first_0 5 rfl rfl)
theorem dX5_first_6 : decode cX5_first 6 = .ok (.sipush 511, 3) := dk_17 1 255 (dk_at dksX5_first_0 6 rfl rfl)
theorem dX5_first_9 : decode cX5_first 9 = .ok (.iand, 1) := dk_126 (dk_at dksX5_first_0 9 rfl rfl)
theorem dX5_first_10 : decode cX5_first 10 = .ok (.ireturn, 1) := dk_172 (dk_at dksX5_first_0 10 rfl rfl)
abbrev cX5_second : ByteArray := prog_6_method_7_code
def yX5_second : MethodName := ⟨RX5, "second", "(I)I"⟩
def dkwX5_second_0 : List UInt8 := [42, 180, 0, 19, 27, 46, 16, 9, 122, 17, 1, 255, 126, 172]
abbrev dktX5_second_0 : List UInt8 := dkwX5_second_0 ++ []
theorem dksX5_second_0 : cX5_second.data.toList.drop 0 = dktX5_second_0 := by decide +kernel
theorem dX5_second_0 : decode cX5_second 0 = .ok (.aload_n 0, 1) := dk_42 (dk_at dksX5_second_0 0 rfl rfl)
theorem dX5_second_1 : decode cX5_second 1 = .ok (.getfield 19, 3) := dk_180 0 19 (dk_at dksX5_second_0 1 rfl rfl)
theorem dX5_second_4 : decode cX5_second 4 = .ok (.iload_n 1, 1) := dk_27 (dk_at dksX5_second_0 4 rfl rfl)
theorem dX5_second_5 : decode cX5_second 5 = .ok (.iaload, 1) := dk_46 (dk_at dksX5_second_0 5 rfl rfl)
theorem dX5_second_6 : decode cX5_second 6 = .ok (.bipush 9, 2) := dk_16 9 (dk_at dksX5_second_0 6 rfl rfl)
theorem dX5_second_8 : decode cX5_second 8 = .ok (.ishr, 1) := dk_122 (dk_at dksX5_second_0 8 rfl rfl)
theorem dX5_second_9 : decode cX5_second 9 = .ok (.sipush 511, 3) := dk_17 1 255 (dk_at dksX5_second_0 9 rfl rfl)
theorem dX5_second_12 : decode cX5_second 12 = .ok (.iand, 1) := dk_126 (dk_at dksX5_second_0 12 rfl rfl)
theorem dX5_second_13 : decode cX5_second 13 = .ok (.ireturn, 1) := dk_172 (dk_at dksX5_second_0 13 rfl rfl)
abbrev cX5_mover : ByteArray := prog_6_method_8_code
def yX5_mover : MethodName := ⟨RX5, "mover", "(I)I"⟩
def dkwX5_mover_0 : List UInt8 := [42, 180, 0, 19, 27, 46, 16, 18, 122, 172]
abbrev dktX5_mover_0 : List UInt8 := dkwX5_mover_0 ++ []
theorem dksX5_mover_0 : cX5_mover.data.toList.drop 0 = dktX5_mover_0 := by decide +kernel
theorem dX5_mover_0 : decode cX5_mover 0 = .ok (.aload_n 0, 1) := dk_42 (dk_at dksX5_mover_0 0 rfl rfl)
theorem dX5_mover_1 : decode cX5_mover 1 = .ok (.getfield 19, 3) := dk_180 0 19 (dk_at dksX5_mover_0 1 rfl rfl)
theorem dX5_mover_4 : decode cX5_mover 4 = .ok (.iload_n 1, 1) := dk_27 (dk_at dksX5_mover_0 4 rfl rfl)
theorem dX5_mover_5 : decode cX5_mover 5 = .ok (.iaload, 1) := dk_46 (dk_at dksX5_mover_0 5 rfl rfl)
theorem dX5_mover_6 : decode cX5_mover 6 = .ok (.bipush 18, 2) := dk_16 18 (dk_at dksX5_mover_0 6 rfl rfl)
theorem dX5_mover_8 : decode cX5_mover 8 = .ok (.ishr, 1) := dk_122 (dk_at dksX5_mover_0 8 rfl rfl)
theorem dX5_mover_9 : decode cX5_mover 9 = .ok (.ireturn, 1) := dk_172 (dk_at dksX5_mover_0 9 rfl rfl)
abbrev cX5_worth : ByteArray := prog_6_method_3_code
def yX5_worth : MethodName := ⟨RX5, "worth", "(III)I"⟩
def dkwX5_worth_0 : List UInt8 := [42, 180, 0, 16, 42, 27, 28, 29, 182, 0, 30, 46, 172]
abbrev dktX5_worth_0 : List UInt8 := dkwX5_worth_0 ++ []
theorem dksX5_worth_0 : cX5_worth.data.toList.drop 0 = dktX5_worth_0 := by decide +kernel
theorem dX5_worth_0 : decode cX5_worth 0 = .ok (.aload_n 0, 1) := dk_42 (dk_at dksX5_worth_0 0 rfl rfl)
theorem dX5_worth_1 : decode cX5_worth 1 = .ok (.getfield 16, 3) := dk_180 0 16 (dk_at dksX5_worth_0 1 rfl rfl)
theorem dX5_worth_4 : decode cX5_worth 4 = .ok (.aload_n 0, 1) := dk_42 (dk_at dksX5_worth_0 4 rfl rfl)
theorem dX5_worth_5 : decode cX5_worth 5 = .ok (.iload_n 1, 1) := dk_27 (dk_at dksX5_worth_0 5 rfl rfl)
theorem dX5_worth_6 : decode cX5_worth 6 = .ok (.iload_n 2, 1) := dk_28 (dk_at dksX5_worth_0 6 rfl rfl)
theorem dX5_worth_7 : decode cX5_worth 7 = .ok (.iload_n 3, 1) := dk_29 (dk_at dksX5_worth_0 7 rfl rfl)
theorem dX5_worth_8 : decode cX5_worth 8 = .ok (.invokevirtual 30, 3) := dk_182 0 30 (dk_at dksX5_worth_0 8 rfl rfl)
theorem dX5_worth_11 : decode cX5_worth 11 = .ok (.iaload, 1) := dk_46 (dk_at dksX5_worth_0 11 rfl rfl)
theorem dX5_worth_12 : decode cX5_worth 12 = .ok (.ireturn, 1) := dk_172 (dk_at dksX5_worth_0 12 rfl rfl)
abbrev cX5_judge : ByteArray := prog_6_method_12_code
def yX5_judge : MethodName := ⟨RX5, "judge", "(II)I"⟩
def dkwX5_judge_7 : List UInt8 := [21, 5, 4, 160, 0, 7, 3, 167, 0, 6, 2, 28, 100, 172]
abbrev dktX5_judge_7 : List UInt8 := dkwX5_judge_7 ++ []
def dkwX5_judge_6 : List UInt8 := [167, 0, 5, 21, 5, 54, 5, 132, 6, 1, 167, 255, 216, 21, 5, 5, 160, 0, 7, 28, 167, 0, 16]
abbrev dktX5_judge_6 : List UInt8 := dkwX5_judge_6 ++ dktX5_judge_7
def dkwX5_judge_5 : List UInt8 := [29, 21, 6, 122, 4, 126, 4, 160, 0, 19, 21, 5, 42, 27, 21, 6, 28, 182, 0, 85, 184, 0, 80]
abbrev dktX5_judge_5 : List UInt8 := dkwX5_judge_5 ++ dktX5_judge_6
def dkwX5_judge_4 : List UInt8 := [16, 90, 182, 0, 74, 28, 184, 0, 77, 54, 5, 167, 0, 49, 3, 54, 6, 21, 6, 16, 9, 162, 0, 39]
abbrev dktX5_judge_4 : List UInt8 := dkwX5_judge_4 ++ dktX5_judge_5
def dkwX5_judge_3 : List UInt8 := [21, 4, 182, 0, 88, 153, 0, 33, 42, 42, 27, 182, 0, 62, 42, 27, 182, 0, 65, 42, 27, 182, 0, 71]
abbrev dktX5_judge_3 : List UInt8 := dkwX5_judge_3 ++ dktX5_judge_4
def dkwX5_judge_2 : List UInt8 := [29, 184, 0, 46, 6, 162, 0, 16, 42, 27, 16, 250, 28, 182, 0, 85, 54, 5, 167, 0, 89, 42, 29]
abbrev dktX5_judge_2 : List UInt8 := dkwX5_judge_2 ++ dktX5_judge_3
def dkwX5_judge_1 : List UInt8 := [182, 0, 71, 154, 0, 11, 42, 27, 182, 0, 65, 167, 0, 8, 42, 27, 182, 0, 62, 54, 4, 3, 54, 5]
abbrev dktX5_judge_1 : List UInt8 := dkwX5_judge_1 ++ dktX5_judge_2
def dkwX5_judge_0 : List UInt8 := [42, 27, 182, 0, 71, 154, 0, 11, 42, 27, 182, 0, 62, 167, 0, 8, 42, 27, 182, 0, 65, 62, 42, 27]
abbrev dktX5_judge_0 : List UInt8 := dkwX5_judge_0 ++ dktX5_judge_1
theorem dksX5_judge_0 : cX5_judge.data.toList.drop 0 = dktX5_judge_0 := by decide +kernel
theorem dksX5_judge_1 : cX5_judge.data.toList.drop 24 = dktX5_judge_1 := dk_seg dksX5_judge_0 24 rfl rfl
theorem dksX5_judge_2 : cX5_judge.data.toList.drop 48 = dktX5_judge_2 := dk_seg dksX5_judge_1 24 rfl rfl
theorem dksX5_judge_3 : cX5_judge.data.toList.drop 71 = dktX5_judge_3 := dk_seg dksX5_judge_2 23 rfl rfl
theorem dksX5_judge_4 : cX5_judge.data.toList.drop 95 = dktX5_judge_4 := dk_seg dksX5_judge_3 24 rfl rfl
theorem dksX5_judge_5 : cX5_judge.data.toList.drop 119 = dktX5_judge_5 := dk_seg dksX5_judge_4 24 rfl rfl
theorem dksX5_judge_6 : cX5_judge.data.toList.drop 142 = dktX5_judge_6 := dk_seg dksX5_judge_5 23 rfl rfl
theorem dksX5_judge_7 : cX5_judge.data.toList.drop 165 = dktX5_judge_7 := dk_seg dksX5_judge_6 23 rfl rfl
theorem dX5_judge_0 : decode cX5_judge 0 = .ok (.aload_n 0, 1) := dk_42 (dk_at dksX5_judge_0 0 rfl rfl)
theorem dX5_judge_1 : decode cX5_judge 1 = .ok (.iload_n 1, 1) := dk_27 (dk_at dksX5_judge_0 1 rfl rfl)
theorem dX5_judge_2 : decode cX5_judge 2 = .ok (.invokevirtual 71, 3) := dk_182 0 71 (dk_at dksX5_judge_0 2 rfl rfl)
theorem dX5_judge_5 : decode cX5_judge 5 = .ok (.ifCond .ne 11, 3) := dk_154 0 11 (dk_at dksX5_judge_0 5 rfl rfl)
theorem dX5_judge_8 : decode cX5_judge 8 = .ok (.aload_n 0, 1) := dk_42 (dk_at dksX5_judge_0 8 rfl rfl)
theorem dX5_judge_9 : decode cX5_judge 9 = .ok (.iload_n 1, 1) := dk_27 (dk_at dksX5_judge_0 9 rfl rfl)
theorem dX5_judge_10 : decode cX5_judge 10 = .ok (.invokevirtual 62, 3) := dk_182 0 62 (dk_at dksX5_judge_0 10 rfl rfl)
theorem dX5_judge_13 : decode cX5_judge 13 = .ok (.goto 8, 3) := dk_167 0 8 (dk_at dksX5_judge_0 13 rfl rfl)
theorem dX5_judge_16 : decode cX5_judge 16 = .ok (.aload_n 0, 1) := dk_42 (dk_at dksX5_judge_0 16 rfl rfl)
theorem dX5_judge_17 : decode cX5_judge 17 = .ok (.iload_n 1, 1) := dk_27 (dk_at dksX5_judge_0 17 rfl rfl)
theorem dX5_judge_18 : decode cX5_judge 18 = .ok (.invokevirtual 65, 3) := dk_182 0 65 (dk_at dksX5_judge_0 18 rfl rfl)
theorem dX5_judge_21 : decode cX5_judge 21 = .ok (.istore_n 3, 1) := dk_62 (dk_at dksX5_judge_0 21 rfl rfl)
theorem dX5_judge_22 : decode cX5_judge 22 = .ok (.aload_n 0, 1) := dk_42 (dk_at dksX5_judge_0 22 rfl rfl)
theorem dX5_judge_23 : decode cX5_judge 23 = .ok (.iload_n 1, 1) := dk_27 (dk_at dksX5_judge_0 23 rfl rfl)
theorem dX5_judge_24 : decode cX5_judge 24 = .ok (.invokevirtual 71, 3) := dk_182 0 71 (dk_at dksX5_judge_1 0 rfl rfl)
theorem dX5_judge_27 : decode cX5_judge 27 = .ok (.ifCond .ne 11, 3) := dk_154 0 11 (dk_at dksX5_judge_1 3 rfl rfl)
theorem dX5_judge_30 : decode cX5_judge 30 = .ok (.aload_n 0, 1) := dk_42 (dk_at dksX5_judge_1 6 rfl rfl)
theorem dX5_judge_31 : decode cX5_judge 31 = .ok (.iload_n 1, 1) := dk_27 (dk_at dksX5_judge_1 7 rfl rfl)
theorem dX5_judge_32 : decode cX5_judge 32 = .ok (.invokevirtual 65, 3) := dk_182 0 65 (dk_at dksX5_judge_1 8 rfl rfl)
theorem dX5_judge_35 : decode cX5_judge 35 = .ok (.goto 8, 3) := dk_167 0 8 (dk_at dksX5_judge_1 11 rfl rfl)
theorem dX5_judge_38 : decode cX5_judge 38 = .ok (.aload_n 0, 1) := dk_42 (dk_at dksX5_judge_1 14 rfl rfl)
theorem dX5_judge_39 : decode cX5_judge 39 = .ok (.iload_n 1, 1) := dk_27 (dk_at dksX5_judge_1 15 rfl rfl)
theorem dX5_judge_40 : decode cX5_judge 40 = .ok (.invokevirtual 62, 3) := dk_182 0 62 (dk_at dksX5_judge_1 16 rfl rfl)
theorem dX5_judge_43 : decode cX5_judge 43 = .ok (.istore 4, 2) := dk_54 4 (dk_at dksX5_judge_1 19 rfl rfl)
theorem dX5_judge_45 : decode cX5_judge 45 = .ok (.iconst 0, 1) := dk_3 (dk_at dksX5_judge_1 21 rfl rfl)
theorem dX5_judge_46 : decode cX5_judge 46 = .ok (.istore 5, 2) := dk_54 5 (dk_at dksX5_judge_1 22 rfl rfl)
theorem dX5_judge_48 : decode cX5_judge 48 = .ok (.iload_n 3, 1) := dk_29 (dk_at dksX5_judge_2 0 rfl rfl)
theorem dX5_judge_49 : decode cX5_judge 49 = .ok (.invokestatic 46, 3) := dk_184 0 46 (dk_at dksX5_judge_2 1 rfl rfl)
theorem dX5_judge_52 : decode cX5_judge 52 = .ok (.iconst 3, 1) := dk_6 (dk_at dksX5_judge_2 4 rfl rfl)
theorem dX5_judge_53 : decode cX5_judge 53 = .ok (.if_icmp .ge 16, 3) := dk_162 0 16 (dk_at dksX5_judge_2 5 rfl rfl)
theorem dX5_judge_56 : decode cX5_judge 56 = .ok (.aload_n 0, 1) := dk_42 (dk_at dksX5_judge_2 8 rfl rfl)
theorem dX5_judge_57 : decode cX5_judge 57 = .ok (.iload_n 1, 1) := dk_27 (dk_at dksX5_judge_2 9 rfl rfl)
theorem dX5_judge_58 : decode cX5_judge 58 = .ok (.bipush (-6), 2) := dk_16 250 (dk_at dksX5_judge_2 10 rfl rfl)
theorem dX5_judge_60 : decode cX5_judge 60 = .ok (.iload_n 2, 1) := dk_28 (dk_at dksX5_judge_2 12 rfl rfl)
theorem dX5_judge_61 : decode cX5_judge 61 = .ok (.invokevirtual 85, 3) := dk_182 0 85 (dk_at dksX5_judge_2 13 rfl rfl)
theorem dX5_judge_64 : decode cX5_judge 64 = .ok (.istore 5, 2) := dk_54 5 (dk_at dksX5_judge_2 16 rfl rfl)
theorem dX5_judge_66 : decode cX5_judge 66 = .ok (.goto 89, 3) := dk_167 0 89 (dk_at dksX5_judge_2 18 rfl rfl)
theorem dX5_judge_69 : decode cX5_judge 69 = .ok (.aload_n 0, 1) := dk_42 (dk_at dksX5_judge_2 21 rfl rfl)
theorem dX5_judge_70 : decode cX5_judge 70 = .ok (.iload_n 3, 1) := dk_29 (dk_at dksX5_judge_2 22 rfl rfl)
theorem dX5_judge_71 : decode cX5_judge 71 = .ok (.iload 4, 2) := dk_21 4 (dk_at dksX5_judge_3 0 rfl rfl)
theorem dX5_judge_73 : decode cX5_judge 73 = .ok (.invokevirtual 88, 3) := dk_182 0 88 (dk_at dksX5_judge_3 2 rfl rfl)
theorem dX5_judge_76 : decode cX5_judge 76 = .ok (.ifCond .eq 33, 3) := dk_153 0 33 (dk_at dksX5_judge_3 5 rfl rfl)
theorem dX5_judge_79 : decode cX5_judge 79 = .ok (.aload_n 0, 1) := dk_42 (dk_at dksX5_judge_3 8 rfl rfl)
theorem dX5_judge_80 : decode cX5_judge 80 = .ok (.aload_n 0, 1) := dk_42 (dk_at dksX5_judge_3 9 rfl rfl)
theorem dX5_judge_81 : decode cX5_judge 81 = .ok (.iload_n 1, 1) := dk_27 (dk_at dksX5_judge_3 10 rfl rfl)
theorem dX5_judge_82 : decode cX5_judge 82 = .ok (.invokevirtual 62, 3) := dk_182 0 62 (dk_at dksX5_judge_3 11 rfl rfl)
theorem dX5_judge_85 : decode cX5_judge 85 = .ok (.aload_n 0, 1) := dk_42 (dk_at dksX5_judge_3 14 rfl rfl)
theorem dX5_judge_86 : decode cX5_judge 86 = .ok (.iload_n 1, 1) := dk_27 (dk_at dksX5_judge_3 15 rfl rfl)
theorem dX5_judge_87 : decode cX5_judge 87 = .ok (.invokevirtual 65, 3) := dk_182 0 65 (dk_at dksX5_judge_3 16 rfl rfl)
theorem dX5_judge_90 : decode cX5_judge 90 = .ok (.aload_n 0, 1) := dk_42 (dk_at dksX5_judge_3 19 rfl rfl)
theorem dX5_judge_91 : decode cX5_judge 91 = .ok (.iload_n 1, 1) := dk_27 (dk_at dksX5_judge_3 20 rfl rfl)
theorem dX5_judge_92 : decode cX5_judge 92 = .ok (.invokevirtual 71, 3) := dk_182 0 71 (dk_at dksX5_judge_3 21 rfl rfl)
theorem dX5_judge_95 : decode cX5_judge 95 = .ok (.bipush 90, 2) := dk_16 90 (dk_at dksX5_judge_4 0 rfl rfl)
theorem dX5_judge_97 : decode cX5_judge 97 = .ok (.invokevirtual 74, 3) := dk_182 0 74 (dk_at dksX5_judge_4 2 rfl rfl)
theorem dX5_judge_100 : decode cX5_judge 100 = .ok (.iload_n 2, 1) := dk_28 (dk_at dksX5_judge_4 5 rfl rfl)
theorem dX5_judge_101 : decode cX5_judge 101 = .ok (.invokestatic 77, 3) := dk_184 0 77 (dk_at dksX5_judge_4 6 rfl rfl)
theorem dX5_judge_104 : decode cX5_judge 104 = .ok (.istore 5, 2) := dk_54 5 (dk_at dksX5_judge_4 9 rfl rfl)
theorem dX5_judge_106 : decode cX5_judge 106 = .ok (.goto 49, 3) := dk_167 0 49 (dk_at dksX5_judge_4 11 rfl rfl)
theorem dX5_judge_109 : decode cX5_judge 109 = .ok (.iconst 0, 1) := dk_3 (dk_at dksX5_judge_4 14 rfl rfl)
theorem dX5_judge_110 : decode cX5_judge 110 = .ok (.istore 6, 2) := dk_54 6 (dk_at dksX5_judge_4 15 rfl rfl)
theorem dX5_judge_112 : decode cX5_judge 112 = .ok (.iload 6, 2) := dk_21 6 (dk_at dksX5_judge_4 17 rfl rfl)
theorem dX5_judge_114 : decode cX5_judge 114 = .ok (.bipush 9, 2) := dk_16 9 (dk_at dksX5_judge_4 19 rfl rfl)
theorem dX5_judge_116 : decode cX5_judge 116 = .ok (.if_icmp .ge 39, 3) := dk_162 0 39 (dk_at dksX5_judge_4 21 rfl rfl)
theorem dX5_judge_119 : decode cX5_judge 119 = .ok (.iload_n 3, 1) := dk_29 (dk_at dksX5_judge_5 0 rfl rfl)
theorem dX5_judge_120 : decode cX5_judge 120 = .ok (.iload 6, 2) := dk_21 6 (dk_at dksX5_judge_5 1 rfl rfl)
theorem dX5_judge_122 : decode cX5_judge 122 = .ok (.ishr, 1) := dk_122 (dk_at dksX5_judge_5 3 rfl rfl)
theorem dX5_judge_123 : decode cX5_judge 123 = .ok (.iconst 1, 1) := dk_4 (dk_at dksX5_judge_5 4 rfl rfl)
theorem dX5_judge_124 : decode cX5_judge 124 = .ok (.iand, 1) := dk_126 (dk_at dksX5_judge_5 5 rfl rfl)
theorem dX5_judge_125 : decode cX5_judge 125 = .ok (.iconst 1, 1) := dk_4 (dk_at dksX5_judge_5 6 rfl rfl)
theorem dX5_judge_126 : decode cX5_judge 126 = .ok (.if_icmp .ne 19, 3) := dk_160 0 19 (dk_at dksX5_judge_5 7 rfl rfl)
theorem dX5_judge_129 : decode cX5_judge 129 = .ok (.iload 5, 2) := dk_21 5 (dk_at dksX5_judge_5 10 rfl rfl)
theorem dX5_judge_131 : decode cX5_judge 131 = .ok (.aload_n 0, 1) := dk_42 (dk_at dksX5_judge_5 12 rfl rfl)
theorem dX5_judge_132 : decode cX5_judge 132 = .ok (.iload_n 1, 1) := dk_27 (dk_at dksX5_judge_5 13 rfl rfl)
theorem dX5_judge_133 : decode cX5_judge 133 = .ok (.iload 6, 2) := dk_21 6 (dk_at dksX5_judge_5 14 rfl rfl)
theorem dX5_judge_135 : decode cX5_judge 135 = .ok (.iload_n 2, 1) := dk_28 (dk_at dksX5_judge_5 16 rfl rfl)
theorem dX5_judge_136 : decode cX5_judge 136 = .ok (.invokevirtual 85, 3) := dk_182 0 85 (dk_at dksX5_judge_5 17 rfl rfl)
theorem dX5_judge_139 : decode cX5_judge 139 = .ok (.invokestatic 80, 3) := dk_184 0 80 (dk_at dksX5_judge_5 20 rfl rfl)
theorem dX5_judge_142 : decode cX5_judge 142 = .ok (.goto 5, 3) := dk_167 0 5 (dk_at dksX5_judge_6 0 rfl rfl)
theorem dX5_judge_145 : decode cX5_judge 145 = .ok (.iload 5, 2) := dk_21 5 (dk_at dksX5_judge_6 3 rfl rfl)
theorem dX5_judge_147 : decode cX5_judge 147 = .ok (.istore 5, 2) := dk_54 5 (dk_at dksX5_judge_6 5 rfl rfl)
theorem dX5_judge_149 : decode cX5_judge 149 = .ok (.iinc 6 1, 3) := dk_132 6 1 (dk_at dksX5_judge_6 7 rfl rfl)
theorem dX5_judge_152 : decode cX5_judge 152 = .ok (.goto (-40), 3) := dk_167 255 216 (dk_at dksX5_judge_6 10 rfl rfl)
theorem dX5_judge_155 : decode cX5_judge 155 = .ok (.iload 5, 2) := dk_21 5 (dk_at dksX5_judge_6 13 rfl rfl)
theorem dX5_judge_157 : decode cX5_judge 157 = .ok (.iconst 2, 1) := dk_5 (dk_at dksX5_judge_6 15 rfl rfl)
theorem dX5_judge_158 : decode cX5_judge 158 = .ok (.if_icmp .ne 7, 3) := dk_160 0 7 (dk_at dksX5_judge_6 16 rfl rfl)
theorem dX5_judge_161 : decode cX5_judge 161 = .ok (.iload_n 2, 1) := dk_28 (dk_at dksX5_judge_6 19 rfl rfl)
theorem dX5_judge_162 : decode cX5_judge 162 = .ok (.goto 16, 3) := dk_167 0 16 (dk_at dksX5_judge_6 20 rfl rfl)
theorem dX5_judge_165 : decode cX5_judge 165 = .ok (.iload 5, 2) := dk_21 5 (dk_at dksX5_judge_7 0 rfl rfl)
theorem dX5_judge_167 : decode cX5_judge 167 = .ok (.iconst 1, 1) := dk_4 (dk_at dksX5_judge_7 2 rfl rfl)
theorem dX5_judge_168 : decode cX5_judge 168 = .ok (.if_icmp .ne 7, 3) := dk_160 0 7 (dk_at dksX5_judge_7 3 rfl rfl)
theorem dX5_judge_171 : decode cX5_judge 171 = .ok (.iconst 0, 1) := dk_3 (dk_at dksX5_judge_7 6 rfl rfl)
theorem dX5_judge_172 : decode cX5_judge 172 = .ok (.goto 6, 3) := dk_167 0 6 (dk_at dksX5_judge_7 7 rfl rfl)
theorem dX5_judge_175 : decode cX5_judge 175 = .ok (.iconst (-1), 1) := dk_2 (dk_at dksX5_judge_7 10 rfl rfl)
theorem dX5_judge_176 : decode cX5_judge 176 = .ok (.iload_n 2, 1) := dk_28 (dk_at dksX5_judge_7 11 rfl rfl)
theorem dX5_judge_177 : decode cX5_judge 177 = .ok (.isub, 1) := dk_100 (dk_at dksX5_judge_7 12 rfl rfl)
theorem dX5_judge_178 : decode cX5_judge 178 = .ok (.ireturn, 1) := dk_172 (dk_at dksX5_judge_7 13 rfl rfl)
abbrev cX5_greatest : ByteArray := prog_6_method_10_code
def yX5_greatest : MethodName := ⟨RX5, "greatest", "(III)I"⟩
def dkwX5_greatest_5 : List UInt8 := [132, 7, 1, 167, 255, 182, 21, 6, 172]
abbrev dktX5_greatest_5 : List UInt8 := dkwX5_greatest_5 ++ []
def dkwX5_greatest_4 : List UInt8 := [27, 182, 0, 65, 42, 27, 182, 0, 71, 21, 8, 182, 0, 74, 29, 184, 0, 77, 184, 0, 80, 54, 6]
abbrev dktX5_greatest_4 : List UInt8 := dkwX5_greatest_4 ++ dktX5_greatest_5
def dkwX5_greatest_3 : List UInt8 := [167, 0, 13, 16, 9, 16, 9, 28, 104, 96, 21, 7, 96, 54, 8, 21, 6, 42, 42, 27, 182, 0, 62, 42]
abbrev dktX5_greatest_3 : List UInt8 := dkwX5_greatest_3 ++ dktX5_greatest_4
def dkwX5_greatest_2 : List UInt8 := [21, 7, 16, 9, 162, 0, 73, 21, 5, 21, 7, 122, 4, 126, 4, 160, 0, 56, 28, 156, 0, 8, 21, 7]
abbrev dktX5_greatest_2 : List UInt8 := dkwX5_greatest_2 ++ dktX5_greatest_3
def dkwX5_greatest_1 : List UInt8 := [156, 0, 8, 21, 4, 167, 0, 11, 42, 28, 182, 0, 68, 21, 4, 126, 54, 5, 3, 54, 6, 3, 54, 7]
abbrev dktX5_greatest_1 : List UInt8 := dkwX5_greatest_1 ++ dktX5_greatest_2
def dkwX5_greatest_0 : List UInt8 := [17, 1, 255, 42, 27, 182, 0, 62, 2, 130, 126, 42, 27, 182, 0, 65, 2, 130, 126, 54, 4, 28]
abbrev dktX5_greatest_0 : List UInt8 := dkwX5_greatest_0 ++ dktX5_greatest_1
theorem dksX5_greatest_0 : cX5_greatest.data.toList.drop 0 = dktX5_greatest_0 := by decide +kernel
theorem dksX5_greatest_1 : cX5_greatest.data.toList.drop 22 = dktX5_greatest_1 := dk_seg dksX5_greatest_0 22 rfl rfl
theorem dksX5_greatest_2 : cX5_greatest.data.toList.drop 46 = dktX5_greatest_2 := dk_seg dksX5_greatest_1 24 rfl rfl
theorem dksX5_greatest_3 : cX5_greatest.data.toList.drop 70 = dktX5_greatest_3 := dk_seg dksX5_greatest_2 24 rfl rfl
theorem dksX5_greatest_4 : cX5_greatest.data.toList.drop 94 = dktX5_greatest_4 := dk_seg dksX5_greatest_3 24 rfl rfl
theorem dksX5_greatest_5 : cX5_greatest.data.toList.drop 117 = dktX5_greatest_5 := dk_seg dksX5_greatest_4 23 rfl rfl
theorem dX5_greatest_0 : decode cX5_greatest 0 = .ok (.sipush 511, 3) := dk_17 1 255 (dk_at dksX5_greatest_0 0 rfl rfl)
theorem dX5_greatest_3 : decode cX5_greatest 3 = .ok (.aload_n 0, 1) := dk_42 (dk_at dksX5_greatest_0 3 rfl rfl)
theorem dX5_greatest_4 : decode cX5_greatest 4 = .ok (.iload_n 1, 1) := dk_27 (dk_at dksX5_greatest_0 4 rfl rfl)
theorem dX5_greatest_5 : decode cX5_greatest 5 = .ok (.invokevirtual 62, 3) := dk_182 0 62 (dk_at dksX5_greatest_0 5 rfl rfl)
theorem dX5_greatest_8 : decode cX5_greatest 8 = .ok (.iconst (-1), 1) := dk_2 (dk_at dksX5_greatest_0 8 rfl rfl)
theorem dX5_greatest_9 : decode cX5_greatest 9 = .ok (.ixor, 1) := dk_130 (dk_at dksX5_greatest_0 9 rfl rfl)
theorem dX5_greatest_10 : decode cX5_greatest 10 = .ok (.iand, 1) := dk_126 (dk_at dksX5_greatest_0 10 rfl rfl)
theorem dX5_greatest_11 : decode cX5_greatest 11 = .ok (.aload_n 0, 1) := dk_42 (dk_at dksX5_greatest_0 11 rfl rfl)
theorem dX5_greatest_12 : decode cX5_greatest 12 = .ok (.iload_n 1, 1) := dk_27 (dk_at dksX5_greatest_0 12 rfl rfl)
theorem dX5_greatest_13 : decode cX5_greatest 13 = .ok (.invokevirtual 65, 3) := dk_182 0 65 (dk_at dksX5_greatest_0 13 rfl rfl)
theorem dX5_greatest_16 : decode cX5_greatest 16 = .ok (.iconst (-1), 1) := dk_2 (dk_at dksX5_greatest_0 16 rfl rfl)
theorem dX5_greatest_17 : decode cX5_greatest 17 = .ok (.ixor, 1) := dk_130 (dk_at dksX5_greatest_0 17 rfl rfl)
theorem dX5_greatest_18 : decode cX5_greatest 18 = .ok (.iand, 1) := dk_126 (dk_at dksX5_greatest_0 18 rfl rfl)
theorem dX5_greatest_19 : decode cX5_greatest 19 = .ok (.istore 4, 2) := dk_54 4 (dk_at dksX5_greatest_0 19 rfl rfl)
theorem dX5_greatest_21 : decode cX5_greatest 21 = .ok (.iload_n 2, 1) := dk_28 (dk_at dksX5_greatest_0 21 rfl rfl)
theorem dX5_greatest_22 : decode cX5_greatest 22 = .ok (.ifCond .ge 8, 3) := dk_156 0 8 (dk_at dksX5_greatest_1 0 rfl rfl)
theorem dX5_greatest_25 : decode cX5_greatest 25 = .ok (.iload 4, 2) := dk_21 4 (dk_at dksX5_greatest_1 3 rfl rfl)
theorem dX5_greatest_27 : decode cX5_greatest 27 = .ok (.goto 11, 3) := dk_167 0 11 (dk_at dksX5_greatest_1 5 rfl rfl)
theorem dX5_greatest_30 : decode cX5_greatest 30 = .ok (.aload_n 0, 1) := dk_42 (dk_at dksX5_greatest_1 8 rfl rfl)
theorem dX5_greatest_31 : decode cX5_greatest 31 = .ok (.iload_n 2, 1) := dk_28 (dk_at dksX5_greatest_1 9 rfl rfl)
theorem dX5_greatest_32 : decode cX5_greatest 32 = .ok (.invokevirtual 68, 3) := dk_182 0 68 (dk_at dksX5_greatest_1 10 rfl rfl)
theorem dX5_greatest_35 : decode cX5_greatest 35 = .ok (.iload 4, 2) := dk_21 4 (dk_at dksX5_greatest_1 13 rfl rfl)
theorem dX5_greatest_37 : decode cX5_greatest 37 = .ok (.iand, 1) := dk_126 (dk_at dksX5_greatest_1 15 rfl rfl)
theorem dX5_greatest_38 : decode cX5_greatest 38 = .ok (.istore 5, 2) := dk_54 5 (dk_at dksX5_greatest_1 16 rfl rfl)
theorem dX5_greatest_40 : decode cX5_greatest 40 = .ok (.iconst 0, 1) := dk_3 (dk_at dksX5_greatest_1 18 rfl rfl)
theorem dX5_greatest_41 : decode cX5_greatest 41 = .ok (.istore 6, 2) := dk_54 6 (dk_at dksX5_greatest_1 19 rfl rfl)
theorem dX5_greatest_43 : decode cX5_greatest 43 = .ok (.iconst 0, 1) := dk_3 (dk_at dksX5_greatest_1 21 rfl rfl)
theorem dX5_greatest_44 : decode cX5_greatest 44 = .ok (.istore 7, 2) := dk_54 7 (dk_at dksX5_greatest_1 22 rfl rfl)
theorem dX5_greatest_46 : decode cX5_greatest 46 = .ok (.iload 7, 2) := dk_21 7 (dk_at dksX5_greatest_2 0 rfl rfl)
theorem dX5_greatest_48 : decode cX5_greatest 48 = .ok (.bipush 9, 2) := dk_16 9 (dk_at dksX5_greatest_2 2 rfl rfl)
theorem dX5_greatest_50 : decode cX5_greatest 50 = .ok (.if_icmp .ge 73, 3) := dk_162 0 73 (dk_at dksX5_greatest_2 4 rfl rfl)
theorem dX5_greatest_53 : decode cX5_greatest 53 = .ok (.iload 5, 2) := dk_21 5 (dk_at dksX5_greatest_2 7 rfl rfl)
theorem dX5_greatest_55 : decode cX5_greatest 55 = .ok (.iload 7, 2) := dk_21 7 (dk_at dksX5_greatest_2 9 rfl rfl)
theorem dX5_greatest_57 : decode cX5_greatest 57 = .ok (.ishr, 1) := dk_122 (dk_at dksX5_greatest_2 11 rfl rfl)
theorem dX5_greatest_58 : decode cX5_greatest 58 = .ok (.iconst 1, 1) := dk_4 (dk_at dksX5_greatest_2 12 rfl rfl)
theorem dX5_greatest_59 : decode cX5_greatest 59 = .ok (.iand, 1) := dk_126 (dk_at dksX5_greatest_2 13 rfl rfl)
theorem dX5_greatest_60 : decode cX5_greatest 60 = .ok (.iconst 1, 1) := dk_4 (dk_at dksX5_greatest_2 14 rfl rfl)
theorem dX5_greatest_61 : decode cX5_greatest 61 = .ok (.if_icmp .ne 56, 3) := dk_160 0 56 (dk_at dksX5_greatest_2 15 rfl rfl)
theorem dX5_greatest_64 : decode cX5_greatest 64 = .ok (.iload_n 2, 1) := dk_28 (dk_at dksX5_greatest_2 18 rfl rfl)
theorem dX5_greatest_65 : decode cX5_greatest 65 = .ok (.ifCond .ge 8, 3) := dk_156 0 8 (dk_at dksX5_greatest_2 19 rfl rfl)
theorem dX5_greatest_68 : decode cX5_greatest 68 = .ok (.iload 7, 2) := dk_21 7 (dk_at dksX5_greatest_2 22 rfl rfl)
theorem dX5_greatest_70 : decode cX5_greatest 70 = .ok (.goto 13, 3) := dk_167 0 13 (dk_at dksX5_greatest_3 0 rfl rfl)
theorem dX5_greatest_73 : decode cX5_greatest 73 = .ok (.bipush 9, 2) := dk_16 9 (dk_at dksX5_greatest_3 3 rfl rfl)
theorem dX5_greatest_75 : decode cX5_greatest 75 = .ok (.bipush 9, 2) := dk_16 9 (dk_at dksX5_greatest_3 5 rfl rfl)
theorem dX5_greatest_77 : decode cX5_greatest 77 = .ok (.iload_n 2, 1) := dk_28 (dk_at dksX5_greatest_3 7 rfl rfl)
theorem dX5_greatest_78 : decode cX5_greatest 78 = .ok (.imul, 1) := dk_104 (dk_at dksX5_greatest_3 8 rfl rfl)
theorem dX5_greatest_79 : decode cX5_greatest 79 = .ok (.iadd, 1) := dk_96 (dk_at dksX5_greatest_3 9 rfl rfl)
theorem dX5_greatest_80 : decode cX5_greatest 80 = .ok (.iload 7, 2) := dk_21 7 (dk_at dksX5_greatest_3 10 rfl rfl)
theorem dX5_greatest_82 : decode cX5_greatest 82 = .ok (.iadd, 1) := dk_96 (dk_at dksX5_greatest_3 12 rfl rfl)
theorem dX5_greatest_83 : decode cX5_greatest 83 = .ok (.istore 8, 2) := dk_54 8 (dk_at dksX5_greatest_3 13 rfl rfl)
theorem dX5_greatest_85 : decode cX5_greatest 85 = .ok (.iload 6, 2) := dk_21 6 (dk_at dksX5_greatest_3 15 rfl rfl)
theorem dX5_greatest_87 : decode cX5_greatest 87 = .ok (.aload_n 0, 1) := dk_42 (dk_at dksX5_greatest_3 17 rfl rfl)
theorem dX5_greatest_88 : decode cX5_greatest 88 = .ok (.aload_n 0, 1) := dk_42 (dk_at dksX5_greatest_3 18 rfl rfl)
theorem dX5_greatest_89 : decode cX5_greatest 89 = .ok (.iload_n 1, 1) := dk_27 (dk_at dksX5_greatest_3 19 rfl rfl)
theorem dX5_greatest_90 : decode cX5_greatest 90 = .ok (.invokevirtual 62, 3) := dk_182 0 62 (dk_at dksX5_greatest_3 20 rfl rfl)
theorem dX5_greatest_93 : decode cX5_greatest 93 = .ok (.aload_n 0, 1) := dk_42 (dk_at dksX5_greatest_3 23 rfl rfl)
theorem dX5_greatest_94 : decode cX5_greatest 94 = .ok (.iload_n 1, 1) := dk_27 (dk_at dksX5_greatest_4 0 rfl rfl)
theorem dX5_greatest_95 : decode cX5_greatest 95 = .ok (.invokevirtual 65, 3) := dk_182 0 65 (dk_at dksX5_greatest_4 1 rfl rfl)
theorem dX5_greatest_98 : decode cX5_greatest 98 = .ok (.aload_n 0, 1) := dk_42 (dk_at dksX5_greatest_4 4 rfl rfl)
theorem dX5_greatest_99 : decode cX5_greatest 99 = .ok (.iload_n 1, 1) := dk_27 (dk_at dksX5_greatest_4 5 rfl rfl)
theorem dX5_greatest_100 : decode cX5_greatest 100 = .ok (.invokevirtual 71, 3) := dk_182 0 71 (dk_at dksX5_greatest_4 6 rfl rfl)
theorem dX5_greatest_103 : decode cX5_greatest 103 = .ok (.iload 8, 2) := dk_21 8 (dk_at dksX5_greatest_4 9 rfl rfl)
theorem dX5_greatest_105 : decode cX5_greatest 105 = .ok (.invokevirtual 74, 3) := dk_182 0 74 (dk_at dksX5_greatest_4 11 rfl rfl)
theorem dX5_greatest_108 : decode cX5_greatest 108 = .ok (.iload_n 3, 1) := dk_29 (dk_at dksX5_greatest_4 14 rfl rfl)
theorem dX5_greatest_109 : decode cX5_greatest 109 = .ok (.invokestatic 77, 3) := dk_184 0 77 (dk_at dksX5_greatest_4 15 rfl rfl)
theorem dX5_greatest_112 : decode cX5_greatest 112 = .ok (.invokestatic 80, 3) := dk_184 0 80 (dk_at dksX5_greatest_4 18 rfl rfl)
theorem dX5_greatest_115 : decode cX5_greatest 115 = .ok (.istore 6, 2) := dk_54 6 (dk_at dksX5_greatest_4 21 rfl rfl)
theorem dX5_greatest_117 : decode cX5_greatest 117 = .ok (.iinc 7 1, 3) := dk_132 7 1 (dk_at dksX5_greatest_5 0 rfl rfl)
theorem dX5_greatest_120 : decode cX5_greatest 120 = .ok (.goto (-74), 3) := dk_167 255 182 (dk_at dksX5_greatest_5 3 rfl rfl)
theorem dX5_greatest_123 : decode cX5_greatest 123 = .ok (.iload 6, 2) := dk_21 6 (dk_at dksX5_greatest_5 6 rfl rfl)
theorem dX5_greatest_125 : decode cX5_greatest 125 = .ok (.ireturn, 1) := dk_172 (dk_at dksX5_greatest_5 8 rfl rfl)
abbrev cX5_behind : ByteArray := prog_6_method_9_code
def yX5_behind : MethodName := ⟨RX5, "behind", "(IIII)I"⟩
def dkwX5_behind_1 : List UInt8 := [184, 0, 55, 3, 182, 0, 59, 172]
abbrev dktX5_behind_1 : List UInt8 := dkwX5_behind_1 ++ []
def dkwX5_behind_0 : List UInt8 := [29, 154, 0, 18, 42, 27, 21, 4, 184, 0, 55, 28, 4, 182, 0, 59, 167, 0, 15, 42, 27, 28, 21, 4]
abbrev dktX5_behind_0 : List UInt8 := dkwX5_behind_0 ++ dktX5_behind_1
theorem dksX5_behind_0 : cX5_behind.data.toList.drop 0 = dktX5_behind_0 := by decide +kernel
theorem dksX5_behind_1 : cX5_behind.data.toList.drop 24 = dktX5_behind_1 := dk_seg dksX5_behind_0 24 rfl rfl
theorem dX5_behind_0 : decode cX5_behind 0 = .ok (.iload_n 3, 1) := dk_29 (dk_at dksX5_behind_0 0 rfl rfl)
theorem dX5_behind_1 : decode cX5_behind 1 = .ok (.ifCond .ne 18, 3) := dk_154 0 18 (dk_at dksX5_behind_0 1 rfl rfl)
theorem dX5_behind_4 : decode cX5_behind 4 = .ok (.aload_n 0, 1) := dk_42 (dk_at dksX5_behind_0 4 rfl rfl)
theorem dX5_behind_5 : decode cX5_behind 5 = .ok (.iload_n 1, 1) := dk_27 (dk_at dksX5_behind_0 5 rfl rfl)
theorem dX5_behind_6 : decode cX5_behind 6 = .ok (.iload 4, 2) := dk_21 4 (dk_at dksX5_behind_0 6 rfl rfl)
theorem dX5_behind_8 : decode cX5_behind 8 = .ok (.invokestatic 55, 3) := dk_184 0 55 (dk_at dksX5_behind_0 8 rfl rfl)
theorem dX5_behind_11 : decode cX5_behind 11 = .ok (.iload_n 2, 1) := dk_28 (dk_at dksX5_behind_0 11 rfl rfl)
theorem dX5_behind_12 : decode cX5_behind 12 = .ok (.iconst 1, 1) := dk_4 (dk_at dksX5_behind_0 12 rfl rfl)
theorem dX5_behind_13 : decode cX5_behind 13 = .ok (.invokevirtual 59, 3) := dk_182 0 59 (dk_at dksX5_behind_0 13 rfl rfl)
theorem dX5_behind_16 : decode cX5_behind 16 = .ok (.goto 15, 3) := dk_167 0 15 (dk_at dksX5_behind_0 16 rfl rfl)
theorem dX5_behind_19 : decode cX5_behind 19 = .ok (.aload_n 0, 1) := dk_42 (dk_at dksX5_behind_0 19 rfl rfl)
theorem dX5_behind_20 : decode cX5_behind 20 = .ok (.iload_n 1, 1) := dk_27 (dk_at dksX5_behind_0 20 rfl rfl)
theorem dX5_behind_21 : decode cX5_behind 21 = .ok (.iload_n 2, 1) := dk_28 (dk_at dksX5_behind_0 21 rfl rfl)
theorem dX5_behind_22 : decode cX5_behind 22 = .ok (.iload 4, 2) := dk_21 4 (dk_at dksX5_behind_0 22 rfl rfl)
theorem dX5_behind_24 : decode cX5_behind 24 = .ok (.invokestatic 55, 3) := dk_184 0 55 (dk_at dksX5_behind_1 0 rfl rfl)
theorem dX5_behind_27 : decode cX5_behind 27 = .ok (.iconst 0, 1) := dk_3 (dk_at dksX5_behind_1 3 rfl rfl)
theorem dX5_behind_28 : decode cX5_behind 28 = .ok (.invokevirtual 59, 3) := dk_182 0 59 (dk_at dksX5_behind_1 4 rfl rfl)
theorem dX5_behind_31 : decode cX5_behind 31 = .ok (.ireturn, 1) := dk_172 (dk_at dksX5_behind_1 7 rfl rfl)
abbrev cX5_rank : ByteArray := prog_6_method_11_code
def yX5_rank : MethodName := ⟨RX5, "rank", "(II)I"⟩
def dkwX5_rank_1 : List UInt8 := [172]
abbrev dktX5_rank_1 : List UInt8 := dkwX5_rank_1 ++ []
def dkwX5_rank_0 : List UInt8 := [26, 27, 116, 160, 0, 7, 5, 167, 0, 17, 26, 158, 0, 12, 26, 27, 162, 0, 7, 3, 167, 0, 4, 4]
abbrev dktX5_rank_0 : List UInt8 := dkwX5_rank_0 ++ dktX5_rank_1
theorem dksX5_rank_0 : cX5_rank.data.toList.drop 0 = dktX5_rank_0 := by decide +kernel
theorem dksX5_rank_1 : cX5_rank.data.toList.drop 24 = dktX5_rank_1 := dk_seg dksX5_rank_0 24 rfl rfl
theorem dX5_rank_0 : decode cX5_rank 0 = .ok (.iload_n 0, 1) := dk_26 (dk_at dksX5_rank_0 0 rfl rfl)
theorem dX5_rank_1 : decode cX5_rank 1 = .ok (.iload_n 1, 1) := dk_27 (dk_at dksX5_rank_0 1 rfl rfl)
theorem dX5_rank_2 : decode cX5_rank 2 = .ok (.ineg, 1) := dk_116 (dk_at dksX5_rank_0 2 rfl rfl)
theorem dX5_rank_3 : decode cX5_rank 3 = .ok (.if_icmp .ne 7, 3) := dk_160 0 7 (dk_at dksX5_rank_0 3 rfl rfl)
theorem dX5_rank_6 : decode cX5_rank 6 = .ok (.iconst 2, 1) := dk_5 (dk_at dksX5_rank_0 6 rfl rfl)
theorem dX5_rank_7 : decode cX5_rank 7 = .ok (.goto 17, 3) := dk_167 0 17 (dk_at dksX5_rank_0 7 rfl rfl)
theorem dX5_rank_10 : decode cX5_rank 10 = .ok (.iload_n 0, 1) := dk_26 (dk_at dksX5_rank_0 10 rfl rfl)
theorem dX5_rank_11 : decode cX5_rank 11 = .ok (.ifCond .le 12, 3) := dk_158 0 12 (dk_at dksX5_rank_0 11 rfl rfl)
theorem dX5_rank_14 : decode cX5_rank 14 = .ok (.iload_n 0, 1) := dk_26 (dk_at dksX5_rank_0 14 rfl rfl)
theorem dX5_rank_15 : decode cX5_rank 15 = .ok (.iload_n 1, 1) := dk_27 (dk_at dksX5_rank_0 15 rfl rfl)
theorem dX5_rank_16 : decode cX5_rank 16 = .ok (.if_icmp .ge 7, 3) := dk_162 0 7 (dk_at dksX5_rank_0 16 rfl rfl)
theorem dX5_rank_19 : decode cX5_rank 19 = .ok (.iconst 0, 1) := dk_3 (dk_at dksX5_rank_0 19 rfl rfl)
theorem dX5_rank_20 : decode cX5_rank 20 = .ok (.goto 4, 3) := dk_167 0 4 (dk_at dksX5_rank_0 20 rfl rfl)
theorem dX5_rank_23 : decode cX5_rank 23 = .ok (.iconst 1, 1) := dk_4 (dk_at dksX5_rank_0 23 rfl rfl)
theorem dX5_rank_24 : decode cX5_rank 24 = .ok (.ireturn, 1) := dk_172 (dk_at dksX5_rank_1 0 rfl rfl)
abbrev cX5_worthAt : ByteArray := prog_6_method_14_code
def yX5_worthAt : MethodName := ⟨RX5, "worthAt", "(I)I"⟩
def dkwX5_worthAt_0 : List UInt8 := [42, 42, 27, 182, 0, 62, 42, 27, 182, 0, 65, 42, 27, 182, 0, 71, 182, 0, 59, 172]
abbrev dktX5_worthAt_0 : List UInt8 := dkwX5_worthAt_0 ++ []
theorem dksX5_worthAt_0 : cX5_worthAt.data.toList.drop 0 = dktX5_worthAt_0 := by decide +kernel
theorem dX5_worthAt_0 : decode cX5_worthAt 0 = .ok (.aload_n 0, 1) := dk_42 (dk_at dksX5_worthAt_0 0 rfl rfl)
theorem dX5_worthAt_1 : decode cX5_worthAt 1 = .ok (.aload_n 0, 1) := dk_42 (dk_at dksX5_worthAt_0 1 rfl rfl)
theorem dX5_worthAt_2 : decode cX5_worthAt 2 = .ok (.iload_n 1, 1) := dk_27 (dk_at dksX5_worthAt_0 2 rfl rfl)
theorem dX5_worthAt_3 : decode cX5_worthAt 3 = .ok (.invokevirtual 62, 3) := dk_182 0 62 (dk_at dksX5_worthAt_0 3 rfl rfl)
theorem dX5_worthAt_6 : decode cX5_worthAt 6 = .ok (.aload_n 0, 1) := dk_42 (dk_at dksX5_worthAt_0 6 rfl rfl)
theorem dX5_worthAt_7 : decode cX5_worthAt 7 = .ok (.iload_n 1, 1) := dk_27 (dk_at dksX5_worthAt_0 7 rfl rfl)
theorem dX5_worthAt_8 : decode cX5_worthAt 8 = .ok (.invokevirtual 65, 3) := dk_182 0 65 (dk_at dksX5_worthAt_0 8 rfl rfl)
theorem dX5_worthAt_11 : decode cX5_worthAt 11 = .ok (.aload_n 0, 1) := dk_42 (dk_at dksX5_worthAt_0 11 rfl rfl)
theorem dX5_worthAt_12 : decode cX5_worthAt 12 = .ok (.iload_n 1, 1) := dk_27 (dk_at dksX5_worthAt_0 12 rfl rfl)
theorem dX5_worthAt_13 : decode cX5_worthAt 13 = .ok (.invokevirtual 71, 3) := dk_182 0 71 (dk_at dksX5_worthAt_0 13 rfl rfl)
theorem dX5_worthAt_16 : decode cX5_worthAt 16 = .ok (.invokevirtual 59, 3) := dk_182 0 59 (dk_at dksX5_worthAt_0 16 rfl rfl)
theorem dX5_worthAt_19 : decode cX5_worthAt 19 = .ok (.ireturn, 1) := dk_172 (dk_at dksX5_worthAt_0 19 rfl rfl)
theorem q88 : (Jvm.Cond.initialized "MorrisTables$Table") ∈ lw_all := lw_g (lw_at lw_m1 19 rfl) rfl
theorem q177 : (Jvm.Cond.selects "MorrisTables$Table" ({ cls := "java/lang/Object", name := "getClass", desc := "()Ljava/lang/Class;" } : Jvm.MethodName) ({ cls := "java/lang/Object", name := "getClass", desc := "()Ljava/lang/Class;" } : Jvm.MethodName)) ∈ lw_all := lw_g (lw_at lw_m1 108 rfl) rfl
theorem q396 : (Jvm.Cond.instantiable "MorrisTables$Table" (7 : Nat)) ∈ lw_all := lw_g (lw_at lw_m2 87 rfl) rfl
theorem q398 : (Jvm.Cond.instanceMethod ({ cls := "MorrisTables$Table", name := "<init>", desc := "(II)V" } : Jvm.MethodName)) ∈ lw_all := lw_g (lw_at lw_m2 89 rfl) rfl
theorem q399 : (Jvm.Cond.code ({ cls := "MorrisTables$Table", name := "<init>", desc := "(II)V" } : Jvm.MethodName) prog_6_method_1_code (5 : Nat) (Option.none : Option Jvm.ClassFile.FieldType)) ∈ lw_all := lw_g (lw_at lw_m2 90 rfl) rfl
theorem q400 : (Jvm.Cond.methodLink "MorrisTables$Table" (3 : Nat) ({ cls := "MorrisTables$Rules", name := "<init>", desc := "(II)V" } : Jvm.MethodName)) ∈ lw_all := lw_g (lw_at lw_m2 91 rfl) rfl
theorem q417 : (Jvm.Cond.constant "MorrisTables$Table" (15 : Nat) (39366 : Int32)) ∈ lw_all := lw_g (lw_at lw_m2 108 rfl) rfl
theorem q418 : (Jvm.Cond.methodLink "MorrisTables$Table" (22 : Nat) ({ cls := "MorrisTables$Table", name := "findLegal", desc := "()V" } : Jvm.MethodName)) ∈ lw_all := lw_g (lw_at lw_m2 109 rfl) rfl
theorem q419 : (Jvm.Cond.privateMethod ({ cls := "MorrisTables$Table", name := "findLegal", desc := "()V" } : Jvm.MethodName)) ∈ lw_tbl := lw_at lw_m2 110 rfl
theorem q420 : (Jvm.Cond.instanceMethod ({ cls := "MorrisTables$Table", name := "findLegal", desc := "()V" } : Jvm.MethodName)) ∈ lw_all := lw_g (lw_at lw_m2 111 rfl) rfl
theorem q421 : (Jvm.Cond.code ({ cls := "MorrisTables$Table", name := "findLegal", desc := "()V" } : Jvm.MethodName) prog_6_method_5_code (3 : Nat) (Option.none : Option Jvm.ClassFile.FieldType)) ∈ lw_all := lw_g (lw_at lw_m2 112 rfl) rfl
theorem q422 : (Jvm.Cond.methodLink "MorrisTables$Table" (46 : Nat) ({ cls := "java/lang/Integer", name := "bitCount", desc := "(I)I" } : Jvm.MethodName)) ∈ lw_all := lw_g (lw_at lw_m2 113 rfl) rfl
theorem q428 : (Jvm.Cond.methodLink "MorrisTables$Table" (51 : Nat) ({ cls := "MorrisTables$Table", name := "add", desc := "(III)V" } : Jvm.MethodName)) ∈ lw_all := lw_g (lw_at lw_m2 119 rfl) rfl
theorem q429 : (Jvm.Cond.privateMethod ({ cls := "MorrisTables$Table", name := "add", desc := "(III)V" } : Jvm.MethodName)) ∈ lw_tbl := lw_at lw_m2 120 rfl
theorem q430 : (Jvm.Cond.instanceMethod ({ cls := "MorrisTables$Table", name := "add", desc := "(III)V" } : Jvm.MethodName)) ∈ lw_all := lw_g (lw_at lw_m2 121 rfl) rfl
theorem q431 : (Jvm.Cond.code ({ cls := "MorrisTables$Table", name := "add", desc := "(III)V" } : Jvm.MethodName) prog_6_method_4_code (5 : Nat) (Option.none : Option Jvm.ClassFile.FieldType)) ∈ lw_all := lw_g (lw_at lw_m2 122 rfl) rfl
theorem q432 : (Jvm.Cond.methodLink "MorrisTables$Table" (34 : Nat) ({ cls := "MorrisTables$Table", name := "isLegal", desc := "(III)Z" } : Jvm.MethodName)) ∈ lw_all := lw_g (lw_at lw_m2 123 rfl) rfl
theorem q433 : (Jvm.Cond.sameMethod "MorrisTables$Table" "MorrisTables$Rules" "isLegal" "(III)Z") ∈ lw_all := lw_g (lw_at lw_m2 124 rfl) rfl
theorem q435 : (Jvm.Cond.selects "MorrisTables$Table" ({ cls := "MorrisTables$Table", name := "isLegal", desc := "(III)Z" } : Jvm.MethodName) ({ cls := "MorrisTables$Rules", name := "isLegal", desc := "(III)Z" } : Jvm.MethodName)) ∈ lw_all := lw_g (lw_at lw_m2 126 rfl) rfl
theorem q442 : (Jvm.Cond.selects "MorrisTables$Table" ({ cls := "MorrisTables$Rules", name := "hasLine", desc := "(I)Z" } : Jvm.MethodName) ({ cls := "MorrisTables$Rules", name := "hasLine", desc := "(I)Z" } : Jvm.MethodName)) ∈ lw_all := lw_g (lw_at lw_m2 133 rfl) rfl
theorem q444 : (Jvm.Cond.methodLink "MorrisTables$Table" (42 : Nat) ({ cls := "MorrisTables$Table", name := "hasLost", desc := "(II)Z" } : Jvm.MethodName)) ∈ lw_all := lw_g (lw_at lw_m2 135 rfl) rfl
theorem q445 : (Jvm.Cond.sameMethod "MorrisTables$Table" "MorrisTables$Rules" "hasLost" "(II)Z") ∈ lw_all := lw_g (lw_at lw_m2 136 rfl) rfl
theorem q447 : (Jvm.Cond.selects "MorrisTables$Table" ({ cls := "MorrisTables$Table", name := "hasLost", desc := "(II)Z" } : Jvm.MethodName) ({ cls := "MorrisTables$Rules", name := "hasLost", desc := "(II)Z" } : Jvm.MethodName)) ∈ lw_all := lw_g (lw_at lw_m2 138 rfl) rfl
theorem q453 : (Jvm.Cond.selects "MorrisTables$Table" ({ cls := "MorrisTables$Rules", name := "isLocked", desc := "(II)Z" } : Jvm.MethodName) ({ cls := "MorrisTables$Rules", name := "isLocked", desc := "(II)Z" } : Jvm.MethodName)) ∈ lw_all := lw_g (lw_at lw_m2 144 rfl) rfl
theorem q455 : (Jvm.Cond.methodLink "MorrisTables$Table" (30 : Nat) ({ cls := "MorrisTables$Table", name := "indexOf", desc := "(III)I" } : Jvm.MethodName)) ∈ lw_all := lw_g (lw_at lw_m2 146 rfl) rfl
theorem q456 : (Jvm.Cond.privateMethod ({ cls := "MorrisTables$Table", name := "indexOf", desc := "(III)I" } : Jvm.MethodName)) ∈ lw_tbl := lw_at lw_m2 147 rfl
theorem q457 : (Jvm.Cond.instanceMethod ({ cls := "MorrisTables$Table", name := "indexOf", desc := "(III)I" } : Jvm.MethodName)) ∈ lw_all := lw_g (lw_at lw_m2 148 rfl) rfl
theorem q458 : (Jvm.Cond.code ({ cls := "MorrisTables$Table", name := "indexOf", desc := "(III)I" } : Jvm.MethodName) prog_6_method_2_code (4 : Nat) (Option.some Jvm.ClassFile.FieldType.int)) ∈ lw_all := lw_g (lw_at lw_m2 149 rfl) rfl
theorem q459 : (Jvm.Cond.methodLink "MorrisTables$Table" (26 : Nat) ({ cls := "MorrisTables$Table", name := "level", desc := "(I)I" } : Jvm.MethodName)) ∈ lw_all := lw_g (lw_at lw_m2 150 rfl) rfl
theorem q460 : (Jvm.Cond.privateMethod ({ cls := "MorrisTables$Table", name := "level", desc := "(I)I" } : Jvm.MethodName)) ∈ lw_tbl := lw_at lw_m2 151 rfl
theorem q461 : (Jvm.Cond.instanceMethod ({ cls := "MorrisTables$Table", name := "level", desc := "(I)I" } : Jvm.MethodName)) ∈ lw_all := lw_g (lw_at lw_m2 152 rfl) rfl
theorem q462 : (Jvm.Cond.code ({ cls := "MorrisTables$Table", name := "level", desc := "(I)I" } : Jvm.MethodName) prog_6_method_13_code (5 : Nat) (Option.some Jvm.ClassFile.FieldType.int)) ∈ lw_all := lw_g (lw_at lw_m2 153 rfl) rfl
theorem q463 : (Jvm.Cond.methodLink "MorrisTables$Table" (62 : Nat) ({ cls := "MorrisTables$Table", name := "first", desc := "(I)I" } : Jvm.MethodName)) ∈ lw_all := lw_g (lw_at lw_m2 154 rfl) rfl
theorem q464 : (Jvm.Cond.instanceMethod ({ cls := "MorrisTables$Table", name := "first", desc := "(I)I" } : Jvm.MethodName)) ∈ lw_all := lw_g (lw_at lw_m2 155 rfl) rfl
theorem q465 : (Jvm.Cond.selects "MorrisTables$Table" ({ cls := "MorrisTables$Table", name := "first", desc := "(I)I" } : Jvm.MethodName) ({ cls := "MorrisTables$Table", name := "first", desc := "(I)I" } : Jvm.MethodName)) ∈ lw_all := lw_g (lw_at lw_m2 156 rfl) rfl
theorem q466 : (Jvm.Cond.code ({ cls := "MorrisTables$Table", name := "first", desc := "(I)I" } : Jvm.MethodName) prog_6_method_6_code (2 : Nat) (Option.some Jvm.ClassFile.FieldType.int)) ∈ lw_all := lw_g (lw_at lw_m2 157 rfl) rfl
theorem q467 : (Jvm.Cond.methodLink "MorrisTables$Table" (65 : Nat) ({ cls := "MorrisTables$Table", name := "second", desc := "(I)I" } : Jvm.MethodName)) ∈ lw_all := lw_g (lw_at lw_m2 158 rfl) rfl
theorem q468 : (Jvm.Cond.instanceMethod ({ cls := "MorrisTables$Table", name := "second", desc := "(I)I" } : Jvm.MethodName)) ∈ lw_all := lw_g (lw_at lw_m2 159 rfl) rfl
theorem q469 : (Jvm.Cond.selects "MorrisTables$Table" ({ cls := "MorrisTables$Table", name := "second", desc := "(I)I" } : Jvm.MethodName) ({ cls := "MorrisTables$Table", name := "second", desc := "(I)I" } : Jvm.MethodName)) ∈ lw_all := lw_g (lw_at lw_m2 160 rfl) rfl
theorem q470 : (Jvm.Cond.code ({ cls := "MorrisTables$Table", name := "second", desc := "(I)I" } : Jvm.MethodName) prog_6_method_7_code (2 : Nat) (Option.some Jvm.ClassFile.FieldType.int)) ∈ lw_all := lw_g (lw_at lw_m2 161 rfl) rfl
theorem q471 : (Jvm.Cond.methodLink "MorrisTables$Table" (71 : Nat) ({ cls := "MorrisTables$Table", name := "mover", desc := "(I)I" } : Jvm.MethodName)) ∈ lw_all := lw_g (lw_at lw_m2 162 rfl) rfl
theorem q472 : (Jvm.Cond.instanceMethod ({ cls := "MorrisTables$Table", name := "mover", desc := "(I)I" } : Jvm.MethodName)) ∈ lw_all := lw_g (lw_at lw_m2 163 rfl) rfl
theorem q473 : (Jvm.Cond.selects "MorrisTables$Table" ({ cls := "MorrisTables$Table", name := "mover", desc := "(I)I" } : Jvm.MethodName) ({ cls := "MorrisTables$Table", name := "mover", desc := "(I)I" } : Jvm.MethodName)) ∈ lw_all := lw_g (lw_at lw_m2 164 rfl) rfl
theorem q474 : (Jvm.Cond.code ({ cls := "MorrisTables$Table", name := "mover", desc := "(I)I" } : Jvm.MethodName) prog_6_method_8_code (2 : Nat) (Option.some Jvm.ClassFile.FieldType.int)) ∈ lw_all := lw_g (lw_at lw_m2 165 rfl) rfl
theorem q475 : (Jvm.Cond.methodLink "MorrisTables$Table" (59 : Nat) ({ cls := "MorrisTables$Table", name := "worth", desc := "(III)I" } : Jvm.MethodName)) ∈ lw_all := lw_g (lw_at lw_m2 166 rfl) rfl
theorem q476 : (Jvm.Cond.instanceMethod ({ cls := "MorrisTables$Table", name := "worth", desc := "(III)I" } : Jvm.MethodName)) ∈ lw_all := lw_g (lw_at lw_m2 167 rfl) rfl
theorem q477 : (Jvm.Cond.selects "MorrisTables$Table" ({ cls := "MorrisTables$Table", name := "worth", desc := "(III)I" } : Jvm.MethodName) ({ cls := "MorrisTables$Table", name := "worth", desc := "(III)I" } : Jvm.MethodName)) ∈ lw_all := lw_g (lw_at lw_m2 168 rfl) rfl
theorem q478 : (Jvm.Cond.code ({ cls := "MorrisTables$Table", name := "worth", desc := "(III)I" } : Jvm.MethodName) prog_6_method_3_code (4 : Nat) (Option.some Jvm.ClassFile.FieldType.int)) ∈ lw_all := lw_g (lw_at lw_m2 169 rfl) rfl
theorem q479 : (Jvm.Cond.methodLink "MorrisTables$Table" (91 : Nat) ({ cls := "MorrisTables$Table", name := "judge", desc := "(II)I" } : Jvm.MethodName)) ∈ lw_all := lw_g (lw_at lw_m2 170 rfl) rfl
theorem q480 : (Jvm.Cond.privateMethod ({ cls := "MorrisTables$Table", name := "judge", desc := "(II)I" } : Jvm.MethodName)) ∈ lw_tbl := lw_at lw_m2 171 rfl
theorem q481 : (Jvm.Cond.instanceMethod ({ cls := "MorrisTables$Table", name := "judge", desc := "(II)I" } : Jvm.MethodName)) ∈ lw_all := lw_g (lw_at lw_m2 172 rfl) rfl
theorem q482 : (Jvm.Cond.code ({ cls := "MorrisTables$Table", name := "judge", desc := "(II)I" } : Jvm.MethodName) prog_6_method_12_code (7 : Nat) (Option.some Jvm.ClassFile.FieldType.int)) ∈ lw_all := lw_g (lw_at lw_m2 173 rfl) rfl
theorem q483 : (Jvm.Cond.methodLink "MorrisTables$Table" (85 : Nat) ({ cls := "MorrisTables$Table", name := "greatest", desc := "(III)I" } : Jvm.MethodName)) ∈ lw_all := lw_g (lw_at lw_m2 174 rfl) rfl
theorem q484 : (Jvm.Cond.privateMethod ({ cls := "MorrisTables$Table", name := "greatest", desc := "(III)I" } : Jvm.MethodName)) ∈ lw_tbl := lw_at lw_m2 175 rfl
theorem q485 : (Jvm.Cond.instanceMethod ({ cls := "MorrisTables$Table", name := "greatest", desc := "(III)I" } : Jvm.MethodName)) ∈ lw_all := lw_g (lw_at lw_m2 176 rfl) rfl
theorem q486 : (Jvm.Cond.code ({ cls := "MorrisTables$Table", name := "greatest", desc := "(III)I" } : Jvm.MethodName) prog_6_method_10_code (9 : Nat) (Option.some Jvm.ClassFile.FieldType.int)) ∈ lw_all := lw_g (lw_at lw_m2 177 rfl) rfl
theorem q487 : (Jvm.Cond.methodLink "MorrisTables$Table" (68 : Nat) ({ cls := "MorrisTables$Table", name := "next", desc := "(I)I" } : Jvm.MethodName)) ∈ lw_all := lw_g (lw_at lw_m2 178 rfl) rfl
theorem q488 : (Jvm.Cond.sameMethod "MorrisTables$Table" "MorrisTables$Rules" "next" "(I)I") ∈ lw_all := lw_g (lw_at lw_m2 179 rfl) rfl
theorem q490 : (Jvm.Cond.selects "MorrisTables$Table" ({ cls := "MorrisTables$Table", name := "next", desc := "(I)I" } : Jvm.MethodName) ({ cls := "MorrisTables$Rules", name := "next", desc := "(I)I" } : Jvm.MethodName)) ∈ lw_all := lw_g (lw_at lw_m2 181 rfl) rfl
theorem q493 : (Jvm.Cond.methodLink "MorrisTables$Table" (74 : Nat) ({ cls := "MorrisTables$Table", name := "behind", desc := "(IIII)I" } : Jvm.MethodName)) ∈ lw_all := lw_g (lw_at lw_m2 184 rfl) rfl
theorem q494 : (Jvm.Cond.instanceMethod ({ cls := "MorrisTables$Table", name := "behind", desc := "(IIII)I" } : Jvm.MethodName)) ∈ lw_all := lw_g (lw_at lw_m2 185 rfl) rfl
theorem q495 : (Jvm.Cond.selects "MorrisTables$Table" ({ cls := "MorrisTables$Table", name := "behind", desc := "(IIII)I" } : Jvm.MethodName) ({ cls := "MorrisTables$Table", name := "behind", desc := "(IIII)I" } : Jvm.MethodName)) ∈ lw_all := lw_g (lw_at lw_m2 186 rfl) rfl
theorem q496 : (Jvm.Cond.code ({ cls := "MorrisTables$Table", name := "behind", desc := "(IIII)I" } : Jvm.MethodName) prog_6_method_9_code (5 : Nat) (Option.some Jvm.ClassFile.FieldType.int)) ∈ lw_all := lw_g (lw_at lw_m2 187 rfl) rfl
theorem q497 : (Jvm.Cond.methodLink "MorrisTables$Table" (55 : Nat) ({ cls := "MorrisTables$Table", name := "behind", desc := "(II)I" } : Jvm.MethodName)) ∈ lw_all := lw_g (lw_at lw_m2 188 rfl) rfl
theorem q498 : (Jvm.Cond.sameMethod "MorrisTables$Table" "MorrisTables$Rules" "behind" "(II)I") ∈ lw_all := lw_g (lw_at lw_m2 189 rfl) rfl
theorem q501 : (Jvm.Cond.methodLink "MorrisTables$Table" (77 : Nat) ({ cls := "MorrisTables$Table", name := "rank", desc := "(II)I" } : Jvm.MethodName)) ∈ lw_all := lw_g (lw_at lw_m2 192 rfl) rfl
theorem q502 : (Jvm.Cond.static ({ cls := "MorrisTables$Table", name := "rank", desc := "(II)I" } : Jvm.MethodName)) ∈ lw_all := lw_g (lw_at lw_m2 193 rfl) rfl
theorem q503 : (Jvm.Cond.code ({ cls := "MorrisTables$Table", name := "rank", desc := "(II)I" } : Jvm.MethodName) prog_6_method_11_code (2 : Nat) (Option.some Jvm.ClassFile.FieldType.int)) ∈ lw_all := lw_g (lw_at lw_m2 194 rfl) rfl
theorem q504 : (Jvm.Cond.methodLink "MorrisTables$Table" (80 : Nat) ({ cls := "java/lang/Math", name := "max", desc := "(II)I" } : Jvm.MethodName)) ∈ lw_all := lw_g (lw_at lw_m2 195 rfl) rfl
theorem q505 : (Jvm.Cond.methodLink "MorrisTables$Table" (88 : Nat) ({ cls := "MorrisTables$Table", name := "isLocked", desc := "(II)Z" } : Jvm.MethodName)) ∈ lw_all := lw_g (lw_at lw_m2 196 rfl) rfl
theorem q506 : (Jvm.Cond.sameMethod "MorrisTables$Table" "MorrisTables$Rules" "isLocked" "(II)Z") ∈ lw_all := lw_g (lw_at lw_m2 197 rfl) rfl
theorem q508 : (Jvm.Cond.selects "MorrisTables$Table" ({ cls := "MorrisTables$Table", name := "isLocked", desc := "(II)Z" } : Jvm.MethodName) ({ cls := "MorrisTables$Rules", name := "isLocked", desc := "(II)Z" } : Jvm.MethodName)) ∈ lw_all := lw_g (lw_at lw_m2 199 rfl) rfl
theorem q509 : (Jvm.Cond.fieldLink "MorrisTables$Table" (9 : Nat) "MorrisTables$Table" "codes" "[I") ∈ lw_all := lw_g (lw_at lw_m2 200 rfl) rfl
theorem q510 : (Jvm.Cond.fieldLink "MorrisTables$Table" (16 : Nat) "MorrisTables$Table" "worths" "[I") ∈ lw_all := lw_g (lw_at lw_m2 201 rfl) rfl
theorem q511 : (Jvm.Cond.fieldLink "MorrisTables$Table" (19 : Nat) "MorrisTables$Table" "legal" "[I") ∈ lw_all := lw_g (lw_at lw_m2 202 rfl) rfl
theorem q512 : (Jvm.Cond.fieldLink "MorrisTables$Table" (38 : Nat) "MorrisTables$Table" "many" "I") ∈ lw_all := lw_g (lw_at lw_m2 203 rfl) rfl
theorem q517 : (Jvm.Cond.laysFinal "MorrisTables$Table" "MorrisTables$Table" "codes" "[I") ∈ lw_all := lw_g (lw_at lw_m2 208 rfl) rfl
theorem q518 : (Jvm.Cond.soleField "MorrisTables$Table" "codes") ∈ lw_all := lw_g (lw_at lw_m2 209 rfl) rfl
theorem q519 : (Jvm.Cond.laysFinal "MorrisTables$Table" "MorrisTables$Table" "worths" "[I") ∈ lw_all := lw_g (lw_at lw_m2 210 rfl) rfl
theorem q520 : (Jvm.Cond.soleField "MorrisTables$Table" "worths") ∈ lw_all := lw_g (lw_at lw_m2 211 rfl) rfl
theorem q521 : (Jvm.Cond.laysFinal "MorrisTables$Table" "MorrisTables$Table" "legal" "[I") ∈ lw_all := lw_g (lw_at lw_m2 212 rfl) rfl
theorem q522 : (Jvm.Cond.soleField "MorrisTables$Table" "legal") ∈ lw_all := lw_g (lw_at lw_m2 213 rfl) rfl
theorem q523 : (Jvm.Cond.lays "MorrisTables$Table" "MorrisTables$Table" "many" "I") ∈ lw_all := lw_g (lw_at lw_m2 214 rfl) rfl
theorem q524 : (Jvm.Cond.soleField "MorrisTables$Table" "many") ∈ lw_all := lw_g (lw_at lw_m2 215 rfl) rfl
theorem q525 : (Jvm.Cond.laysFinal "MorrisTables$Table" "MorrisTables$Rules" "lines" "I") ∈ lw_all := lw_g (lw_at lw_m2 216 rfl) rfl
theorem q527 : (Jvm.Cond.laysFinal "MorrisTables$Table" "MorrisTables$Rules" "lockLoses" "Z") ∈ lw_all := lw_g (lw_at lw_m2 218 rfl) rfl
theorem q529 : (Jvm.Cond.laysFinal "MorrisTables$Table" "MorrisTables$Rules" "next" "[I") ∈ lw_all := lw_g (lw_at lw_m2 220 rfl) rfl
theorem q531 : (Jvm.Cond.superclass "MorrisTables$Table" "MorrisTables$Rules") ∈ lw_all := lw_g (lw_at lw_m2 222 rfl) rfl
theorem q563 : (Jvm.Cond.sameMethod "MorrisTables$Table" "MorrisTables$Rules" "isMove" "(III)Z") ∈ lw_all := lw_g (lw_at lw_m3 14 rfl) rfl
theorem q565 : (Jvm.Cond.selects "MorrisTables$Table" ({ cls := "MorrisTables$Table", name := "isMove", desc := "(III)Z" } : Jvm.MethodName) ({ cls := "MorrisTables$Rules", name := "isMove", desc := "(III)Z" } : Jvm.MethodName)) ∈ lw_all := lw_g (lw_at lw_m3 16 rfl) rfl
theorem q573 : (Jvm.Cond.selects "MorrisTables$Table" ({ cls := "MorrisTables$Rules", name := "isPlain", desc := "(III)Z" } : Jvm.MethodName) ({ cls := "MorrisTables$Rules", name := "isPlain", desc := "(III)Z" } : Jvm.MethodName)) ∈ lw_all := lw_g (lw_at lw_m3 24 rfl) rfl
theorem q674 : (Jvm.Cond.instanceMethod ({ cls := "MorrisTables$Table", name := "worthAt", desc := "(I)I" } : Jvm.MethodName)) ∈ lw_all := lw_g (lw_at lw_m3 125 rfl) rfl
theorem q675 : (Jvm.Cond.selects "MorrisTables$Table" ({ cls := "MorrisTables$Table", name := "worthAt", desc := "(I)I" } : Jvm.MethodName) ({ cls := "MorrisTables$Table", name := "worthAt", desc := "(I)I" } : Jvm.MethodName)) ∈ lw_all := lw_g (lw_at lw_m3 126 rfl) rfl
theorem q676 : (Jvm.Cond.code ({ cls := "MorrisTables$Table", name := "worthAt", desc := "(I)I" } : Jvm.MethodName) prog_6_method_14_code (2 : Nat) (Option.some Jvm.ClassFile.FieldType.int)) ∈ lw_all := lw_g (lw_at lw_m3 127 rfl) rfl
theorem q1273 : (Jvm.Cond.selects "MorrisTables$Table" ({ cls := "MorrisTables$Rules", name := "hasLost", desc := "(II)Z" } : Jvm.MethodName) ({ cls := "MorrisTables$Rules", name := "hasLost", desc := "(II)Z" } : Jvm.MethodName)) ∈ lw_all := lw_g (lw_at lw_m6 4 rfl) rfl
theorem q1282 : (Jvm.Cond.castable "MorrisTables$Table" "MorrisTables$Rules") ∈ lw_tbl := lw_at lw_m6 13 rfl
theorem q1289 : (Jvm.Cond.castable "MorrisTables$Table" "java/lang/Object") ∈ lw_tbl := lw_at lw_m6 20 rfl
theorem in_X5 : ∀ w ∈ wsX50, w ∈ lw_all := lw_in wsX50 [525, 527, 529, 517, 519, 521, 523] (by decide +kernel) (by decide +kernel)
end

section
/-! MorrisTables$Reader -/
set_option maxRecDepth 100000
def RX6 : String := "MorrisTables$Reader"
def TX6 : u_T := fun k => match k with
  | 0 => ("MorrisTables$Reader", "orders", "Ljava/util/List;", true)
  | 1 => ("MorrisTables$Reader", "spot", "I", false)
  | 2 => ("MorrisTables$Reader", "isWrong", "Z", false)
  | _ => ("MorrisTables$Reader", "this$0", "LMorrisTables;", true)
def tyX6 : Nat → FieldType := fun k => match k with
  | 0 => .object "java/util/List"
  | 1 => .int
  | 2 => .boolean
  | _ => .object "MorrisTables"
abbrev wsX60 : List Cond := u_ws RX6 TX6 4
theorem nmX6 : ∀ a, a < 4 → ∀ b, b < 4 → a ≠ b → (TX6 a).2.1 ≠ (TX6 b).2.1 := by decide +kernel
theorem tyX6_ok : ∀ k, k < 4 → parseFieldDescriptor (TX6 k).2.2.1 = some (tyX6 k) := by decide +kernel
abbrev cX6_init : ByteArray := prog_3_method_1_code
def yX6_init : MethodName := ⟨RX6, "<init>", "(LMorrisTables;)V"⟩
def dkwX6_init_2 : List UInt8 := [182, 0, 43, 42, 182, 0, 20, 167, 255, 225, 177]
abbrev dktX6_init_2 : List UInt8 := dkwX6_init_2 ++ []
def dkwX6_init_1 : List UInt8 := [42, 180, 0, 23, 154, 0, 30, 42, 180, 0, 27, 43, 180, 0, 31, 182, 0, 37, 162, 0, 16, 42, 16, 59]
abbrev dktX6_init_1 : List UInt8 := dkwX6_init_1 ++ dktX6_init_2
def dkwX6_init_0 : List UInt8 := [42, 43, 181, 0, 1, 42, 183, 0, 7, 42, 187, 0, 13, 89, 183, 0, 15, 181, 0, 16, 42, 182, 0, 20]
abbrev dktX6_init_0 : List UInt8 := dkwX6_init_0 ++ dktX6_init_1
theorem dksX6_init_0 : cX6_init.data.toList.drop 0 = dktX6_init_0 := by decide +kernel
theorem dksX6_init_1 : cX6_init.data.toList.drop 24 = dktX6_init_1 := dk_seg dksX6_init_0 24 rfl rfl
theorem dksX6_init_2 : cX6_init.data.toList.drop 48 = dktX6_init_2 := dk_seg dksX6_init_1 24 rfl rfl
theorem dX6_init_0 : decode cX6_init 0 = .ok (.aload_n 0, 1) := dk_42 (dk_at dksX6_init_0 0 rfl rfl)
theorem dX6_init_1 : decode cX6_init 1 = .ok (.aload_n 1, 1) := dk_43 (dk_at dksX6_init_0 1 rfl rfl)
theorem dX6_init_2 : decode cX6_init 2 = .ok (.putfield 1, 3) := dk_181 0 1 (dk_at dksX6_init_0 2 rfl rfl)
theorem dX6_init_5 : decode cX6_init 5 = .ok (.aload_n 0, 1) := dk_42 (dk_at dksX6_init_0 5 rfl rfl)
theorem dX6_init_6 : decode cX6_init 6 = .ok (.invokespecial 7, 3) := dk_183 0 7 (dk_at dksX6_init_0 6 rfl rfl)
theorem dX6_init_9 : decode cX6_init 9 = .ok (.aload_n 0, 1) := dk_42 (dk_at dksX6_init_0 9 rfl rfl)
theorem dX6_init_10 : decode cX6_init 10 = .ok (.new 13, 3) := dk_187 0 13 (dk_at dksX6_init_0 10 rfl rfl)
theorem dX6_init_13 : decode cX6_init 13 = .ok (.dup, 1) := dk_89 (dk_at dksX6_init_0 13 rfl rfl)
theorem dX6_init_14 : decode cX6_init 14 = .ok (.invokespecial 15, 3) := dk_183 0 15 (dk_at dksX6_init_0 14 rfl rfl)
theorem dX6_init_17 : decode cX6_init 17 = .ok (.putfield 16, 3) := dk_181 0 16 (dk_at dksX6_init_0 17 rfl rfl)
theorem dX6_init_20 : decode cX6_init 20 = .ok (.aload_n 0, 1) := dk_42 (dk_at dksX6_init_0 20 rfl rfl)
theorem dX6_init_21 : decode cX6_init 21 = .ok (.invokevirtual 20, 3) := dk_182 0 20 (dk_at dksX6_init_0 21 rfl rfl)
theorem dX6_init_24 : decode cX6_init 24 = .ok (.aload_n 0, 1) := dk_42 (dk_at dksX6_init_1 0 rfl rfl)
theorem dX6_init_25 : decode cX6_init 25 = .ok (.getfield 23, 3) := dk_180 0 23 (dk_at dksX6_init_1 1 rfl rfl)
theorem dX6_init_28 : decode cX6_init 28 = .ok (.ifCond .ne 30, 3) := dk_154 0 30 (dk_at dksX6_init_1 4 rfl rfl)
theorem dX6_init_31 : decode cX6_init 31 = .ok (.aload_n 0, 1) := dk_42 (dk_at dksX6_init_1 7 rfl rfl)
theorem dX6_init_32 : decode cX6_init 32 = .ok (.getfield 27, 3) := dk_180 0 27 (dk_at dksX6_init_1 8 rfl rfl)
theorem dX6_init_35 : decode cX6_init 35 = .ok (.aload_n 1, 1) := dk_43 (dk_at dksX6_init_1 11 rfl rfl)
theorem dX6_init_36 : decode cX6_init 36 = .ok (.getfield 31, 3) := dk_180 0 31 (dk_at dksX6_init_1 12 rfl rfl)
theorem dX6_init_39 : decode cX6_init 39 = .ok (.invokevirtual 37, 3) := dk_182 0 37 (dk_at dksX6_init_1 15 rfl rfl)
theorem dX6_init_42 : decode cX6_init 42 = .ok (.if_icmp .ge 16, 3) := dk_162 0 16 (dk_at dksX6_init_1 18 rfl rfl)
theorem dX6_init_45 : decode cX6_init 45 = .ok (.aload_n 0, 1) := dk_42 (dk_at dksX6_init_1 21 rfl rfl)
theorem dX6_init_46 : decode cX6_init 46 = .ok (.bipush 59, 2) := dk_16 59 (dk_at dksX6_init_1 22 rfl rfl)
theorem dX6_init_48 : decode cX6_init 48 = .ok (.invokevirtual 43, 3) := dk_182 0 43 (dk_at dksX6_init_2 0 rfl rfl)
theorem dX6_init_51 : decode cX6_init 51 = .ok (.aload_n 0, 1) := dk_42 (dk_at dksX6_init_2 3 rfl rfl)
theorem dX6_init_52 : decode cX6_init 52 = .ok (.invokevirtual 20, 3) := dk_182 0 20 (dk_at dksX6_init_2 4 rfl rfl)
theorem dX6_init_55 : decode cX6_init 55 = .ok (.goto (-31), 3) := dk_167 255 225 (dk_at dksX6_init_2 7 rfl rfl)
theorem dX6_init_58 : decode cX6_init 58 = .ok (.return_, 1) := dk_177 (dk_at dksX6_init_2 10 rfl rfl)
abbrev cX6_readOrder : ByteArray := prog_3_method_7_code
def yX6_readOrder : MethodName := ⟨RX6, "readOrder", "()V"⟩
def dkwX6_readOrder_2 : List UInt8 := [42, 180, 0, 16, 42, 27, 182, 0, 70, 185, 0, 74, 2, 0, 87, 177]
abbrev dktX6_readOrder_2 : List UInt8 := dkwX6_readOrder_2 ++ []
def dkwX6_readOrder_1 : List UInt8 := [167, 0, 4, 3, 181, 0, 23, 42, 180, 0, 23, 154, 0, 28, 42, 89, 180, 0, 27, 4, 96, 181, 0, 27]
abbrev dktX6_readOrder_1 : List UInt8 := dkwX6_readOrder_1 ++ dktX6_readOrder_2
def dkwX6_readOrder_0 : List UInt8 := [42, 182, 0, 51, 60, 42, 42, 180, 0, 23, 154, 0, 12, 18, 62, 27, 182, 0, 64, 156, 0, 7, 4]
abbrev dktX6_readOrder_0 : List UInt8 := dkwX6_readOrder_0 ++ dktX6_readOrder_1
theorem dksX6_readOrder_0 : cX6_readOrder.data.toList.drop 0 = dktX6_readOrder_0 := by decide +kernel
theorem dksX6_readOrder_1 : cX6_readOrder.data.toList.drop 23 = dktX6_readOrder_1 := dk_seg dksX6_readOrder_0 23 rfl rfl
theorem dksX6_readOrder_2 : cX6_readOrder.data.toList.drop 47 = dktX6_readOrder_2 := dk_seg dksX6_readOrder_1 24 rfl rfl
theorem dX6_readOrder_0 : decode cX6_readOrder 0 = .ok (.aload_n 0, 1) := dk_42 (dk_at dksX6_readOrder_0 0 rfl rfl)
theorem dX6_readOrder_1 : decode cX6_readOrder 1 = .ok (.invokevirtual 51, 3) := dk_182 0 51 (dk_at dksX6_readOrder_0 1 rfl rfl)
theorem dX6_readOrder_4 : decode cX6_readOrder 4 = .ok (.istore_n 1, 1) := dk_60 (dk_at dksX6_readOrder_0 4 rfl rfl)
theorem dX6_readOrder_5 : decode cX6_readOrder 5 = .ok (.aload_n 0, 1) := dk_42 (dk_at dksX6_readOrder_0 5 rfl rfl)
theorem dX6_readOrder_6 : decode cX6_readOrder 6 = .ok (.aload_n 0, 1) := dk_42 (dk_at dksX6_readOrder_0 6 rfl rfl)
theorem dX6_readOrder_7 : decode cX6_readOrder 7 = .ok (.getfield 23, 3) := dk_180 0 23 (dk_at dksX6_readOrder_0 7 rfl rfl)
theorem dX6_readOrder_10 : decode cX6_readOrder 10 = .ok (.ifCond .ne 12, 3) := dk_154 0 12 (dk_at dksX6_readOrder_0 10 rfl rfl)
theorem dX6_readOrder_13 : decode cX6_readOrder 13 = .ok (.ldc 62, 2) := dk_18 62 (dk_at dksX6_readOrder_0 13 rfl rfl)
theorem dX6_readOrder_15 : decode cX6_readOrder 15 = .ok (.iload_n 1, 1) := dk_27 (dk_at dksX6_readOrder_0 15 rfl rfl)
theorem dX6_readOrder_16 : decode cX6_readOrder 16 = .ok (.invokevirtual 64, 3) := dk_182 0 64 (dk_at dksX6_readOrder_0 16 rfl rfl)
theorem dX6_readOrder_19 : decode cX6_readOrder 19 = .ok (.ifCond .ge 7, 3) := dk_156 0 7 (dk_at dksX6_readOrder_0 19 rfl rfl)
theorem dX6_readOrder_22 : decode cX6_readOrder 22 = .ok (.iconst 1, 1) := dk_4 (dk_at dksX6_readOrder_0 22 rfl rfl)
theorem dX6_readOrder_23 : decode cX6_readOrder 23 = .ok (.goto 4, 3) := dk_167 0 4 (dk_at dksX6_readOrder_1 0 rfl rfl)
theorem dX6_readOrder_26 : decode cX6_readOrder 26 = .ok (.iconst 0, 1) := dk_3 (dk_at dksX6_readOrder_1 3 rfl rfl)
theorem dX6_readOrder_27 : decode cX6_readOrder 27 = .ok (.putfield 23, 3) := dk_181 0 23 (dk_at dksX6_readOrder_1 4 rfl rfl)
theorem dX6_readOrder_30 : decode cX6_readOrder 30 = .ok (.aload_n 0, 1) := dk_42 (dk_at dksX6_readOrder_1 7 rfl rfl)
theorem dX6_readOrder_31 : decode cX6_readOrder 31 = .ok (.getfield 23, 3) := dk_180 0 23 (dk_at dksX6_readOrder_1 8 rfl rfl)
theorem dX6_readOrder_34 : decode cX6_readOrder 34 = .ok (.ifCond .ne 28, 3) := dk_154 0 28 (dk_at dksX6_readOrder_1 11 rfl rfl)
theorem dX6_readOrder_37 : decode cX6_readOrder 37 = .ok (.aload_n 0, 1) := dk_42 (dk_at dksX6_readOrder_1 14 rfl rfl)
theorem dX6_readOrder_38 : decode cX6_readOrder 38 = .ok (.dup, 1) := dk_89 (dk_at dksX6_readOrder_1 15 rfl rfl)
theorem dX6_readOrder_39 : decode cX6_readOrder 39 = .ok (.getfield 27, 3) := dk_180 0 27 (dk_at dksX6_readOrder_1 16 rfl rfl)
theorem dX6_readOrder_42 : decode cX6_readOrder 42 = .ok (.iconst 1, 1) := dk_4 (dk_at dksX6_readOrder_1 19 rfl rfl)
theorem dX6_readOrder_43 : decode cX6_readOrder 43 = .ok (.iadd, 1) := dk_96 (dk_at dksX6_readOrder_1 20 rfl rfl)
theorem dX6_readOrder_44 : decode cX6_readOrder 44 = .ok (.putfield 27, 3) := dk_181 0 27 (dk_at dksX6_readOrder_1 21 rfl rfl)
theorem dX6_readOrder_47 : decode cX6_readOrder 47 = .ok (.aload_n 0, 1) := dk_42 (dk_at dksX6_readOrder_2 0 rfl rfl)
theorem dX6_readOrder_48 : decode cX6_readOrder 48 = .ok (.getfield 16, 3) := dk_180 0 16 (dk_at dksX6_readOrder_2 1 rfl rfl)
theorem dX6_readOrder_51 : decode cX6_readOrder 51 = .ok (.aload_n 0, 1) := dk_42 (dk_at dksX6_readOrder_2 4 rfl rfl)
theorem dX6_readOrder_52 : decode cX6_readOrder 52 = .ok (.iload_n 1, 1) := dk_27 (dk_at dksX6_readOrder_2 5 rfl rfl)
theorem dX6_readOrder_53 : decode cX6_readOrder 53 = .ok (.invokevirtual 70, 3) := dk_182 0 70 (dk_at dksX6_readOrder_2 6 rfl rfl)
theorem dX6_readOrder_56 : decode cX6_readOrder 56 = .ok (.invokeinterface 74 2, 5) := by decide +kernel
theorem dX6_readOrder_61 : decode cX6_readOrder 61 = .ok (.pop, 1) := dk_87 (dk_at dksX6_readOrder_2 14 rfl rfl)
theorem dX6_readOrder_62 : decode cX6_readOrder 62 = .ok (.return_, 1) := dk_177 (dk_at dksX6_readOrder_2 15 rfl rfl)
abbrev cX6_next : ByteArray := prog_3_method_2_code
def yX6_next : MethodName := ⟨RX6, "next", "()C"⟩
def dkwX6_next_1 : List UInt8 := [42, 180, 0, 27, 182, 0, 47, 167, 0, 4, 3, 172]
abbrev dktX6_next_1 : List UInt8 := dkwX6_next_1 ++ []
def dkwX6_next_0 : List UInt8 := [42, 180, 0, 27, 42, 180, 0, 1, 180, 0, 31, 182, 0, 37, 162, 0, 20, 42, 180, 0, 1, 180, 0, 31]
abbrev dktX6_next_0 : List UInt8 := dkwX6_next_0 ++ dktX6_next_1
theorem dksX6_next_0 : cX6_next.data.toList.drop 0 = dktX6_next_0 := by decide +kernel
theorem dksX6_next_1 : cX6_next.data.toList.drop 24 = dktX6_next_1 := dk_seg dksX6_next_0 24 rfl rfl
theorem dX6_next_0 : decode cX6_next 0 = .ok (.aload_n 0, 1) := dk_42 (dk_at dksX6_next_0 0 rfl rfl)
theorem dX6_next_1 : decode cX6_next 1 = .ok (.getfield 27, 3) := dk_180 0 27 (dk_at dksX6_next_0 1 rfl rfl)
theorem dX6_next_4 : decode cX6_next 4 = .ok (.aload_n 0, 1) := dk_42 (dk_at dksX6_next_0 4 rfl rfl)
theorem dX6_next_5 : decode cX6_next 5 = .ok (.getfield 1, 3) := dk_180 0 1 (dk_at dksX6_next_0 5 rfl rfl)
theorem dX6_next_8 : decode cX6_next 8 = .ok (.getfield 31, 3) := dk_180 0 31 (dk_at dksX6_next_0 8 rfl rfl)
theorem dX6_next_11 : decode cX6_next 11 = .ok (.invokevirtual 37, 3) := dk_182 0 37 (dk_at dksX6_next_0 11 rfl rfl)
theorem dX6_next_14 : decode cX6_next 14 = .ok (.if_icmp .ge 20, 3) := dk_162 0 20 (dk_at dksX6_next_0 14 rfl rfl)
theorem dX6_next_17 : decode cX6_next 17 = .ok (.aload_n 0, 1) := dk_42 (dk_at dksX6_next_0 17 rfl rfl)
theorem dX6_next_18 : decode cX6_next 18 = .ok (.getfield 1, 3) := dk_180 0 1 (dk_at dksX6_next_0 18 rfl rfl)
theorem dX6_next_21 : decode cX6_next 21 = .ok (.getfield 31, 3) := dk_180 0 31 (dk_at dksX6_next_0 21 rfl rfl)
theorem dX6_next_24 : decode cX6_next 24 = .ok (.aload_n 0, 1) := dk_42 (dk_at dksX6_next_1 0 rfl rfl)
theorem dX6_next_25 : decode cX6_next 25 = .ok (.getfield 27, 3) := dk_180 0 27 (dk_at dksX6_next_1 1 rfl rfl)
theorem dX6_next_28 : decode cX6_next 28 = .ok (.invokevirtual 47, 3) := dk_182 0 47 (dk_at dksX6_next_1 4 rfl rfl)
theorem dX6_next_31 : decode cX6_next 31 = .ok (.goto 4, 3) := dk_167 0 4 (dk_at dksX6_next_1 7 rfl rfl)
theorem dX6_next_34 : decode cX6_next 34 = .ok (.iconst 0, 1) := dk_3 (dk_at dksX6_next_1 10 rfl rfl)
theorem dX6_next_35 : decode cX6_next 35 = .ok (.ireturn, 1) := dk_172 (dk_at dksX6_next_1 11 rfl rfl)
abbrev cX6_order : ByteArray := prog_3_method_6_code
def yX6_order : MethodName := ⟨RX6, "order", "(C)[I"⟩
def dkwX6_order_6 : List UInt8 := [4, 3, 79, 89, 5, 3, 79, 176]
abbrev dktX6_order_6 : List UInt8 := dkwX6_order_6 ++ []
def dkwX6_order_5 : List UInt8 := [6, 188, 10, 89, 3, 27, 79, 89, 4, 28, 79, 89, 5, 3, 79, 176, 6, 188, 10, 89, 3, 27, 79, 89]
abbrev dktX6_order_5 : List UInt8 := dkwX6_order_5 ++ dktX6_order_6
def dkwX6_order_4 : List UInt8 := [182, 0, 55, 153, 0, 21, 42, 182, 0, 51, 16, 48, 100, 61, 42, 89, 180, 0, 27, 4, 96, 181, 0, 27]
abbrev dktX6_order_4 : List UInt8 := dkwX6_order_4 ++ dktX6_order_5
def dkwX6_order_3 : List UInt8 := [6, 188, 10, 89, 3, 27, 79, 89, 4, 28, 79, 89, 5, 42, 182, 0, 59, 79, 176, 4, 61, 42, 16, 48]
abbrev dktX6_order_3 : List UInt8 := dkwX6_order_3 ++ dktX6_order_4
def dkwX6_order_2 : List UInt8 := [6, 188, 10, 89, 3, 27, 79, 89, 4, 42, 182, 0, 59, 79, 89, 5, 3, 79, 176, 42, 182, 0, 59, 61]
abbrev dktX6_order_2 : List UInt8 := dkwX6_order_2 ++ dktX6_order_3
def dkwX6_order_1 : List UInt8 := [171, 0, 0, 0, 0, 0, 123, 0, 0, 0, 3, 0, 0, 0, 109, 0, 0, 0, 78, 0, 0, 0, 112, 0, 0, 0, 35, 0, 0, 0, 115, 0, 0, 0, 54]
abbrev dktX6_order_1 : List UInt8 := dkwX6_order_1 ++ dktX6_order_2
def dkwX6_order_0 : List UInt8 := [27]
abbrev dktX6_order_0 : List UInt8 := dkwX6_order_0 ++ dktX6_order_1
theorem dksX6_order_0 : cX6_order.data.toList.drop 0 = dktX6_order_0 := by decide +kernel
theorem dksX6_order_1 : cX6_order.data.toList.drop 1 = dktX6_order_1 := dk_seg dksX6_order_0 1 rfl rfl
theorem dksX6_order_2 : cX6_order.data.toList.drop 36 = dktX6_order_2 := dk_seg dksX6_order_1 35 rfl rfl
theorem dksX6_order_3 : cX6_order.data.toList.drop 60 = dktX6_order_3 := dk_seg dksX6_order_2 24 rfl rfl
theorem dksX6_order_4 : cX6_order.data.toList.drop 84 = dktX6_order_4 := dk_seg dksX6_order_3 24 rfl rfl
theorem dksX6_order_5 : cX6_order.data.toList.drop 108 = dktX6_order_5 := dk_seg dksX6_order_4 24 rfl rfl
theorem dksX6_order_6 : cX6_order.data.toList.drop 132 = dktX6_order_6 := dk_seg dksX6_order_5 24 rfl rfl
theorem dX6_order_0 : decode cX6_order 0 = .ok (.iload_n 1, 1) := dk_27 (dk_at dksX6_order_0 0 rfl rfl)
theorem dX6_order_1 : decode cX6_order 1 = .ok (.lookupswitch 123 #[(109, 78), (112, 35), (115, 54)], 35) := by decide +kernel
theorem dX6_order_36 : decode cX6_order 36 = .ok (.iconst 3, 1) := dk_6 (dk_at dksX6_order_2 0 rfl rfl)
theorem dX6_order_37 : decode cX6_order 37 = .ok (.newarray .int, 2) := dk_188_10 (dk_at dksX6_order_2 1 rfl rfl)
theorem dX6_order_39 : decode cX6_order 39 = .ok (.dup, 1) := dk_89 (dk_at dksX6_order_2 3 rfl rfl)
theorem dX6_order_40 : decode cX6_order 40 = .ok (.iconst 0, 1) := dk_3 (dk_at dksX6_order_2 4 rfl rfl)
theorem dX6_order_41 : decode cX6_order 41 = .ok (.iload_n 1, 1) := dk_27 (dk_at dksX6_order_2 5 rfl rfl)
theorem dX6_order_42 : decode cX6_order 42 = .ok (.iastore, 1) := dk_79 (dk_at dksX6_order_2 6 rfl rfl)
theorem dX6_order_43 : decode cX6_order 43 = .ok (.dup, 1) := dk_89 (dk_at dksX6_order_2 7 rfl rfl)
theorem dX6_order_44 : decode cX6_order 44 = .ok (.iconst 1, 1) := dk_4 (dk_at dksX6_order_2 8 rfl rfl)
theorem dX6_order_45 : decode cX6_order 45 = .ok (.aload_n 0, 1) := dk_42 (dk_at dksX6_order_2 9 rfl rfl)
theorem dX6_order_46 : decode cX6_order 46 = .ok (.invokevirtual 59, 3) := dk_182 0 59 (dk_at dksX6_order_2 10 rfl rfl)
theorem dX6_order_49 : decode cX6_order 49 = .ok (.iastore, 1) := dk_79 (dk_at dksX6_order_2 13 rfl rfl)
theorem dX6_order_50 : decode cX6_order 50 = .ok (.dup, 1) := dk_89 (dk_at dksX6_order_2 14 rfl rfl)
theorem dX6_order_51 : decode cX6_order 51 = .ok (.iconst 2, 1) := dk_5 (dk_at dksX6_order_2 15 rfl rfl)
theorem dX6_order_52 : decode cX6_order 52 = .ok (.iconst 0, 1) := dk_3 (dk_at dksX6_order_2 16 rfl rfl)
theorem dX6_order_53 : decode cX6_order 53 = .ok (.iastore, 1) := dk_79 (dk_at dksX6_order_2 17 rfl rfl)
theorem dX6_order_54 : decode cX6_order 54 = .ok (.areturn, 1) := dk_176 (dk_at dksX6_order_2 18 rfl rfl)
theorem dX6_order_55 : decode cX6_order 55 = .ok (.aload_n 0, 1) := dk_42 (dk_at dksX6_order_2 19 rfl rfl)
theorem dX6_order_56 : decode cX6_order 56 = .ok (.invokevirtual 59, 3) := dk_182 0 59 (dk_at dksX6_order_2 20 rfl rfl)
theorem dX6_order_59 : decode cX6_order 59 = .ok (.istore_n 2, 1) := dk_61 (dk_at dksX6_order_2 23 rfl rfl)
theorem dX6_order_60 : decode cX6_order 60 = .ok (.iconst 3, 1) := dk_6 (dk_at dksX6_order_3 0 rfl rfl)
theorem dX6_order_61 : decode cX6_order 61 = .ok (.newarray .int, 2) := dk_188_10 (dk_at dksX6_order_3 1 rfl rfl)
theorem dX6_order_63 : decode cX6_order 63 = .ok (.dup, 1) := dk_89 (dk_at dksX6_order_3 3 rfl rfl)
theorem dX6_order_64 : decode cX6_order 64 = .ok (.iconst 0, 1) := dk_3 (dk_at dksX6_order_3 4 rfl rfl)
theorem dX6_order_65 : decode cX6_order 65 = .ok (.iload_n 1, 1) := dk_27 (dk_at dksX6_order_3 5 rfl rfl)
theorem dX6_order_66 : decode cX6_order 66 = .ok (.iastore, 1) := dk_79 (dk_at dksX6_order_3 6 rfl rfl)
theorem dX6_order_67 : decode cX6_order 67 = .ok (.dup, 1) := dk_89 (dk_at dksX6_order_3 7 rfl rfl)
theorem dX6_order_68 : decode cX6_order 68 = .ok (.iconst 1, 1) := dk_4 (dk_at dksX6_order_3 8 rfl rfl)
theorem dX6_order_69 : decode cX6_order 69 = .ok (.iload_n 2, 1) := dk_28 (dk_at dksX6_order_3 9 rfl rfl)
theorem dX6_order_70 : decode cX6_order 70 = .ok (.iastore, 1) := dk_79 (dk_at dksX6_order_3 10 rfl rfl)
theorem dX6_order_71 : decode cX6_order 71 = .ok (.dup, 1) := dk_89 (dk_at dksX6_order_3 11 rfl rfl)
theorem dX6_order_72 : decode cX6_order 72 = .ok (.iconst 2, 1) := dk_5 (dk_at dksX6_order_3 12 rfl rfl)
theorem dX6_order_73 : decode cX6_order 73 = .ok (.aload_n 0, 1) := dk_42 (dk_at dksX6_order_3 13 rfl rfl)
theorem dX6_order_74 : decode cX6_order 74 = .ok (.invokevirtual 59, 3) := dk_182 0 59 (dk_at dksX6_order_3 14 rfl rfl)
theorem dX6_order_77 : decode cX6_order 77 = .ok (.iastore, 1) := dk_79 (dk_at dksX6_order_3 17 rfl rfl)
theorem dX6_order_78 : decode cX6_order 78 = .ok (.areturn, 1) := dk_176 (dk_at dksX6_order_3 18 rfl rfl)
theorem dX6_order_79 : decode cX6_order 79 = .ok (.iconst 1, 1) := dk_4 (dk_at dksX6_order_3 19 rfl rfl)
theorem dX6_order_80 : decode cX6_order 80 = .ok (.istore_n 2, 1) := dk_61 (dk_at dksX6_order_3 20 rfl rfl)
theorem dX6_order_81 : decode cX6_order 81 = .ok (.aload_n 0, 1) := dk_42 (dk_at dksX6_order_3 21 rfl rfl)
theorem dX6_order_82 : decode cX6_order 82 = .ok (.bipush 48, 2) := dk_16 48 (dk_at dksX6_order_3 22 rfl rfl)
theorem dX6_order_84 : decode cX6_order 84 = .ok (.invokevirtual 55, 3) := dk_182 0 55 (dk_at dksX6_order_4 0 rfl rfl)
theorem dX6_order_87 : decode cX6_order 87 = .ok (.ifCond .eq 21, 3) := dk_153 0 21 (dk_at dksX6_order_4 3 rfl rfl)
theorem dX6_order_90 : decode cX6_order 90 = .ok (.aload_n 0, 1) := dk_42 (dk_at dksX6_order_4 6 rfl rfl)
theorem dX6_order_91 : decode cX6_order 91 = .ok (.invokevirtual 51, 3) := dk_182 0 51 (dk_at dksX6_order_4 7 rfl rfl)
theorem dX6_order_94 : decode cX6_order 94 = .ok (.bipush 48, 2) := dk_16 48 (dk_at dksX6_order_4 10 rfl rfl)
theorem dX6_order_96 : decode cX6_order 96 = .ok (.isub, 1) := dk_100 (dk_at dksX6_order_4 12 rfl rfl)
theorem dX6_order_97 : decode cX6_order 97 = .ok (.istore_n 2, 1) := dk_61 (dk_at dksX6_order_4 13 rfl rfl)
theorem dX6_order_98 : decode cX6_order 98 = .ok (.aload_n 0, 1) := dk_42 (dk_at dksX6_order_4 14 rfl rfl)
theorem dX6_order_99 : decode cX6_order 99 = .ok (.dup, 1) := dk_89 (dk_at dksX6_order_4 15 rfl rfl)
theorem dX6_order_100 : decode cX6_order 100 = .ok (.getfield 27, 3) := dk_180 0 27 (dk_at dksX6_order_4 16 rfl rfl)
theorem dX6_order_103 : decode cX6_order 103 = .ok (.iconst 1, 1) := dk_4 (dk_at dksX6_order_4 19 rfl rfl)
theorem dX6_order_104 : decode cX6_order 104 = .ok (.iadd, 1) := dk_96 (dk_at dksX6_order_4 20 rfl rfl)
theorem dX6_order_105 : decode cX6_order 105 = .ok (.putfield 27, 3) := dk_181 0 27 (dk_at dksX6_order_4 21 rfl rfl)
theorem dX6_order_108 : decode cX6_order 108 = .ok (.iconst 3, 1) := dk_6 (dk_at dksX6_order_5 0 rfl rfl)
theorem dX6_order_109 : decode cX6_order 109 = .ok (.newarray .int, 2) := dk_188_10 (dk_at dksX6_order_5 1 rfl rfl)
theorem dX6_order_111 : decode cX6_order 111 = .ok (.dup, 1) := dk_89 (dk_at dksX6_order_5 3 rfl rfl)
theorem dX6_order_112 : decode cX6_order 112 = .ok (.iconst 0, 1) := dk_3 (dk_at dksX6_order_5 4 rfl rfl)
theorem dX6_order_113 : decode cX6_order 113 = .ok (.iload_n 1, 1) := dk_27 (dk_at dksX6_order_5 5 rfl rfl)
theorem dX6_order_114 : decode cX6_order 114 = .ok (.iastore, 1) := dk_79 (dk_at dksX6_order_5 6 rfl rfl)
theorem dX6_order_115 : decode cX6_order 115 = .ok (.dup, 1) := dk_89 (dk_at dksX6_order_5 7 rfl rfl)
theorem dX6_order_116 : decode cX6_order 116 = .ok (.iconst 1, 1) := dk_4 (dk_at dksX6_order_5 8 rfl rfl)
theorem dX6_order_117 : decode cX6_order 117 = .ok (.iload_n 2, 1) := dk_28 (dk_at dksX6_order_5 9 rfl rfl)
theorem dX6_order_118 : decode cX6_order 118 = .ok (.iastore, 1) := dk_79 (dk_at dksX6_order_5 10 rfl rfl)
theorem dX6_order_119 : decode cX6_order 119 = .ok (.dup, 1) := dk_89 (dk_at dksX6_order_5 11 rfl rfl)
theorem dX6_order_120 : decode cX6_order 120 = .ok (.iconst 2, 1) := dk_5 (dk_at dksX6_order_5 12 rfl rfl)
theorem dX6_order_121 : decode cX6_order 121 = .ok (.iconst 0, 1) := dk_3 (dk_at dksX6_order_5 13 rfl rfl)
theorem dX6_order_122 : decode cX6_order 122 = .ok (.iastore, 1) := dk_79 (dk_at dksX6_order_5 14 rfl rfl)
theorem dX6_order_123 : decode cX6_order 123 = .ok (.areturn, 1) := dk_176 (dk_at dksX6_order_5 15 rfl rfl)
theorem dX6_order_124 : decode cX6_order 124 = .ok (.iconst 3, 1) := dk_6 (dk_at dksX6_order_5 16 rfl rfl)
theorem dX6_order_125 : decode cX6_order 125 = .ok (.newarray .int, 2) := dk_188_10 (dk_at dksX6_order_5 17 rfl rfl)
theorem dX6_order_127 : decode cX6_order 127 = .ok (.dup, 1) := dk_89 (dk_at dksX6_order_5 19 rfl rfl)
theorem dX6_order_128 : decode cX6_order 128 = .ok (.iconst 0, 1) := dk_3 (dk_at dksX6_order_5 20 rfl rfl)
theorem dX6_order_129 : decode cX6_order 129 = .ok (.iload_n 1, 1) := dk_27 (dk_at dksX6_order_5 21 rfl rfl)
theorem dX6_order_130 : decode cX6_order 130 = .ok (.iastore, 1) := dk_79 (dk_at dksX6_order_5 22 rfl rfl)
theorem dX6_order_131 : decode cX6_order 131 = .ok (.dup, 1) := dk_89 (dk_at dksX6_order_5 23 rfl rfl)
theorem dX6_order_132 : decode cX6_order 132 = .ok (.iconst 1, 1) := dk_4 (dk_at dksX6_order_6 0 rfl rfl)
theorem dX6_order_133 : decode cX6_order 133 = .ok (.iconst 0, 1) := dk_3 (dk_at dksX6_order_6 1 rfl rfl)
theorem dX6_order_134 : decode cX6_order 134 = .ok (.iastore, 1) := dk_79 (dk_at dksX6_order_6 2 rfl rfl)
theorem dX6_order_135 : decode cX6_order 135 = .ok (.dup, 1) := dk_89 (dk_at dksX6_order_6 3 rfl rfl)
theorem dX6_order_136 : decode cX6_order 136 = .ok (.iconst 2, 1) := dk_5 (dk_at dksX6_order_6 4 rfl rfl)
theorem dX6_order_137 : decode cX6_order 137 = .ok (.iconst 0, 1) := dk_3 (dk_at dksX6_order_6 5 rfl rfl)
theorem dX6_order_138 : decode cX6_order 138 = .ok (.iastore, 1) := dk_79 (dk_at dksX6_order_6 6 rfl rfl)
theorem dX6_order_139 : decode cX6_order 139 = .ok (.areturn, 1) := dk_176 (dk_at dksX6_order_6 7 rfl rfl)
abbrev cX6_point : ByteArray := prog_3_method_5_code
def yX6_point : MethodName := ⟨RX6, "point", "()I"⟩
def dkwX6_point_2 : List UInt8 := [180, 0, 27, 4, 100, 182, 0, 47, 16, 49, 100, 172]
abbrev dktX6_point_2 : List UInt8 := dkwX6_point_2 ++ []
def dkwX6_point_1 : List UInt8 := [153, 0, 5, 3, 172, 42, 89, 180, 0, 27, 4, 96, 181, 0, 27, 42, 180, 0, 1, 180, 0, 31, 42]
abbrev dktX6_point_1 : List UInt8 := dkwX6_point_1 ++ dktX6_point_2
def dkwX6_point_0 : List UInt8 := [42, 42, 16, 49, 182, 0, 55, 154, 0, 7, 4, 167, 0, 4, 3, 181, 0, 23, 42, 180, 0, 23]
abbrev dktX6_point_0 : List UInt8 := dkwX6_point_0 ++ dktX6_point_1
theorem dksX6_point_0 : cX6_point.data.toList.drop 0 = dktX6_point_0 := by decide +kernel
theorem dksX6_point_1 : cX6_point.data.toList.drop 22 = dktX6_point_1 := dk_seg dksX6_point_0 22 rfl rfl
theorem dksX6_point_2 : cX6_point.data.toList.drop 45 = dktX6_point_2 := dk_seg dksX6_point_1 23 rfl rfl
theorem dX6_point_0 : decode cX6_point 0 = .ok (.aload_n 0, 1) := dk_42 (dk_at dksX6_point_0 0 rfl rfl)
theorem dX6_point_1 : decode cX6_point 1 = .ok (.aload_n 0, 1) := dk_42 (dk_at dksX6_point_0 1 rfl rfl)
theorem dX6_point_2 : decode cX6_point 2 = .ok (.bipush 49, 2) := dk_16 49 (dk_at dksX6_point_0 2 rfl rfl)
theorem dX6_point_4 : decode cX6_point 4 = .ok (.invokevirtual 55, 3) := dk_182 0 55 (dk_at dksX6_point_0 4 rfl rfl)
theorem dX6_point_7 : decode cX6_point 7 = .ok (.ifCond .ne 7, 3) := dk_154 0 7 (dk_at dksX6_point_0 7 rfl rfl)
theorem dX6_point_10 : decode cX6_point 10 = .ok (.iconst 1, 1) := dk_4 (dk_at dksX6_point_0 10 rfl rfl)
theorem dX6_point_11 : decode cX6_point 11 = .ok (.goto 4, 3) := dk_167 0 4 (dk_at dksX6_point_0 11 rfl rfl)
theorem dX6_point_14 : decode cX6_point 14 = .ok (.iconst 0, 1) := dk_3 (dk_at dksX6_point_0 14 rfl rfl)
theorem dX6_point_15 : decode cX6_point 15 = .ok (.putfield 23, 3) := dk_181 0 23 (dk_at dksX6_point_0 15 rfl rfl)
theorem dX6_point_18 : decode cX6_point 18 = .ok (.aload_n 0, 1) := dk_42 (dk_at dksX6_point_0 18 rfl rfl)
theorem dX6_point_19 : decode cX6_point 19 = .ok (.getfield 23, 3) := dk_180 0 23 (dk_at dksX6_point_0 19 rfl rfl)
theorem dX6_point_22 : decode cX6_point 22 = .ok (.ifCond .eq 5, 3) := dk_153 0 5 (dk_at dksX6_point_1 0 rfl rfl)
theorem dX6_point_25 : decode cX6_point 25 = .ok (.iconst 0, 1) := dk_3 (dk_at dksX6_point_1 3 rfl rfl)
theorem dX6_point_26 : decode cX6_point 26 = .ok (.ireturn, 1) := dk_172 (dk_at dksX6_point_1 4 rfl rfl)
theorem dX6_point_27 : decode cX6_point 27 = .ok (.aload_n 0, 1) := dk_42 (dk_at dksX6_point_1 5 rfl rfl)
theorem dX6_point_28 : decode cX6_point 28 = .ok (.dup, 1) := dk_89 (dk_at dksX6_point_1 6 rfl rfl)
theorem dX6_point_29 : decode cX6_point 29 = .ok (.getfield 27, 3) := dk_180 0 27 (dk_at dksX6_point_1 7 rfl rfl)
theorem dX6_point_32 : decode cX6_point 32 = .ok (.iconst 1, 1) := dk_4 (dk_at dksX6_point_1 10 rfl rfl)
theorem dX6_point_33 : decode cX6_point 33 = .ok (.iadd, 1) := dk_96 (dk_at dksX6_point_1 11 rfl rfl)
theorem dX6_point_34 : decode cX6_point 34 = .ok (.putfield 27, 3) := dk_181 0 27 (dk_at dksX6_point_1 12 rfl rfl)
theorem dX6_point_37 : decode cX6_point 37 = .ok (.aload_n 0, 1) := dk_42 (dk_at dksX6_point_1 15 rfl rfl)
theorem dX6_point_38 : decode cX6_point 38 = .ok (.getfield 1, 3) := dk_180 0 1 (dk_at dksX6_point_1 16 rfl rfl)
theorem dX6_point_41 : decode cX6_point 41 = .ok (.getfield 31, 3) := dk_180 0 31 (dk_at dksX6_point_1 19 rfl rfl)
theorem dX6_point_44 : decode cX6_point 44 = .ok (.aload_n 0, 1) := dk_42 (dk_at dksX6_point_1 22 rfl rfl)
theorem dX6_point_45 : decode cX6_point 45 = .ok (.getfield 27, 3) := dk_180 0 27 (dk_at dksX6_point_2 0 rfl rfl)
theorem dX6_point_48 : decode cX6_point 48 = .ok (.iconst 1, 1) := dk_4 (dk_at dksX6_point_2 3 rfl rfl)
theorem dX6_point_49 : decode cX6_point 49 = .ok (.isub, 1) := dk_100 (dk_at dksX6_point_2 4 rfl rfl)
theorem dX6_point_50 : decode cX6_point 50 = .ok (.invokevirtual 47, 3) := dk_182 0 47 (dk_at dksX6_point_2 5 rfl rfl)
theorem dX6_point_53 : decode cX6_point 53 = .ok (.bipush 49, 2) := dk_16 49 (dk_at dksX6_point_2 8 rfl rfl)
theorem dX6_point_55 : decode cX6_point 55 = .ok (.isub, 1) := dk_100 (dk_at dksX6_point_2 10 rfl rfl)
theorem dX6_point_56 : decode cX6_point 56 = .ok (.ireturn, 1) := dk_172 (dk_at dksX6_point_2 11 rfl rfl)
abbrev cX6_sees : ByteArray := prog_3_method_4_code
def yX6_sees : MethodName := ⟨RX6, "sees", "(C)Z"⟩
def dkwX6_sees_1 : List UInt8 := [4, 167, 0, 4, 3, 172]
abbrev dktX6_sees_1 : List UInt8 := dkwX6_sees_1 ++ []
def dkwX6_sees_0 : List UInt8 := [42, 180, 0, 23, 154, 0, 24, 42, 182, 0, 51, 27, 161, 0, 16, 42, 182, 0, 51, 16, 57, 163, 0, 7]
abbrev dktX6_sees_0 : List UInt8 := dkwX6_sees_0 ++ dktX6_sees_1
theorem dksX6_sees_0 : cX6_sees.data.toList.drop 0 = dktX6_sees_0 := by decide +kernel
theorem dksX6_sees_1 : cX6_sees.data.toList.drop 24 = dktX6_sees_1 := dk_seg dksX6_sees_0 24 rfl rfl
theorem dX6_sees_0 : decode cX6_sees 0 = .ok (.aload_n 0, 1) := dk_42 (dk_at dksX6_sees_0 0 rfl rfl)
theorem dX6_sees_1 : decode cX6_sees 1 = .ok (.getfield 23, 3) := dk_180 0 23 (dk_at dksX6_sees_0 1 rfl rfl)
theorem dX6_sees_4 : decode cX6_sees 4 = .ok (.ifCond .ne 24, 3) := dk_154 0 24 (dk_at dksX6_sees_0 4 rfl rfl)
theorem dX6_sees_7 : decode cX6_sees 7 = .ok (.aload_n 0, 1) := dk_42 (dk_at dksX6_sees_0 7 rfl rfl)
theorem dX6_sees_8 : decode cX6_sees 8 = .ok (.invokevirtual 51, 3) := dk_182 0 51 (dk_at dksX6_sees_0 8 rfl rfl)
theorem dX6_sees_11 : decode cX6_sees 11 = .ok (.iload_n 1, 1) := dk_27 (dk_at dksX6_sees_0 11 rfl rfl)
theorem dX6_sees_12 : decode cX6_sees 12 = .ok (.if_icmp .lt 16, 3) := dk_161 0 16 (dk_at dksX6_sees_0 12 rfl rfl)
theorem dX6_sees_15 : decode cX6_sees 15 = .ok (.aload_n 0, 1) := dk_42 (dk_at dksX6_sees_0 15 rfl rfl)
theorem dX6_sees_16 : decode cX6_sees 16 = .ok (.invokevirtual 51, 3) := dk_182 0 51 (dk_at dksX6_sees_0 16 rfl rfl)
theorem dX6_sees_19 : decode cX6_sees 19 = .ok (.bipush 57, 2) := dk_16 57 (dk_at dksX6_sees_0 19 rfl rfl)
theorem dX6_sees_21 : decode cX6_sees 21 = .ok (.if_icmp .gt 7, 3) := dk_163 0 7 (dk_at dksX6_sees_0 21 rfl rfl)
theorem dX6_sees_24 : decode cX6_sees 24 = .ok (.iconst 1, 1) := dk_4 (dk_at dksX6_sees_1 0 rfl rfl)
theorem dX6_sees_25 : decode cX6_sees 25 = .ok (.goto 4, 3) := dk_167 0 4 (dk_at dksX6_sees_1 1 rfl rfl)
theorem dX6_sees_28 : decode cX6_sees 28 = .ok (.iconst 0, 1) := dk_3 (dk_at dksX6_sees_1 4 rfl rfl)
theorem dX6_sees_29 : decode cX6_sees 29 = .ok (.ireturn, 1) := dk_172 (dk_at dksX6_sees_1 5 rfl rfl)
abbrev cX6_sign : ByteArray := prog_3_method_3_code
def yX6_sign : MethodName := ⟨RX6, "sign", "(C)V"⟩
def dkwX6_sign_1 : List UInt8 := [42, 89, 180, 0, 27, 42, 180, 0, 23, 153, 0, 7, 3, 167, 0, 4, 4, 96, 181, 0, 27, 177]
abbrev dktX6_sign_1 : List UInt8 := dkwX6_sign_1 ++ []
def dkwX6_sign_0 : List UInt8 := [42, 42, 180, 0, 23, 154, 0, 11, 42, 182, 0, 51, 27, 159, 0, 7, 4, 167, 0, 4, 3, 181, 0, 23]
abbrev dktX6_sign_0 : List UInt8 := dkwX6_sign_0 ++ dktX6_sign_1
theorem dksX6_sign_0 : cX6_sign.data.toList.drop 0 = dktX6_sign_0 := by decide +kernel
theorem dksX6_sign_1 : cX6_sign.data.toList.drop 24 = dktX6_sign_1 := dk_seg dksX6_sign_0 24 rfl rfl
theorem dX6_sign_0 : decode cX6_sign 0 = .ok (.aload_n 0, 1) := dk_42 (dk_at dksX6_sign_0 0 rfl rfl)
theorem dX6_sign_1 : decode cX6_sign 1 = .ok (.aload_n 0, 1) := dk_42 (dk_at dksX6_sign_0 1 rfl rfl)
theorem dX6_sign_2 : decode cX6_sign 2 = .ok (.getfield 23, 3) := dk_180 0 23 (dk_at dksX6_sign_0 2 rfl rfl)
theorem dX6_sign_5 : decode cX6_sign 5 = .ok (.ifCond .ne 11, 3) := dk_154 0 11 (dk_at dksX6_sign_0 5 rfl rfl)
theorem dX6_sign_8 : decode cX6_sign 8 = .ok (.aload_n 0, 1) := dk_42 (dk_at dksX6_sign_0 8 rfl rfl)
theorem dX6_sign_9 : decode cX6_sign 9 = .ok (.invokevirtual 51, 3) := dk_182 0 51 (dk_at dksX6_sign_0 9 rfl rfl)
theorem dX6_sign_12 : decode cX6_sign 12 = .ok (.iload_n 1, 1) := dk_27 (dk_at dksX6_sign_0 12 rfl rfl)
theorem dX6_sign_13 : decode cX6_sign 13 = .ok (.if_icmp .eq 7, 3) := dk_159 0 7 (dk_at dksX6_sign_0 13 rfl rfl)
theorem dX6_sign_16 : decode cX6_sign 16 = .ok (.iconst 1, 1) := dk_4 (dk_at dksX6_sign_0 16 rfl rfl)
theorem dX6_sign_17 : decode cX6_sign 17 = .ok (.goto 4, 3) := dk_167 0 4 (dk_at dksX6_sign_0 17 rfl rfl)
theorem dX6_sign_20 : decode cX6_sign 20 = .ok (.iconst 0, 1) := dk_3 (dk_at dksX6_sign_0 20 rfl rfl)
theorem dX6_sign_21 : decode cX6_sign 21 = .ok (.putfield 23, 3) := dk_181 0 23 (dk_at dksX6_sign_0 21 rfl rfl)
theorem dX6_sign_24 : decode cX6_sign 24 = .ok (.aload_n 0, 1) := dk_42 (dk_at dksX6_sign_1 0 rfl rfl)
theorem dX6_sign_25 : decode cX6_sign 25 = .ok (.dup, 1) := dk_89 (dk_at dksX6_sign_1 1 rfl rfl)
theorem dX6_sign_26 : decode cX6_sign 26 = .ok (.getfield 27, 3) := dk_180 0 27 (dk_at dksX6_sign_1 2 rfl rfl)
theorem dX6_sign_29 : decode cX6_sign 29 = .ok (.aload_n 0, 1) := dk_42 (dk_at dksX6_sign_1 5 rfl rfl)
theorem dX6_sign_30 : decode cX6_sign 30 = .ok (.getfield 23, 3) := dk_180 0 23 (dk_at dksX6_sign_1 6 rfl rfl)
theorem dX6_sign_33 : decode cX6_sign 33 = .ok (.ifCond .eq 7, 3) := dk_153 0 7 (dk_at dksX6_sign_1 9 rfl rfl)
theorem dX6_sign_36 : decode cX6_sign 36 = .ok (.iconst 0, 1) := dk_3 (dk_at dksX6_sign_1 12 rfl rfl)
theorem dX6_sign_37 : decode cX6_sign 37 = .ok (.goto 4, 3) := dk_167 0 4 (dk_at dksX6_sign_1 13 rfl rfl)
theorem dX6_sign_40 : decode cX6_sign 40 = .ok (.iconst 1, 1) := dk_4 (dk_at dksX6_sign_1 16 rfl rfl)
theorem dX6_sign_41 : decode cX6_sign 41 = .ok (.iadd, 1) := dk_96 (dk_at dksX6_sign_1 17 rfl rfl)
theorem dX6_sign_42 : decode cX6_sign 42 = .ok (.putfield 27, 3) := dk_181 0 27 (dk_at dksX6_sign_1 18 rfl rfl)
theorem dX6_sign_45 : decode cX6_sign 45 = .ok (.return_, 1) := dk_177 (dk_at dksX6_sign_1 21 rfl rfl)
theorem q93 : (Jvm.Cond.initialized "MorrisTables$Reader") ∈ lw_all := lw_g (lw_at lw_m1 24 rfl) rfl
theorem q175 : (Jvm.Cond.selects "MorrisTables$Reader" ({ cls := "java/lang/Object", name := "getClass", desc := "()Ljava/lang/Class;" } : Jvm.MethodName) ({ cls := "java/lang/Object", name := "getClass", desc := "()Ljava/lang/Class;" } : Jvm.MethodName)) ∈ lw_all := lw_g (lw_at lw_m1 106 rfl) rfl
theorem q266 : (Jvm.Cond.fieldLinkNest "MorrisTables$Reader" (31 : Nat) "MorrisTables" "pad" "Ljava/lang/StringBuilder;" "MorrisTables") ∈ lw_tbl := lw_at lw_m1 197 rfl
theorem q813 : (Jvm.Cond.instantiable "MorrisTables$Reader" (4 : Nat)) ∈ lw_all := lw_g (lw_at lw_m4 24 rfl) rfl
theorem q815 : (Jvm.Cond.instanceMethod ({ cls := "MorrisTables$Reader", name := "<init>", desc := "(LMorrisTables;)V" } : Jvm.MethodName)) ∈ lw_all := lw_g (lw_at lw_m4 26 rfl) rfl
theorem q816 : (Jvm.Cond.code ({ cls := "MorrisTables$Reader", name := "<init>", desc := "(LMorrisTables;)V" } : Jvm.MethodName) prog_3_method_1_code (2 : Nat) (Option.none : Option Jvm.ClassFile.FieldType)) ∈ lw_all := lw_g (lw_at lw_m4 27 rfl) rfl
theorem q817 : (Jvm.Cond.methodLink "MorrisTables$Reader" (7 : Nat) ({ cls := "java/lang/Object", name := "<init>", desc := "()V" } : Jvm.MethodName)) ∈ lw_all := lw_g (lw_at lw_m4 28 rfl) rfl
theorem q818 : (Jvm.Cond.classLink "MorrisTables$Reader" (13 : Nat) "java/util/ArrayList") ∈ lw_all := lw_g (lw_at lw_m4 29 rfl) rfl
theorem q819 : (Jvm.Cond.methodLink "MorrisTables$Reader" (15 : Nat) ({ cls := "java/util/ArrayList", name := "<init>", desc := "()V" } : Jvm.MethodName)) ∈ lw_all := lw_g (lw_at lw_m4 30 rfl) rfl
theorem q820 : (Jvm.Cond.methodLink "MorrisTables$Reader" (20 : Nat) ({ cls := "MorrisTables$Reader", name := "readOrder", desc := "()V" } : Jvm.MethodName)) ∈ lw_all := lw_g (lw_at lw_m4 31 rfl) rfl
theorem q821 : (Jvm.Cond.privateMethod ({ cls := "MorrisTables$Reader", name := "readOrder", desc := "()V" } : Jvm.MethodName)) ∈ lw_tbl := lw_at lw_m4 32 rfl
theorem q822 : (Jvm.Cond.instanceMethod ({ cls := "MorrisTables$Reader", name := "readOrder", desc := "()V" } : Jvm.MethodName)) ∈ lw_all := lw_g (lw_at lw_m4 33 rfl) rfl
theorem q823 : (Jvm.Cond.code ({ cls := "MorrisTables$Reader", name := "readOrder", desc := "()V" } : Jvm.MethodName) prog_3_method_7_code (2 : Nat) (Option.none : Option Jvm.ClassFile.FieldType)) ∈ lw_all := lw_g (lw_at lw_m4 34 rfl) rfl
theorem q824 : (Jvm.Cond.methodLink "MorrisTables$Reader" (51 : Nat) ({ cls := "MorrisTables$Reader", name := "next", desc := "()C" } : Jvm.MethodName)) ∈ lw_all := lw_g (lw_at lw_m4 35 rfl) rfl
theorem q825 : (Jvm.Cond.privateMethod ({ cls := "MorrisTables$Reader", name := "next", desc := "()C" } : Jvm.MethodName)) ∈ lw_tbl := lw_at lw_m4 36 rfl
theorem q826 : (Jvm.Cond.instanceMethod ({ cls := "MorrisTables$Reader", name := "next", desc := "()C" } : Jvm.MethodName)) ∈ lw_all := lw_g (lw_at lw_m4 37 rfl) rfl
theorem q827 : (Jvm.Cond.code ({ cls := "MorrisTables$Reader", name := "next", desc := "()C" } : Jvm.MethodName) prog_3_method_2_code (1 : Nat) (Option.some Jvm.ClassFile.FieldType.char)) ∈ lw_all := lw_g (lw_at lw_m4 38 rfl) rfl
theorem q828 : (Jvm.Cond.methodLink "MorrisTables$Reader" (37 : Nat) ({ cls := "java/lang/StringBuilder", name := "length", desc := "()I" } : Jvm.MethodName)) ∈ lw_all := lw_g (lw_at lw_m4 39 rfl) rfl
theorem q829 : (Jvm.Cond.methodLink "MorrisTables$Reader" (47 : Nat) ({ cls := "java/lang/StringBuilder", name := "charAt", desc := "(I)C" } : Jvm.MethodName)) ∈ lw_all := lw_g (lw_at lw_m4 40 rfl) rfl
theorem q841 : (Jvm.Cond.stringRef "MorrisTables$Reader" (62 : Nat) "ps-m") ∈ lw_tbl := lw_at lw_m4 52 rfl
theorem q842 : (Jvm.Cond.methodLink "MorrisTables$Reader" (64 : Nat) ({ cls := "java/lang/String", name := "indexOf", desc := "(I)I" } : Jvm.MethodName)) ∈ lw_all := lw_g (lw_at lw_m4 53 rfl) rfl
theorem q910 : (Jvm.Cond.methodLink "MorrisTables$Reader" (70 : Nat) ({ cls := "MorrisTables$Reader", name := "order", desc := "(C)[I" } : Jvm.MethodName)) ∈ lw_all := lw_g (lw_at lw_m4 121 rfl) rfl
theorem q911 : (Jvm.Cond.privateMethod ({ cls := "MorrisTables$Reader", name := "order", desc := "(C)[I" } : Jvm.MethodName)) ∈ lw_tbl := lw_at lw_m4 122 rfl
theorem q912 : (Jvm.Cond.instanceMethod ({ cls := "MorrisTables$Reader", name := "order", desc := "(C)[I" } : Jvm.MethodName)) ∈ lw_all := lw_g (lw_at lw_m4 123 rfl) rfl
theorem q913 : (Jvm.Cond.code ({ cls := "MorrisTables$Reader", name := "order", desc := "(C)[I" } : Jvm.MethodName) prog_3_method_6_code (3 : Nat) (Option.some (Jvm.ClassFile.FieldType.array Jvm.ClassFile.FieldType.int))) ∈ lw_all := lw_g (lw_at lw_m4 124 rfl) rfl
theorem q914 : (Jvm.Cond.methodLink "MorrisTables$Reader" (59 : Nat) ({ cls := "MorrisTables$Reader", name := "point", desc := "()I" } : Jvm.MethodName)) ∈ lw_all := lw_g (lw_at lw_m4 125 rfl) rfl
theorem q915 : (Jvm.Cond.privateMethod ({ cls := "MorrisTables$Reader", name := "point", desc := "()I" } : Jvm.MethodName)) ∈ lw_tbl := lw_at lw_m4 126 rfl
theorem q916 : (Jvm.Cond.instanceMethod ({ cls := "MorrisTables$Reader", name := "point", desc := "()I" } : Jvm.MethodName)) ∈ lw_all := lw_g (lw_at lw_m4 127 rfl) rfl
theorem q917 : (Jvm.Cond.code ({ cls := "MorrisTables$Reader", name := "point", desc := "()I" } : Jvm.MethodName) prog_3_method_5_code (1 : Nat) (Option.some Jvm.ClassFile.FieldType.int)) ∈ lw_all := lw_g (lw_at lw_m4 128 rfl) rfl
theorem q918 : (Jvm.Cond.methodLink "MorrisTables$Reader" (55 : Nat) ({ cls := "MorrisTables$Reader", name := "sees", desc := "(C)Z" } : Jvm.MethodName)) ∈ lw_all := lw_g (lw_at lw_m4 129 rfl) rfl
theorem q919 : (Jvm.Cond.privateMethod ({ cls := "MorrisTables$Reader", name := "sees", desc := "(C)Z" } : Jvm.MethodName)) ∈ lw_tbl := lw_at lw_m4 130 rfl
theorem q920 : (Jvm.Cond.instanceMethod ({ cls := "MorrisTables$Reader", name := "sees", desc := "(C)Z" } : Jvm.MethodName)) ∈ lw_all := lw_g (lw_at lw_m4 131 rfl) rfl
theorem q921 : (Jvm.Cond.code ({ cls := "MorrisTables$Reader", name := "sees", desc := "(C)Z" } : Jvm.MethodName) prog_3_method_4_code (2 : Nat) (Option.some Jvm.ClassFile.FieldType.boolean)) ∈ lw_all := lw_g (lw_at lw_m4 132 rfl) rfl
theorem q922 : (Jvm.Cond.interfaceEntry "MorrisTables$Reader" (74 : Nat)) ∈ lw_tbl := lw_at lw_m4 133 rfl
theorem q923 : (Jvm.Cond.methodLink "MorrisTables$Reader" (74 : Nat) ({ cls := "java/util/List", name := "add", desc := "(Ljava/lang/Object;)Z" } : Jvm.MethodName)) ∈ lw_all := lw_g (lw_at lw_m4 134 rfl) rfl
theorem q924 : (Jvm.Cond.methodLink "MorrisTables$Reader" (43 : Nat) ({ cls := "MorrisTables$Reader", name := "sign", desc := "(C)V" } : Jvm.MethodName)) ∈ lw_all := lw_g (lw_at lw_m4 135 rfl) rfl
theorem q925 : (Jvm.Cond.privateMethod ({ cls := "MorrisTables$Reader", name := "sign", desc := "(C)V" } : Jvm.MethodName)) ∈ lw_tbl := lw_at lw_m4 136 rfl
theorem q926 : (Jvm.Cond.instanceMethod ({ cls := "MorrisTables$Reader", name := "sign", desc := "(C)V" } : Jvm.MethodName)) ∈ lw_all := lw_g (lw_at lw_m4 137 rfl) rfl
theorem q927 : (Jvm.Cond.code ({ cls := "MorrisTables$Reader", name := "sign", desc := "(C)V" } : Jvm.MethodName) prog_3_method_3_code (2 : Nat) (Option.none : Option Jvm.ClassFile.FieldType)) ∈ lw_all := lw_g (lw_at lw_m4 138 rfl) rfl
theorem q928 : (Jvm.Cond.fieldLink "MorrisTables$Reader" (16 : Nat) "MorrisTables$Reader" "orders" "Ljava/util/List;") ∈ lw_all := lw_g (lw_at lw_m4 139 rfl) rfl
theorem q930 : (Jvm.Cond.fieldLink "MorrisTables$Reader" (27 : Nat) "MorrisTables$Reader" "spot" "I") ∈ lw_all := lw_g (lw_at lw_m4 141 rfl) rfl
theorem q932 : (Jvm.Cond.fieldLink "MorrisTables$Reader" (23 : Nat) "MorrisTables$Reader" "isWrong" "Z") ∈ lw_all := lw_g (lw_at lw_m4 143 rfl) rfl
theorem q934 : (Jvm.Cond.fieldLink "MorrisTables$Reader" (1 : Nat) "MorrisTables$Reader" "this$0" "LMorrisTables;") ∈ lw_all := lw_g (lw_at lw_m4 145 rfl) rfl
theorem q935 : (Jvm.Cond.laysFinal "MorrisTables$Reader" "MorrisTables$Reader" "orders" "Ljava/util/List;") ∈ lw_all := lw_g (lw_at lw_m4 146 rfl) rfl
theorem q936 : (Jvm.Cond.soleField "MorrisTables$Reader" "orders") ∈ lw_all := lw_g (lw_at lw_m4 147 rfl) rfl
theorem q937 : (Jvm.Cond.lays "MorrisTables$Reader" "MorrisTables$Reader" "spot" "I") ∈ lw_all := lw_g (lw_at lw_m4 148 rfl) rfl
theorem q938 : (Jvm.Cond.soleField "MorrisTables$Reader" "spot") ∈ lw_all := lw_g (lw_at lw_m4 149 rfl) rfl
theorem q939 : (Jvm.Cond.lays "MorrisTables$Reader" "MorrisTables$Reader" "isWrong" "Z") ∈ lw_all := lw_g (lw_at lw_m4 150 rfl) rfl
theorem q940 : (Jvm.Cond.soleField "MorrisTables$Reader" "isWrong") ∈ lw_all := lw_g (lw_at lw_m4 151 rfl) rfl
theorem q941 : (Jvm.Cond.laysFinal "MorrisTables$Reader" "MorrisTables$Reader" "this$0" "LMorrisTables;") ∈ lw_all := lw_g (lw_at lw_m4 152 rfl) rfl
theorem q942 : (Jvm.Cond.soleField "MorrisTables$Reader" "this$0") ∈ lw_all := lw_g (lw_at lw_m4 153 rfl) rfl
theorem q943 : (Jvm.Cond.superclass "MorrisTables$Reader" "java/lang/Object") ∈ lw_all := lw_g (lw_at lw_m4 154 rfl) rfl
theorem q1290 : (Jvm.Cond.castable "MorrisTables$Reader" "java/lang/Object") ∈ lw_tbl := lw_at lw_m6 21 rfl
theorem in_X6 : ∀ w ∈ wsX60, w ∈ lw_all := lw_in wsX60 [935, 937, 939, 941] (by decide +kernel) (by decide +kernel)
end
