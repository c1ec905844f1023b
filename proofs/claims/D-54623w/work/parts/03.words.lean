section
theorem q69 : (Jvm.Cond.initialized "MorrisTablesLaw") ∈ lw_all := lw_g (lw_at lw_m1 0 rfl) rfl
set_option maxRecDepth 100000
theorem q95 : (Jvm.Cond.classLink "MorrisTablesLaw" (7 : Nat) "MorrisTables") ∈ lw_all := lw_g (lw_at lw_m1 26 rfl) rfl
theorem q97 : (Jvm.Cond.methodLink "MorrisTablesLaw" (9 : Nat) ({ cls := "MorrisTables", name := "<init>", desc := "()V" } : Jvm.MethodName)) ∈ lw_all := lw_g (lw_at lw_m1 28 rfl) rfl
theorem q279 : (Jvm.Cond.methodLink "MorrisTablesLaw" (13 : Nat) ({ cls := "MorrisTables", name := "set", desc := "(II)I" } : Jvm.MethodName)) ∈ lw_all := lw_g (lw_at lw_m1 210 rfl) rfl
theorem q342 : (Jvm.Cond.methodLink "MorrisTablesLaw" (18 : Nat) ({ cls := "MorrisTables", name := "begin", desc := "()I" } : Jvm.MethodName)) ∈ lw_all := lw_g (lw_at lw_m2 33 rfl) rfl
theorem q346 : (Jvm.Cond.methodLink "MorrisTablesLaw" (23 : Nat) ({ cls := "MorrisTables", name := "place", desc := "(I)I" } : Jvm.MethodName)) ∈ lw_all := lw_g (lw_at lw_m2 37 rfl) rfl
theorem q582 : (Jvm.Cond.methodLink "MorrisTablesLaw" (28 : Nat) ({ cls := "MorrisTables", name := "slide", desc := "(II)I" } : Jvm.MethodName)) ∈ lw_all := lw_g (lw_at lw_m3 33 rfl) rfl
theorem q590 : (Jvm.Cond.methodLink "MorrisTablesLaw" (32 : Nat) ({ cls := "MorrisTables", name := "pass", desc := "()I" } : Jvm.MethodName)) ∈ lw_all := lw_g (lw_at lw_m3 41 rfl) rfl
theorem q598 : (Jvm.Cond.methodLink "MorrisTablesLaw" (36 : Nat) ({ cls := "MorrisTables", name := "play", desc := "(I)I" } : Jvm.MethodName)) ∈ lw_all := lw_g (lw_at lw_m3 49 rfl) rfl
theorem q620 : (Jvm.Cond.methodLink "MorrisTablesLaw" (40 : Nat) ({ cls := "MorrisTables", name := "at", desc := "(I)I" } : Jvm.MethodName)) ∈ lw_all := lw_g (lw_at lw_m3 71 rfl) rfl
theorem q624 : (Jvm.Cond.methodLink "MorrisTablesLaw" (44 : Nat) ({ cls := "MorrisTables", name := "count", desc := "(I)I" } : Jvm.MethodName)) ∈ lw_all := lw_g (lw_at lw_m3 75 rfl) rfl
theorem q639 : (Jvm.Cond.methodLink "MorrisTablesLaw" (48 : Nat) ({ cls := "MorrisTables", name := "neighbours", desc := "(I)I" } : Jvm.MethodName)) ∈ lw_all := lw_g (lw_at lw_m3 90 rfl) rfl
theorem q644 : (Jvm.Cond.methodLink "MorrisTablesLaw" (52 : Nat) ({ cls := "MorrisTables", name := "move", desc := "(I)I" } : Jvm.MethodName)) ∈ lw_all := lw_g (lw_at lw_m3 95 rfl) rfl
theorem q648 : (Jvm.Cond.methodLink "MorrisTablesLaw" (56 : Nat) ({ cls := "MorrisTables", name := "worth", desc := "()I" } : Jvm.MethodName)) ∈ lw_all := lw_g (lw_at lw_m3 99 rfl) rfl
theorem q652 : (Jvm.Cond.methodLink "MorrisTablesLaw" (60 : Nat) ({ cls := "MorrisTables", name := "behind", desc := "(I)I" } : Jvm.MethodName)) ∈ lw_all := lw_g (lw_at lw_m3 103 rfl) rfl
theorem q656 : (Jvm.Cond.methodLink "MorrisTablesLaw" (64 : Nat) ({ cls := "MorrisTables", name := "best", desc := "()I" } : Jvm.MethodName)) ∈ lw_all := lw_g (lw_at lw_m3 107 rfl) rfl
theorem q660 : (Jvm.Cond.methodLink "MorrisTablesLaw" (68 : Nat) ({ cls := "MorrisTables", name := "worthOf", desc := "(III)I" } : Jvm.MethodName)) ∈ lw_all := lw_g (lw_at lw_m3 111 rfl) rfl
theorem q665 : (Jvm.Cond.methodLink "MorrisTablesLaw" (73 : Nat) ({ cls := "MorrisTables", name := "tally", desc := "(I)I" } : Jvm.MethodName)) ∈ lw_all := lw_g (lw_at lw_m3 116 rfl) rfl
theorem q685 : (Jvm.Cond.methodLink "MorrisTablesLaw" (77 : Nat) ({ cls := "MorrisTables", name := "share", desc := "()I" } : Jvm.MethodName)) ∈ lw_all := lw_g (lw_at lw_m3 136 rfl) rfl
theorem q699 : (Jvm.Cond.methodLink "MorrisTablesLaw" (81 : Nat) ({ cls := "MorrisTables", name := "many", desc := "(I)I" } : Jvm.MethodName)) ∈ lw_all := lw_g (lw_at lw_m3 150 rfl) rfl
theorem q703 : (Jvm.Cond.methodLink "MorrisTablesLaw" (87 : Nat) ({ cls := "MorrisTables", name := "put", desc := "(J)I" } : Jvm.MethodName)) ∈ lw_all := lw_g (lw_at lw_m3 154 rfl) rfl
theorem q784 : (Jvm.Cond.methodLink "MorrisTablesLaw" (92 : Nat) ({ cls := "MorrisTables", name := "wipe", desc := "()I" } : Jvm.MethodName)) ∈ lw_all := lw_g (lw_at lw_m3 235 rfl) rfl
theorem q808 : (Jvm.Cond.methodLink "MorrisTablesLaw" (96 : Nat) ({ cls := "MorrisTables", name := "fault", desc := "()I" } : Jvm.MethodName)) ∈ lw_all := lw_g (lw_at lw_m4 19 rfl) rfl
theorem q944 : (Jvm.Cond.methodLink "MorrisTablesLaw" (100 : Nat) ({ cls := "MorrisTables", name := "carryOut", desc := "()I" } : Jvm.MethodName)) ∈ lw_all := lw_g (lw_at lw_m4 155 rfl) rfl
theorem q955 : (Jvm.Cond.methodLink "MorrisTablesLaw" (104 : Nat) ({ cls := "MorrisTables", name := "undo", desc := "()I" } : Jvm.MethodName)) ∈ lw_all := lw_g (lw_at lw_m4 166 rfl) rfl
theorem q968 : (Jvm.Cond.methodLink "MorrisTablesLaw" (108 : Nat) ({ cls := "MorrisTables", name := "save", desc := "(I)I" } : Jvm.MethodName)) ∈ lw_all := lw_g (lw_at lw_m4 179 rfl) rfl
theorem q972 : (Jvm.Cond.methodLink "MorrisTablesLaw" (112 : Nat) ({ cls := "MorrisTables", name := "restore", desc := "(I)I" } : Jvm.MethodName)) ∈ lw_all := lw_g (lw_at lw_m4 183 rfl) rfl
theorem q976 : (Jvm.Cond.classLink "MorrisTablesLaw" (10 : Nat) "MorrisTablesModel") ∈ lw_all := lw_g (lw_at lw_m4 187 rfl) rfl
theorem q978 : (Jvm.Cond.methodLink "MorrisTablesLaw" (12 : Nat) ({ cls := "MorrisTablesModel", name := "<init>", desc := "()V" } : Jvm.MethodName)) ∈ lw_all := lw_g (lw_at lw_m4 189 rfl) rfl
theorem q1034 : (Jvm.Cond.methodLink "MorrisTablesLaw" (107 : Nat) ({ cls := "MorrisTablesModel", name := "undo", desc := "()I" } : Jvm.MethodName)) ∈ lw_all := lw_g (lw_at lw_m5 5 rfl) rfl
theorem q1038 : (Jvm.Cond.methodLink "MorrisTablesLaw" (111 : Nat) ({ cls := "MorrisTablesModel", name := "save", desc := "(I)I" } : Jvm.MethodName)) ∈ lw_all := lw_g (lw_at lw_m5 9 rfl) rfl
theorem q1045 : (Jvm.Cond.methodLink "MorrisTablesLaw" (115 : Nat) ({ cls := "MorrisTablesModel", name := "restore", desc := "(I)I" } : Jvm.MethodName)) ∈ lw_all := lw_g (lw_at lw_m5 16 rfl) rfl
theorem q1058 : (Jvm.Cond.methodLink "MorrisTablesLaw" (17 : Nat) ({ cls := "MorrisTablesModel", name := "set", desc := "(II)I" } : Jvm.MethodName)) ∈ lw_all := lw_g (lw_at lw_m5 29 rfl) rfl
theorem q1066 : (Jvm.Cond.methodLink "MorrisTablesLaw" (22 : Nat) ({ cls := "MorrisTablesModel", name := "begin", desc := "()I" } : Jvm.MethodName)) ∈ lw_all := lw_g (lw_at lw_m5 37 rfl) rfl
theorem q1070 : (Jvm.Cond.methodLink "MorrisTablesLaw" (27 : Nat) ({ cls := "MorrisTablesModel", name := "place", desc := "(I)I" } : Jvm.MethodName)) ∈ lw_all := lw_g (lw_at lw_m5 41 rfl) rfl
theorem q1142 : (Jvm.Cond.methodLink "MorrisTablesLaw" (31 : Nat) ({ cls := "MorrisTablesModel", name := "slide", desc := "(II)I" } : Jvm.MethodName)) ∈ lw_all := lw_g (lw_at lw_m5 113 rfl) rfl
theorem q1150 : (Jvm.Cond.methodLink "MorrisTablesLaw" (35 : Nat) ({ cls := "MorrisTablesModel", name := "pass", desc := "()I" } : Jvm.MethodName)) ∈ lw_all := lw_g (lw_at lw_m5 121 rfl) rfl
theorem q1154 : (Jvm.Cond.methodLink "MorrisTablesLaw" (39 : Nat) ({ cls := "MorrisTablesModel", name := "play", desc := "(I)I" } : Jvm.MethodName)) ∈ lw_all := lw_g (lw_at lw_m5 125 rfl) rfl
theorem q1187 : (Jvm.Cond.methodLink "MorrisTablesLaw" (43 : Nat) ({ cls := "MorrisTablesModel", name := "at", desc := "(I)I" } : Jvm.MethodName)) ∈ lw_all := lw_g (lw_at lw_m5 158 rfl) rfl
theorem q1191 : (Jvm.Cond.methodLink "MorrisTablesLaw" (47 : Nat) ({ cls := "MorrisTablesModel", name := "count", desc := "(I)I" } : Jvm.MethodName)) ∈ lw_all := lw_g (lw_at lw_m5 162 rfl) rfl
theorem q1199 : (Jvm.Cond.methodLink "MorrisTablesLaw" (51 : Nat) ({ cls := "MorrisTablesModel", name := "neighbours", desc := "(I)I" } : Jvm.MethodName)) ∈ lw_all := lw_g (lw_at lw_m5 170 rfl) rfl
theorem q1203 : (Jvm.Cond.methodLink "MorrisTablesLaw" (55 : Nat) ({ cls := "MorrisTablesModel", name := "move", desc := "(I)I" } : Jvm.MethodName)) ∈ lw_all := lw_g (lw_at lw_m5 174 rfl) rfl
theorem q1207 : (Jvm.Cond.methodLink "MorrisTablesLaw" (59 : Nat) ({ cls := "MorrisTablesModel", name := "worth", desc := "()I" } : Jvm.MethodName)) ∈ lw_all := lw_g (lw_at lw_m5 178 rfl) rfl
theorem q1211 : (Jvm.Cond.methodLink "MorrisTablesLaw" (63 : Nat) ({ cls := "MorrisTablesModel", name := "behind", desc := "(I)I" } : Jvm.MethodName)) ∈ lw_all := lw_g (lw_at lw_m5 182 rfl) rfl
theorem q1215 : (Jvm.Cond.methodLink "MorrisTablesLaw" (67 : Nat) ({ cls := "MorrisTablesModel", name := "best", desc := "()I" } : Jvm.MethodName)) ∈ lw_all := lw_g (lw_at lw_m5 186 rfl) rfl
theorem q1219 : (Jvm.Cond.methodLink "MorrisTablesLaw" (72 : Nat) ({ cls := "MorrisTablesModel", name := "worthOf", desc := "(III)I" } : Jvm.MethodName)) ∈ lw_all := lw_g (lw_at lw_m5 190 rfl) rfl
theorem q1223 : (Jvm.Cond.methodLink "MorrisTablesLaw" (76 : Nat) ({ cls := "MorrisTablesModel", name := "tally", desc := "(I)I" } : Jvm.MethodName)) ∈ lw_all := lw_g (lw_at lw_m5 194 rfl) rfl
theorem q1227 : (Jvm.Cond.methodLink "MorrisTablesLaw" (80 : Nat) ({ cls := "MorrisTablesModel", name := "share", desc := "()I" } : Jvm.MethodName)) ∈ lw_all := lw_g (lw_at lw_m5 198 rfl) rfl
theorem q1233 : (Jvm.Cond.methodLink "MorrisTablesLaw" (84 : Nat) ({ cls := "MorrisTablesModel", name := "many", desc := "(I)I" } : Jvm.MethodName)) ∈ lw_all := lw_g (lw_at lw_m5 204 rfl) rfl
theorem q1237 : (Jvm.Cond.methodLink "MorrisTablesLaw" (91 : Nat) ({ cls := "MorrisTablesModel", name := "put", desc := "(J)I" } : Jvm.MethodName)) ∈ lw_all := lw_g (lw_at lw_m5 208 rfl) rfl
theorem q1242 : (Jvm.Cond.methodLink "MorrisTablesLaw" (95 : Nat) ({ cls := "MorrisTablesModel", name := "wipe", desc := "()I" } : Jvm.MethodName)) ∈ lw_all := lw_g (lw_at lw_m5 213 rfl) rfl
theorem q1246 : (Jvm.Cond.methodLink "MorrisTablesLaw" (99 : Nat) ({ cls := "MorrisTablesModel", name := "fault", desc := "()I" } : Jvm.MethodName)) ∈ lw_all := lw_g (lw_at lw_m5 217 rfl) rfl
theorem q1266 : (Jvm.Cond.methodLink "MorrisTablesLaw" (103 : Nat) ({ cls := "MorrisTablesModel", name := "carryOut", desc := "()I" } : Jvm.MethodName)) ∈ lw_all := lw_g (lw_at lw_m5 237 rfl) rfl
theorem q1270 : (Jvm.Cond.constantLong "MorrisTablesLaw" (85 : Nat) (4294967295 : Int64)) ∈ lw_all := lw_g (lw_at lw_m6 1 rfl) rfl
end

section
theorem q729 : (Jvm.Cond.sameMethod "[B" "java/lang/Object" "clone" "()Ljava/lang/Object;") ∈ lw_all := lw_g (lw_at lw_m3 180 rfl) rfl
set_option maxRecDepth 100000
theorem q730 : (Jvm.Cond.selects "[B" ({ cls := "[B", name := "clone", desc := "()Ljava/lang/Object;" } : Jvm.MethodName) ({ cls := "java/lang/Object", name := "clone", desc := "()Ljava/lang/Object;" } : Jvm.MethodName)) ∈ lw_all := lw_g (lw_at lw_m3 181 rfl) rfl
theorem q731 : (Jvm.Cond.castable "[B" "java/lang/Cloneable") ∈ lw_tbl := lw_at lw_m3 182 rfl
theorem q1299 : (Jvm.Cond.castable "[B" "java/lang/Object") ∈ lw_tbl := lw_at lw_m6 30 rfl
end

section
theorem q330 : (Jvm.Cond.sameMethod "[I" "java/lang/Object" "clone" "()Ljava/lang/Object;") ∈ lw_all := lw_g (lw_at lw_m2 21 rfl) rfl
set_option maxRecDepth 100000
theorem q333 : (Jvm.Cond.selects "[I" ({ cls := "[I", name := "clone", desc := "()Ljava/lang/Object;" } : Jvm.MethodName) ({ cls := "java/lang/Object", name := "clone", desc := "()Ljava/lang/Object;" } : Jvm.MethodName)) ∈ lw_all := lw_g (lw_at lw_m2 24 rfl) rfl
theorem q334 : (Jvm.Cond.castable "[I" "java/lang/Cloneable") ∈ lw_tbl := lw_at lw_m2 25 rfl
theorem q1297 : (Jvm.Cond.castable "[I" "java/lang/Object") ∈ lw_tbl := lw_at lw_m6 28 rfl
end

section
theorem q1298 : (Jvm.Cond.castable "[LMorrisTables$Game;" "java/lang/Object") ∈ lw_tbl := lw_at lw_m6 29 rfl
set_option maxRecDepth 100000
end

section
theorem q1293 : (Jvm.Cond.sameMethod "[Ljava/lang/Object;" "java/lang/Object" "getClass" "()Ljava/lang/Class;") ∈ lw_all := lw_g (lw_at lw_m6 24 rfl) rfl
set_option maxRecDepth 100000
theorem q1294 : (Jvm.Cond.selects "[Ljava/lang/Object;" ({ cls := "java/lang/Object", name := "getClass", desc := "()Ljava/lang/Class;" } : Jvm.MethodName) ({ cls := "java/lang/Object", name := "getClass", desc := "()Ljava/lang/Class;" } : Jvm.MethodName)) ∈ lw_all := lw_g (lw_at lw_m6 25 rfl) rfl
theorem q1296 : (Jvm.Cond.castable "[Ljava/lang/Object;" "java/lang/Object") ∈ lw_tbl := lw_at lw_m6 27 rfl
end

section
theorem q1300 : (Jvm.Cond.castable "[Z" "java/lang/Object") ∈ lw_tbl := lw_at lw_m6 31 rfl
set_option maxRecDepth 100000
end

section
theorem q89 : (Jvm.Cond.initialized "java/lang/Number") ∈ lw_all := lw_g (lw_at lw_m1 20 rfl) rfl
set_option maxRecDepth 100000
end

section
theorem q78 : (Jvm.Cond.initialized "java/lang/System") ∈ lw_all := lw_g (lw_at lw_m1 9 rfl) rfl
set_option maxRecDepth 100000
theorem q192 : (Jvm.Cond.static ({ cls := "java/lang/System", name := "arraycopy", desc := "(Ljava/lang/Object;ILjava/lang/Object;II)V" } : Jvm.MethodName)) ∈ lw_all := lw_g (lw_at lw_m1 123 rfl) rfl
theorem q193 : (Jvm.Cond.native ({ cls := "java/lang/System", name := "arraycopy", desc := "(Ljava/lang/Object;ILjava/lang/Object;II)V" } : Jvm.MethodName)) ∈ lw_all := lw_g (lw_at lw_m1 124 rfl) rfl
end

section
theorem q137 : (Jvm.Cond.interfaceMethod "java/util/List" "java/util/List" "add" "(Ljava/lang/Object;)Z") ∈ lw_tbl := lw_at lw_m1 68 rfl
set_option maxRecDepth 100000
theorem q138 : (Jvm.Cond.declares ({ cls := "java/util/List", name := "add", desc := "(Ljava/lang/Object;)Z" } : Jvm.MethodName)) ∈ lw_tbl := lw_at lw_m1 69 rfl
theorem q296 : (Jvm.Cond.interfaceMethod "java/util/List" "java/util/List" "size" "()I") ∈ lw_tbl := lw_at lw_m1 227 rfl
theorem q297 : (Jvm.Cond.declares ({ cls := "java/util/List", name := "size", desc := "()I" } : Jvm.MethodName)) ∈ lw_tbl := lw_at lw_m1 228 rfl
theorem q305 : (Jvm.Cond.interfaceMethod "java/util/List" "java/util/List" "remove" "(I)Ljava/lang/Object;") ∈ lw_tbl := lw_at lw_m1 236 rfl
theorem q306 : (Jvm.Cond.declares ({ cls := "java/util/List", name := "remove", desc := "(I)Ljava/lang/Object;" } : Jvm.MethodName)) ∈ lw_tbl := lw_at lw_m1 237 rfl
theorem q379 : (Jvm.Cond.interfaceMethod "java/util/List" "java/util/List" "get" "(I)Ljava/lang/Object;") ∈ lw_tbl := lw_at lw_m2 70 rfl
theorem q380 : (Jvm.Cond.declares ({ cls := "java/util/List", name := "get", desc := "(I)Ljava/lang/Object;" } : Jvm.MethodName)) ∈ lw_tbl := lw_at lw_m2 71 rfl
theorem q538 : (Jvm.Cond.interfaceMethod "java/util/List" "java/util/List" "set" "(ILjava/lang/Object;)Ljava/lang/Object;") ∈ lw_tbl := lw_at lw_m2 229 rfl
theorem q539 : (Jvm.Cond.declares ({ cls := "java/util/List", name := "set", desc := "(ILjava/lang/Object;)Ljava/lang/Object;" } : Jvm.MethodName)) ∈ lw_tbl := lw_at lw_m2 230 rfl
theorem q961 : (Jvm.Cond.interfaceMethod "java/util/List" "java/util/List" "isEmpty" "()Z") ∈ lw_tbl := lw_at lw_m4 172 rfl
theorem q962 : (Jvm.Cond.declares ({ cls := "java/util/List", name := "isEmpty", desc := "()Z" } : Jvm.MethodName)) ∈ lw_tbl := lw_at lw_m4 173 rfl
end

section
theorem q186 : (Jvm.Cond.arrayOver (Jvm.ClassFile.FieldType.object "java/lang/Object")) ∈ lw_tbl := lw_at lw_m1 117 rfl
set_option maxRecDepth 100000
theorem q226 : (Jvm.Cond.arrayClass Jvm.ClassFile.FieldType.int) ∈ lw_all := lw_g (lw_at lw_m1 157 rfl) rfl
theorem q229 : (Jvm.Cond.arrayOver (Jvm.ClassFile.FieldType.object "MorrisTables$Game")) ∈ lw_tbl := lw_at lw_m1 160 rfl
theorem q261 : (Jvm.Cond.arrayClass Jvm.ClassFile.FieldType.byte) ∈ lw_all := lw_g (lw_at lw_m1 192 rfl) rfl
theorem q1033 : (Jvm.Cond.arrayClass Jvm.ClassFile.FieldType.boolean) ∈ lw_all := lw_g (lw_at lw_m5 4 rfl) rfl
end
