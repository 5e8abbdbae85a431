theorem q100 : (Jvm.Cond.initialized "Quorumspire$Word") ∈ lw_all := lw_g (lw_at lw_m1 32 rfl) rfl
set_option maxRecDepth 100000
theorem q656 : (Jvm.Cond.selects "Quorumspire$Word" ({ cls := "java/lang/Object", name := "getClass", desc := "()Ljava/lang/Class;" } : Jvm.MethodName) ({ cls := "java/lang/Object", name := "getClass", desc := "()Ljava/lang/Class;" } : Jvm.MethodName)) ∈ lw_all := lw_g (lw_at lw_m3 108 rfl) rfl
theorem q800 : (Jvm.Cond.sameMethod "Quorumspire$Word" "java/lang/Enum" "ordinal" "()I") ∈ lw_all := lw_g (lw_at lw_m4 12 rfl) rfl
theorem q802 : (Jvm.Cond.selects "Quorumspire$Word" ({ cls := "Quorumspire$Word", name := "ordinal", desc := "()I" } : Jvm.MethodName) ({ cls := "java/lang/Enum", name := "ordinal", desc := "()I" } : Jvm.MethodName)) ∈ lw_all := lw_g (lw_at lw_m4 14 rfl) rfl
theorem q1043 : (Jvm.Cond.laysStatic "Quorumspire$Word" "ASK" "LQuorumspire$Word;") ∈ lw_tbl := lw_at lw_m5 15 rfl
theorem q1136 : (Jvm.Cond.laysStatic "Quorumspire$Word" "SNAP" "LQuorumspire$Word;") ∈ lw_tbl := lw_at lw_m5 108 rfl
theorem q1138 : (Jvm.Cond.laysStatic "Quorumspire$Word" "MORE" "LQuorumspire$Word;") ∈ lw_tbl := lw_at lw_m5 110 rfl
theorem q1210 : (Jvm.Cond.laysStatic "Quorumspire$Word" "VOTE" "LQuorumspire$Word;") ∈ lw_tbl := lw_at lw_m5 182 rfl
theorem q1224 : (Jvm.Cond.laysStatic "Quorumspire$Word" "HAS" "LQuorumspire$Word;") ∈ lw_tbl := lw_at lw_m5 196 rfl
theorem q2273 : (Jvm.Cond.selects "Quorumspire$Word" ({ cls := "java/lang/Object", name := "equals", desc := "(Ljava/lang/Object;)Z" } : Jvm.MethodName) ({ cls := "java/lang/Enum", name := "equals", desc := "(Ljava/lang/Object;)Z" } : Jvm.MethodName)) ∈ lw_all := lw_g (lw_at lw_m10 45 rfl) rfl
theorem q2434 : (Jvm.Cond.castable "Quorumspire$Word" "java/lang/Object") ∈ lw_tbl := lw_at lw_m10 206 rfl
theorem q415 : (Jvm.Cond.sameMethod "[B" "java/lang/Object" "clone" "()Ljava/lang/Object;") ∈ lw_all := lw_g (lw_at lw_m2 107 rfl) rfl
set_option maxRecDepth 100000
theorem q418 : (Jvm.Cond.selects "[B" ({ cls := "[B", name := "clone", desc := "()Ljava/lang/Object;" } : Jvm.MethodName) ({ cls := "java/lang/Object", name := "clone", desc := "()Ljava/lang/Object;" } : Jvm.MethodName)) ∈ lw_all := lw_g (lw_at lw_m2 110 rfl) rfl
theorem q419 : (Jvm.Cond.castable "[B" "java/lang/Cloneable") ∈ lw_tbl := lw_at lw_m2 111 rfl
theorem q2445 : (Jvm.Cond.castable "[B" "java/lang/Object") ∈ lw_tbl := lw_at lw_m10 217 rfl
theorem q2447 : (Jvm.Cond.castable "[I" "java/lang/Object") ∈ lw_tbl := lw_at lw_m10 219 rfl
set_option maxRecDepth 100000
theorem q2444 : (Jvm.Cond.castable "[J" "java/lang/Object") ∈ lw_tbl := lw_at lw_m10 216 rfl
set_option maxRecDepth 100000
theorem q2450 : (Jvm.Cond.castable "[LQuorumspireModel$Machine;" "java/lang/Object") ∈ lw_tbl := lw_at lw_m10 222 rfl
set_option maxRecDepth 100000
theorem q2448 : (Jvm.Cond.castable "[LQuorumspire$Entry;" "java/lang/Object") ∈ lw_tbl := lw_at lw_m10 220 rfl
set_option maxRecDepth 100000
theorem q1325 : (Jvm.Cond.sameMethod "[LQuorumspire$Kind;" "java/lang/Object" "clone" "()Ljava/lang/Object;") ∈ lw_all := lw_g (lw_at lw_m6 57 rfl) rfl
set_option maxRecDepth 100000
theorem q1326 : (Jvm.Cond.selects "[LQuorumspire$Kind;" ({ cls := "[LQuorumspire$Kind;", name := "clone", desc := "()Ljava/lang/Object;" } : Jvm.MethodName) ({ cls := "java/lang/Object", name := "clone", desc := "()Ljava/lang/Object;" } : Jvm.MethodName)) ∈ lw_all := lw_g (lw_at lw_m6 58 rfl) rfl
theorem q1327 : (Jvm.Cond.castable "[LQuorumspire$Kind;" "java/lang/Cloneable") ∈ lw_tbl := lw_at lw_m6 59 rfl
theorem q2449 : (Jvm.Cond.castable "[LQuorumspire$Kind;" "java/lang/Object") ∈ lw_tbl := lw_at lw_m10 221 rfl
theorem q2442 : (Jvm.Cond.sameMethod "[Ljava/lang/Object;" "java/lang/Object" "getClass" "()Ljava/lang/Class;") ∈ lw_all := lw_g (lw_at lw_m10 214 rfl) rfl
set_option maxRecDepth 100000
theorem q2443 : (Jvm.Cond.selects "[Ljava/lang/Object;" ({ cls := "java/lang/Object", name := "getClass", desc := "()Ljava/lang/Class;" } : Jvm.MethodName) ({ cls := "java/lang/Object", name := "getClass", desc := "()Ljava/lang/Class;" } : Jvm.MethodName)) ∈ lw_all := lw_g (lw_at lw_m10 215 rfl) rfl
theorem q2446 : (Jvm.Cond.castable "[Ljava/lang/Object;" "java/lang/Object") ∈ lw_tbl := lw_at lw_m10 218 rfl
theorem q2451 : (Jvm.Cond.castable "[[I" "java/lang/Object") ∈ lw_tbl := lw_at lw_m10 223 rfl
set_option maxRecDepth 100000
theorem q111 : (Jvm.Cond.initialized "java/lang/Integer$IntegerCache") ∈ lw_all := lw_g (lw_at lw_m1 43 rfl) rfl
set_option maxRecDepth 100000
theorem q2229 : (Jvm.Cond.laysStatic "java/lang/Integer$IntegerCache" "high" "I") ∈ lw_tbl := lw_at lw_m10 1 rfl
theorem q2231 : (Jvm.Cond.laysStatic "java/lang/Integer$IntegerCache" "cache" "[Ljava/lang/Integer;") ∈ lw_tbl := lw_at lw_m10 3 rfl
theorem q89 : (Jvm.Cond.initialized "java/lang/System") ∈ lw_all := lw_g (lw_at lw_m1 21 rfl) rfl
set_option maxRecDepth 100000
theorem q423 : (Jvm.Cond.static ({ cls := "java/lang/System", name := "arraycopy", desc := "(Ljava/lang/Object;ILjava/lang/Object;II)V" } : Jvm.MethodName)) ∈ lw_all := lw_g (lw_at lw_m2 115 rfl) rfl
theorem q424 : (Jvm.Cond.native ({ cls := "java/lang/System", name := "arraycopy", desc := "(Ljava/lang/Object;ILjava/lang/Object;II)V" } : Jvm.MethodName)) ∈ lw_all := lw_g (lw_at lw_m2 116 rfl) rfl
theorem q1841 : (Jvm.Cond.interfaceMethod "java/util/Collection" "java/util/Collection" "toArray" "()[Ljava/lang/Object;") ∈ lw_tbl := lw_at lw_m8 93 rfl
set_option maxRecDepth 100000
theorem q1842 : (Jvm.Cond.declares ({ cls := "java/util/Collection", name := "toArray", desc := "()[Ljava/lang/Object;" } : Jvm.MethodName)) ∈ lw_tbl := lw_at lw_m8 94 rfl
theorem q1851 : (Jvm.Cond.interfaceMethod "java/util/Collection" "java/lang/Object" "getClass" "()Ljava/lang/Class;") ∈ lw_tbl := lw_at lw_m8 103 rfl
theorem q2077 : (Jvm.Cond.interfaceMethod "java/util/Iterator" "java/util/Iterator" "hasNext" "()Z") ∈ lw_tbl := lw_at lw_m9 89 rfl
set_option maxRecDepth 100000
theorem q2078 : (Jvm.Cond.declares ({ cls := "java/util/Iterator", name := "hasNext", desc := "()Z" } : Jvm.MethodName)) ∈ lw_tbl := lw_at lw_m9 90 rfl
theorem q2087 : (Jvm.Cond.interfaceMethod "java/util/Iterator" "java/util/Iterator" "next" "()Ljava/lang/Object;") ∈ lw_tbl := lw_at lw_m9 99 rfl
theorem q2088 : (Jvm.Cond.declares ({ cls := "java/util/Iterator", name := "next", desc := "()Ljava/lang/Object;" } : Jvm.MethodName)) ∈ lw_tbl := lw_at lw_m9 100 rfl
theorem q190 : (Jvm.Cond.interfaceMethod "java/util/List" "java/util/List" "size" "()I") ∈ lw_tbl := lw_at lw_m1 122 rfl
set_option maxRecDepth 100000
theorem q191 : (Jvm.Cond.declares ({ cls := "java/util/List", name := "size", desc := "()I" } : Jvm.MethodName)) ∈ lw_tbl := lw_at lw_m1 123 rfl
theorem q204 : (Jvm.Cond.interfaceMethod "java/util/List" "java/util/List" "get" "(I)Ljava/lang/Object;") ∈ lw_tbl := lw_at lw_m1 136 rfl
theorem q205 : (Jvm.Cond.declares ({ cls := "java/util/List", name := "get", desc := "(I)Ljava/lang/Object;" } : Jvm.MethodName)) ∈ lw_tbl := lw_at lw_m1 137 rfl
theorem q292 : (Jvm.Cond.interfaceMethod "java/util/List" "java/util/List" "add" "(ILjava/lang/Object;)V") ∈ lw_tbl := lw_at lw_m1 224 rfl
theorem q293 : (Jvm.Cond.declares ({ cls := "java/util/List", name := "add", desc := "(ILjava/lang/Object;)V" } : Jvm.MethodName)) ∈ lw_tbl := lw_at lw_m1 225 rfl
theorem q684 : (Jvm.Cond.interfaceMethod "java/util/List" "java/util/List" "remove" "(I)Ljava/lang/Object;") ∈ lw_tbl := lw_at lw_m3 136 rfl
theorem q685 : (Jvm.Cond.declares ({ cls := "java/util/List", name := "remove", desc := "(I)Ljava/lang/Object;" } : Jvm.MethodName)) ∈ lw_tbl := lw_at lw_m3 137 rfl
theorem q874 : (Jvm.Cond.interfaceMethod "java/util/List" "java/util/List" "add" "(Ljava/lang/Object;)Z") ∈ lw_tbl := lw_at lw_m4 86 rfl
theorem q875 : (Jvm.Cond.declares ({ cls := "java/util/List", name := "add", desc := "(Ljava/lang/Object;)Z" } : Jvm.MethodName)) ∈ lw_tbl := lw_at lw_m4 87 rfl
theorem q1185 : (Jvm.Cond.interfaceMethod "java/util/List" "java/util/List" "isEmpty" "()Z") ∈ lw_tbl := lw_at lw_m5 157 rfl
theorem q1186 : (Jvm.Cond.declares ({ cls := "java/util/List", name := "isEmpty", desc := "()Z" } : Jvm.MethodName)) ∈ lw_tbl := lw_at lw_m5 158 rfl
theorem q380 : (Jvm.Cond.arrayClass Jvm.ClassFile.FieldType.long) ∈ lw_all := lw_g (lw_at lw_m2 72 rfl) rfl
set_option maxRecDepth 100000
theorem q381 : (Jvm.Cond.arrayClass Jvm.ClassFile.FieldType.byte) ∈ lw_all := lw_g (lw_at lw_m2 73 rfl) rfl
theorem q677 : (Jvm.Cond.arrayOver (Jvm.ClassFile.FieldType.object "java/lang/Object")) ∈ lw_tbl := lw_at lw_m3 129 rfl
theorem q918 : (Jvm.Cond.arrayClass Jvm.ClassFile.FieldType.int) ∈ lw_all := lw_g (lw_at lw_m4 130 rfl) rfl
theorem q1054 : (Jvm.Cond.arrayOver (Jvm.ClassFile.FieldType.object "Quorumspire$Entry")) ∈ lw_tbl := lw_at lw_m5 26 rfl
theorem q1328 : (Jvm.Cond.arrayOver (Jvm.ClassFile.FieldType.object "Quorumspire$Kind")) ∈ lw_tbl := lw_at lw_m6 60 rfl
theorem q1608 : (Jvm.Cond.arrayOver (Jvm.ClassFile.FieldType.object "QuorumspireModel$Machine")) ∈ lw_tbl := lw_at lw_m7 100 rfl
theorem q2050 : (Jvm.Cond.arrayOver (Jvm.ClassFile.FieldType.array Jvm.ClassFile.FieldType.int)) ∈ lw_tbl := lw_at lw_m9 62 rfl
