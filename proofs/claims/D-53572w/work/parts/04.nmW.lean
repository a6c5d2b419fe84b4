theorem q58 : (Jvm.Cond.initialized "SiteCutsLaw") ∈ lw_all := lw_g (lw_at lw_m1 0 rfl) rfl
set_option maxRecDepth 100000
theorem q88 : (Jvm.Cond.classLink "SiteCutsLaw" (7 : Nat) "SiteCuts") ∈ lw_all := lw_g (lw_at lw_m1 30 rfl) rfl
theorem q90 : (Jvm.Cond.methodLink "SiteCutsLaw" (9 : Nat) ({ cls := "SiteCuts", name := "<init>", desc := "()V" } : Jvm.MethodName)) ∈ lw_all := lw_g (lw_at lw_m1 32 rfl) rfl
theorem q235 : (Jvm.Cond.methodLink "SiteCutsLaw" (13 : Nat) ({ cls := "SiteCuts", name := "addSite", desc := "(I)I" } : Jvm.MethodName)) ∈ lw_all := lw_g (lw_at lw_m1 177 rfl) rfl
theorem q392 : (Jvm.Cond.methodLink "SiteCutsLaw" (18 : Nat) ({ cls := "SiteCuts", name := "addCustomer", desc := "(I)I" } : Jvm.MethodName)) ∈ lw_all := lw_g (lw_at lw_m2 94 rfl) rfl
theorem q396 : (Jvm.Cond.methodLink "SiteCutsLaw" (22 : Nat) ({ cls := "SiteCuts", name := "setPrice", desc := "(II)I" } : Jvm.MethodName)) ∈ lw_all := lw_g (lw_at lw_m2 98 rfl) rfl
theorem q404 : (Jvm.Cond.methodLink "SiteCutsLaw" (27 : Nat) ({ cls := "SiteCuts", name := "setDemand", desc := "(II)I" } : Jvm.MethodName)) ∈ lw_all := lw_g (lw_at lw_m2 106 rfl) rfl
theorem q412 : (Jvm.Cond.methodLink "SiteCutsLaw" (31 : Nat) ({ cls := "SiteCuts", name := "setRoute", desc := "(III)I" } : Jvm.MethodName)) ∈ lw_all := lw_g (lw_at lw_m2 114 rfl) rfl
theorem q420 : (Jvm.Cond.methodLink "SiteCutsLaw" (36 : Nat) ({ cls := "SiteCuts", name := "setMost", desc := "(I)I" } : Jvm.MethodName)) ∈ lw_all := lw_g (lw_at lw_m2 122 rfl) rfl
theorem q424 : (Jvm.Cond.methodLink "SiteCutsLaw" (40 : Nat) ({ cls := "SiteCuts", name := "exclude", desc := "(IIZ)I" } : Jvm.MethodName)) ∈ lw_all := lw_g (lw_at lw_m2 126 rfl) rfl
theorem q437 : (Jvm.Cond.methodLink "SiteCutsLaw" (45 : Nat) ({ cls := "SiteCuts", name := "step", desc := "()I" } : Jvm.MethodName)) ∈ lw_all := lw_g (lw_at lw_m2 139 rfl) rfl
theorem q646 : (Jvm.Cond.methodLink "SiteCutsLaw" (50 : Nat) ({ cls := "SiteCuts", name := "solve", desc := "()I" } : Jvm.MethodName)) ∈ lw_all := lw_g (lw_at lw_m3 108 rfl) rfl
theorem q650 : (Jvm.Cond.methodLink "SiteCutsLaw" (54 : Nat) ({ cls := "SiteCuts", name := "readCut", desc := "()I" } : Jvm.MethodName)) ∈ lw_all := lw_g (lw_at lw_m3 112 rfl) rfl
theorem q792 : (Jvm.Cond.methodLink "SiteCutsLaw" (58 : Nat) ({ cls := "SiteCuts", name := "drop", desc := "(I)I" } : Jvm.MethodName)) ∈ lw_all := lw_g (lw_at lw_m4 14 rfl) rfl
theorem q800 : (Jvm.Cond.methodLink "SiteCutsLaw" (62 : Nat) ({ cls := "SiteCuts", name := "dropLoose", desc := "()I" } : Jvm.MethodName)) ∈ lw_all := lw_g (lw_at lw_m4 22 rfl) rfl
theorem q813 : (Jvm.Cond.methodLink "SiteCutsLaw" (66 : Nat) ({ cls := "SiteCuts", name := "type", desc := "(C)I" } : Jvm.MethodName)) ∈ lw_all := lw_g (lw_at lw_m4 35 rfl) rfl
theorem q882 : (Jvm.Cond.methodLink "SiteCutsLaw" (71 : Nat) ({ cls := "SiteCuts", name := "clearText", desc := "()I" } : Jvm.MethodName)) ∈ lw_all := lw_g (lw_at lw_m4 104 rfl) rfl
theorem q906 : (Jvm.Cond.methodLink "SiteCutsLaw" (75 : Nat) ({ cls := "SiteCuts", name := "undo", desc := "()I" } : Jvm.MethodName)) ∈ lw_all := lw_g (lw_at lw_m4 128 rfl) rfl
theorem q919 : (Jvm.Cond.methodLink "SiteCutsLaw" (79 : Nat) ({ cls := "SiteCuts", name := "keep", desc := "()I" } : Jvm.MethodName)) ∈ lw_all := lw_g (lw_at lw_m4 141 rfl) rfl
theorem q923 : (Jvm.Cond.methodLink "SiteCutsLaw" (83 : Nat) ({ cls := "SiteCuts", name := "restore", desc := "()I" } : Jvm.MethodName)) ∈ lw_all := lw_g (lw_at lw_m4 145 rfl) rfl
theorem q927 : (Jvm.Cond.methodLink "SiteCutsLaw" (87 : Nat) ({ cls := "SiteCuts", name := "judge", desc := "(I)I" } : Jvm.MethodName)) ∈ lw_all := lw_g (lw_at lw_m4 149 rfl) rfl
theorem q953 : (Jvm.Cond.methodLink "SiteCutsLaw" (91 : Nat) ({ cls := "SiteCuts", name := "plan", desc := "(II)I" } : Jvm.MethodName)) ∈ lw_all := lw_g (lw_at lw_m4 175 rfl) rfl
theorem q963 : (Jvm.Cond.methodLink "SiteCutsLaw" (95 : Nat) ({ cls := "SiteCuts", name := "serves", desc := "(II)I" } : Jvm.MethodName)) ∈ lw_all := lw_g (lw_at lw_m4 185 rfl) rfl
theorem q968 : (Jvm.Cond.methodLink "SiteCutsLaw" (99 : Nat) ({ cls := "SiteCuts", name := "cut", desc := "(II)I" } : Jvm.MethodName)) ∈ lw_all := lw_g (lw_at lw_m4 190 rfl) rfl
theorem q1019 : (Jvm.Cond.methodLink "SiteCutsLaw" (103 : Nat) ({ cls := "SiteCuts", name := "weight", desc := "(II)I" } : Jvm.MethodName)) ∈ lw_all := lw_g (lw_at lw_m5 1 rfl) rfl
theorem q1024 : (Jvm.Cond.methodLink "SiteCutsLaw" (107 : Nat) ({ cls := "SiteCuts", name := "value", desc := "(II)I" } : Jvm.MethodName)) ∈ lw_all := lw_g (lw_at lw_m5 6 rfl) rfl
theorem q1030 : (Jvm.Cond.methodLink "SiteCutsLaw" (111 : Nat) ({ cls := "SiteCuts", name := "master", desc := "(I)I" } : Jvm.MethodName)) ∈ lw_all := lw_g (lw_at lw_m5 12 rfl) rfl
theorem q1035 : (Jvm.Cond.methodLink "SiteCutsLaw" (115 : Nat) ({ cls := "SiteCuts", name := "byAll", desc := "(I)I" } : Jvm.MethodName)) ∈ lw_all := lw_g (lw_at lw_m5 17 rfl) rfl
theorem q1053 : (Jvm.Cond.methodLink "SiteCutsLaw" (119 : Nat) ({ cls := "SiteCuts", name := "count", desc := "(I)I" } : Jvm.MethodName)) ∈ lw_all := lw_g (lw_at lw_m5 35 rfl) rfl
theorem q1069 : (Jvm.Cond.classLink "SiteCutsLaw" (10 : Nat) "SiteCutsModel") ∈ lw_all := lw_g (lw_at lw_m5 51 rfl) rfl
theorem q1071 : (Jvm.Cond.methodLink "SiteCutsLaw" (12 : Nat) ({ cls := "SiteCutsModel", name := "<init>", desc := "()V" } : Jvm.MethodName)) ∈ lw_all := lw_g (lw_at lw_m5 53 rfl) rfl
theorem q1107 : (Jvm.Cond.methodLink "SiteCutsLaw" (78 : Nat) ({ cls := "SiteCutsModel", name := "undo", desc := "()I" } : Jvm.MethodName)) ∈ lw_all := lw_g (lw_at lw_m5 89 rfl) rfl
theorem q1111 : (Jvm.Cond.methodLink "SiteCutsLaw" (82 : Nat) ({ cls := "SiteCutsModel", name := "keep", desc := "()I" } : Jvm.MethodName)) ∈ lw_all := lw_g (lw_at lw_m5 93 rfl) rfl
theorem q1115 : (Jvm.Cond.methodLink "SiteCutsLaw" (86 : Nat) ({ cls := "SiteCutsModel", name := "restore", desc := "()I" } : Jvm.MethodName)) ∈ lw_all := lw_g (lw_at lw_m5 97 rfl) rfl
theorem q1131 : (Jvm.Cond.methodLink "SiteCutsLaw" (17 : Nat) ({ cls := "SiteCutsModel", name := "addSite", desc := "(I)I" } : Jvm.MethodName)) ∈ lw_all := lw_g (lw_at lw_m5 113 rfl) rfl
theorem q1142 : (Jvm.Cond.methodLink "SiteCutsLaw" (21 : Nat) ({ cls := "SiteCutsModel", name := "addCustomer", desc := "(I)I" } : Jvm.MethodName)) ∈ lw_all := lw_g (lw_at lw_m5 124 rfl) rfl
theorem q1146 : (Jvm.Cond.methodLink "SiteCutsLaw" (26 : Nat) ({ cls := "SiteCutsModel", name := "setPrice", desc := "(II)I" } : Jvm.MethodName)) ∈ lw_all := lw_g (lw_at lw_m5 128 rfl) rfl
theorem q1158 : (Jvm.Cond.methodLink "SiteCutsLaw" (30 : Nat) ({ cls := "SiteCutsModel", name := "setDemand", desc := "(II)I" } : Jvm.MethodName)) ∈ lw_all := lw_g (lw_at lw_m5 140 rfl) rfl
theorem q1166 : (Jvm.Cond.methodLink "SiteCutsLaw" (35 : Nat) ({ cls := "SiteCutsModel", name := "setRoute", desc := "(III)I" } : Jvm.MethodName)) ∈ lw_all := lw_g (lw_at lw_m5 148 rfl) rfl
theorem q1173 : (Jvm.Cond.methodLink "SiteCutsLaw" (39 : Nat) ({ cls := "SiteCutsModel", name := "setMost", desc := "(I)I" } : Jvm.MethodName)) ∈ lw_all := lw_g (lw_at lw_m5 155 rfl) rfl
theorem q1177 : (Jvm.Cond.methodLink "SiteCutsLaw" (44 : Nat) ({ cls := "SiteCutsModel", name := "exclude", desc := "(IIZ)I" } : Jvm.MethodName)) ∈ lw_all := lw_g (lw_at lw_m5 159 rfl) rfl
theorem q1187 : (Jvm.Cond.methodLink "SiteCutsLaw" (49 : Nat) ({ cls := "SiteCutsModel", name := "step", desc := "()I" } : Jvm.MethodName)) ∈ lw_all := lw_g (lw_at lw_m5 169 rfl) rfl
theorem q1251 : (Jvm.Cond.methodLink "SiteCutsLaw" (53 : Nat) ({ cls := "SiteCutsModel", name := "solve", desc := "()I" } : Jvm.MethodName)) ∈ lw_all := lw_g (lw_at lw_m5 233 rfl) rfl
theorem q1259 : (Jvm.Cond.methodLink "SiteCutsLaw" (61 : Nat) ({ cls := "SiteCutsModel", name := "drop", desc := "(I)I" } : Jvm.MethodName)) ∈ lw_all := lw_g (lw_at lw_m6 1 rfl) rfl
theorem q1271 : (Jvm.Cond.methodLink "SiteCutsLaw" (65 : Nat) ({ cls := "SiteCutsModel", name := "dropLoose", desc := "()I" } : Jvm.MethodName)) ∈ lw_all := lw_g (lw_at lw_m6 13 rfl) rfl
theorem q1279 : (Jvm.Cond.methodLink "SiteCutsLaw" (70 : Nat) ({ cls := "SiteCutsModel", name := "type", desc := "(C)I" } : Jvm.MethodName)) ∈ lw_all := lw_g (lw_at lw_m6 21 rfl) rfl
theorem q1283 : (Jvm.Cond.methodLink "SiteCutsLaw" (74 : Nat) ({ cls := "SiteCutsModel", name := "clearText", desc := "()I" } : Jvm.MethodName)) ∈ lw_all := lw_g (lw_at lw_m6 25 rfl) rfl
theorem q1287 : (Jvm.Cond.methodLink "SiteCutsLaw" (57 : Nat) ({ cls := "SiteCutsModel", name := "readCut", desc := "()I" } : Jvm.MethodName)) ∈ lw_all := lw_g (lw_at lw_m6 29 rfl) rfl
theorem q1299 : (Jvm.Cond.methodLink "SiteCutsLaw" (90 : Nat) ({ cls := "SiteCutsModel", name := "judge", desc := "(I)I" } : Jvm.MethodName)) ∈ lw_all := lw_g (lw_at lw_m6 41 rfl) rfl
theorem q1307 : (Jvm.Cond.methodLink "SiteCutsLaw" (94 : Nat) ({ cls := "SiteCutsModel", name := "plan", desc := "(II)I" } : Jvm.MethodName)) ∈ lw_all := lw_g (lw_at lw_m6 49 rfl) rfl
theorem q1311 : (Jvm.Cond.methodLink "SiteCutsLaw" (98 : Nat) ({ cls := "SiteCutsModel", name := "serves", desc := "(II)I" } : Jvm.MethodName)) ∈ lw_all := lw_g (lw_at lw_m6 53 rfl) rfl
theorem q1315 : (Jvm.Cond.methodLink "SiteCutsLaw" (102 : Nat) ({ cls := "SiteCutsModel", name := "cut", desc := "(II)I" } : Jvm.MethodName)) ∈ lw_all := lw_g (lw_at lw_m6 57 rfl) rfl
theorem q1327 : (Jvm.Cond.methodLink "SiteCutsLaw" (106 : Nat) ({ cls := "SiteCutsModel", name := "weight", desc := "(II)I" } : Jvm.MethodName)) ∈ lw_all := lw_g (lw_at lw_m6 69 rfl) rfl
theorem q1331 : (Jvm.Cond.methodLink "SiteCutsLaw" (110 : Nat) ({ cls := "SiteCutsModel", name := "value", desc := "(II)I" } : Jvm.MethodName)) ∈ lw_all := lw_g (lw_at lw_m6 73 rfl) rfl
theorem q1336 : (Jvm.Cond.methodLink "SiteCutsLaw" (114 : Nat) ({ cls := "SiteCutsModel", name := "master", desc := "(I)I" } : Jvm.MethodName)) ∈ lw_all := lw_g (lw_at lw_m6 78 rfl) rfl
theorem q1340 : (Jvm.Cond.methodLink "SiteCutsLaw" (118 : Nat) ({ cls := "SiteCutsModel", name := "byAll", desc := "(I)I" } : Jvm.MethodName)) ∈ lw_all := lw_g (lw_at lw_m6 82 rfl) rfl
theorem q1344 : (Jvm.Cond.methodLink "SiteCutsLaw" (122 : Nat) ({ cls := "SiteCutsModel", name := "count", desc := "(I)I" } : Jvm.MethodName)) ∈ lw_all := lw_g (lw_at lw_m6 86 rfl) rfl

theorem q78 : (Jvm.Cond.initialized "SiteCuts$Against") ∈ lw_all := lw_g (lw_at lw_m1 20 rfl) rfl
set_option maxRecDepth 100000
theorem q457 : (Jvm.Cond.laysStatic "SiteCuts$Against" "TOO_MANY" "LSiteCuts$Against;") ∈ lw_tbl := lw_at lw_m2 159 rfl
theorem q459 : (Jvm.Cond.declares ({ cls := "SiteCuts$Against", name := "is", desc := "(LSiteCuts$Land;I)Z" } : Jvm.MethodName)) ∈ lw_tbl := lw_at lw_m2 161 rfl
theorem q460 : (Jvm.Cond.sameMethod "SiteCuts$Against" "SiteCuts$Against" "is" "(LSiteCuts$Land;I)Z") ∈ lw_all := lw_g (lw_at lw_m2 162 rfl) rfl
theorem q486 : (Jvm.Cond.laysStatic "SiteCuts$Against" "EXCLUDED" "LSiteCuts$Against;") ∈ lw_tbl := lw_at lw_m2 188 rfl
theorem q941 : (Jvm.Cond.laysStatic "SiteCuts$Against" "LOST" "LSiteCuts$Against;") ∈ lw_tbl := lw_at lw_m4 163 rfl
theorem q943 : (Jvm.Cond.laysStatic "SiteCuts$Against" "NOTHING" "LSiteCuts$Against;") ∈ lw_tbl := lw_at lw_m4 165 rfl
theorem q945 : (Jvm.Cond.sameMethod "SiteCuts$Against" "java/lang/Enum" "ordinal" "()I") ∈ lw_all := lw_g (lw_at lw_m4 167 rfl) rfl
theorem q1403 : (Jvm.Cond.castable "SiteCuts$Against" "java/lang/Object") ∈ lw_tbl := lw_at lw_m6 145 rfl

theorem q595 : (Jvm.Cond.interfaceMethod "SiteCuts$Judge" "SiteCuts$Judge" "allows" "(I)Z") ∈ lw_tbl := lw_at lw_m3 57 rfl
set_option maxRecDepth 100000
theorem q596 : (Jvm.Cond.declares ({ cls := "SiteCuts$Judge", name := "allows", desc := "(I)Z" } : Jvm.MethodName)) ∈ lw_tbl := lw_at lw_m3 58 rfl

theorem q599 : (Jvm.Cond.interfaceMethod "SiteCuts$Price" "SiteCuts$Price" "of" "(I)I") ∈ lw_tbl := lw_at lw_m3 61 rfl
set_option maxRecDepth 100000
theorem q600 : (Jvm.Cond.declares ({ cls := "SiteCuts$Price", name := "of", desc := "(I)I" } : Jvm.MethodName)) ∈ lw_tbl := lw_at lw_m3 62 rfl

theorem q839 : (Jvm.Cond.sameMethod "[B" "java/lang/Object" "clone" "()Ljava/lang/Object;") ∈ lw_all := lw_g (lw_at lw_m4 61 rfl) rfl
set_option maxRecDepth 100000
theorem q842 : (Jvm.Cond.selects "[B" ({ cls := "[B", name := "clone", desc := "()Ljava/lang/Object;" } : Jvm.MethodName) ({ cls := "java/lang/Object", name := "clone", desc := "()Ljava/lang/Object;" } : Jvm.MethodName)) ∈ lw_all := lw_g (lw_at lw_m4 64 rfl) rfl
theorem q843 : (Jvm.Cond.castable "[B" "java/lang/Cloneable") ∈ lw_tbl := lw_at lw_m4 65 rfl
theorem q1405 : (Jvm.Cond.castable "[B" "java/lang/Object") ∈ lw_tbl := lw_at lw_m6 147 rfl

theorem q1407 : (Jvm.Cond.castable "[C" "java/lang/Object") ∈ lw_tbl := lw_at lw_m6 149 rfl
set_option maxRecDepth 100000

theorem q1404 : (Jvm.Cond.castable "[I" "java/lang/Object") ∈ lw_tbl := lw_at lw_m6 146 rfl
set_option maxRecDepth 100000

theorem q1400 : (Jvm.Cond.sameMethod "[Ljava/lang/Object;" "java/lang/Object" "getClass" "()Ljava/lang/Class;") ∈ lw_all := lw_g (lw_at lw_m6 142 rfl) rfl
set_option maxRecDepth 100000
theorem q1401 : (Jvm.Cond.selects "[Ljava/lang/Object;" ({ cls := "java/lang/Object", name := "getClass", desc := "()Ljava/lang/Class;" } : Jvm.MethodName) ({ cls := "java/lang/Object", name := "getClass", desc := "()Ljava/lang/Class;" } : Jvm.MethodName)) ∈ lw_all := lw_g (lw_at lw_m6 143 rfl) rfl
theorem q1406 : (Jvm.Cond.castable "[Ljava/lang/Object;" "java/lang/Object") ∈ lw_tbl := lw_at lw_m6 148 rfl

theorem q674 : (Jvm.Cond.interfaceMethod "java/lang/CharSequence" "java/lang/CharSequence" "length" "()I") ∈ lw_tbl := lw_at lw_m3 136 rfl
set_option maxRecDepth 100000
theorem q675 : (Jvm.Cond.declares ({ cls := "java/lang/CharSequence", name := "length", desc := "()I" } : Jvm.MethodName)) ∈ lw_tbl := lw_at lw_m3 137 rfl
theorem q687 : (Jvm.Cond.interfaceMethod "java/lang/CharSequence" "java/lang/CharSequence" "charAt" "(I)C") ∈ lw_tbl := lw_at lw_m3 149 rfl
theorem q688 : (Jvm.Cond.declares ({ cls := "java/lang/CharSequence", name := "charAt", desc := "(I)C" } : Jvm.MethodName)) ∈ lw_tbl := lw_at lw_m3 150 rfl

theorem q70 : (Jvm.Cond.initialized "java/lang/System") ∈ lw_all := lw_g (lw_at lw_m1 12 rfl) rfl
set_option maxRecDepth 100000
theorem q259 : (Jvm.Cond.static ({ cls := "java/lang/System", name := "arraycopy", desc := "(Ljava/lang/Object;ILjava/lang/Object;II)V" } : Jvm.MethodName)) ∈ lw_all := lw_g (lw_at lw_m1 201 rfl) rfl
theorem q260 : (Jvm.Cond.native ({ cls := "java/lang/System", name := "arraycopy", desc := "(Ljava/lang/Object;ILjava/lang/Object;II)V" } : Jvm.MethodName)) ∈ lw_all := lw_g (lw_at lw_m1 202 rfl) rfl

theorem q273 : (Jvm.Cond.interfaceMethod "java/util/Collection" "java/util/Collection" "toArray" "()[Ljava/lang/Object;") ∈ lw_tbl := lw_at lw_m1 215 rfl
set_option maxRecDepth 100000
theorem q274 : (Jvm.Cond.declares ({ cls := "java/util/Collection", name := "toArray", desc := "()[Ljava/lang/Object;" } : Jvm.MethodName)) ∈ lw_tbl := lw_at lw_m1 216 rfl

theorem q263 : (Jvm.Cond.interfaceMethod "java/util/List" "java/util/List" "addAll" "(Ljava/util/Collection;)Z") ∈ lw_tbl := lw_at lw_m1 205 rfl
set_option maxRecDepth 100000
theorem q264 : (Jvm.Cond.declares ({ cls := "java/util/List", name := "addAll", desc := "(Ljava/util/Collection;)Z" } : Jvm.MethodName)) ∈ lw_tbl := lw_at lw_m1 206 rfl
theorem q336 : (Jvm.Cond.interfaceMethod "java/util/List" "java/util/List" "clear" "()V") ∈ lw_tbl := lw_at lw_m2 38 rfl
theorem q337 : (Jvm.Cond.declares ({ cls := "java/util/List", name := "clear", desc := "()V" } : Jvm.MethodName)) ∈ lw_tbl := lw_at lw_m2 39 rfl
theorem q349 : (Jvm.Cond.interfaceMethod "java/util/List" "java/util/List" "size" "()I") ∈ lw_tbl := lw_at lw_m2 51 rfl
theorem q350 : (Jvm.Cond.declares ({ cls := "java/util/List", name := "size", desc := "()I" } : Jvm.MethodName)) ∈ lw_tbl := lw_at lw_m2 52 rfl
theorem q358 : (Jvm.Cond.interfaceMethod "java/util/List" "java/util/List" "remove" "(I)Ljava/lang/Object;") ∈ lw_tbl := lw_at lw_m2 60 rfl
theorem q359 : (Jvm.Cond.declares ({ cls := "java/util/List", name := "remove", desc := "(I)Ljava/lang/Object;" } : Jvm.MethodName)) ∈ lw_tbl := lw_at lw_m2 61 rfl
theorem q377 : (Jvm.Cond.interfaceMethod "java/util/List" "java/util/List" "add" "(Ljava/lang/Object;)Z") ∈ lw_tbl := lw_at lw_m2 79 rfl
theorem q378 : (Jvm.Cond.declares ({ cls := "java/util/List", name := "add", desc := "(Ljava/lang/Object;)Z" } : Jvm.MethodName)) ∈ lw_tbl := lw_at lw_m2 80 rfl
theorem q495 : (Jvm.Cond.interfaceMethod "java/util/List" "java/util/List" "get" "(I)Ljava/lang/Object;") ∈ lw_tbl := lw_at lw_m2 197 rfl
theorem q496 : (Jvm.Cond.declares ({ cls := "java/util/List", name := "get", desc := "(I)Ljava/lang/Object;" } : Jvm.MethodName)) ∈ lw_tbl := lw_at lw_m2 198 rfl
theorem q912 : (Jvm.Cond.interfaceMethod "java/util/List" "java/util/List" "isEmpty" "()Z") ∈ lw_tbl := lw_at lw_m4 134 rfl
theorem q913 : (Jvm.Cond.declares ({ cls := "java/util/List", name := "isEmpty", desc := "()Z" } : Jvm.MethodName)) ∈ lw_tbl := lw_at lw_m4 135 rfl

theorem q144 : (Jvm.Cond.arrayClass Jvm.ClassFile.FieldType.int) ∈ lw_all := lw_g (lw_at lw_m1 86 rfl) rfl
set_option maxRecDepth 100000
theorem q221 : (Jvm.Cond.arrayClass Jvm.ClassFile.FieldType.byte) ∈ lw_all := lw_g (lw_at lw_m1 163 rfl) rfl
theorem q307 : (Jvm.Cond.arrayOver (Jvm.ClassFile.FieldType.object "java/lang/Object")) ∈ lw_tbl := lw_at lw_m2 9 rfl
theorem q1106 : (Jvm.Cond.arrayClass Jvm.ClassFile.FieldType.char) ∈ lw_all := lw_g (lw_at lw_m5 88 rfl) rfl

/-! java/lang/Integer -/
set_option maxRecDepth 100000
def RJ12 : String := "java/lang/Integer"
abbrev cJ12_bitCount : ByteArray := prog_27_method_49_code
def yJ12_bitCount : MethodName := ⟨RJ12, "bitCount", "(I)I"⟩
def dkwJ12_bitCount_2 : List UInt8 := [26, 16, 63, 126, 172]
abbrev dktJ12_bitCount_2 : List UInt8 := dkwJ12_bitCount_2 ++ []
def dkwJ12_bitCount_1 : List UInt8 := [26, 26, 7, 124, 96, 19, 1, 11, 126, 59, 26, 26, 16, 8, 124, 96, 59, 26, 26, 16, 16, 124, 96, 59]
abbrev dktJ12_bitCount_1 : List UInt8 := dkwJ12_bitCount_1 ++ dktJ12_bitCount_2
def dkwJ12_bitCount_0 : List UInt8 := [26, 26, 4, 124, 19, 1, 9, 126, 100, 59, 26, 19, 1, 10, 126, 26, 5, 124, 19, 1, 10, 126, 96, 59]
abbrev dktJ12_bitCount_0 : List UInt8 := dkwJ12_bitCount_0 ++ dktJ12_bitCount_1
theorem dksJ12_bitCount_0 : cJ12_bitCount.data.toList.drop 0 = dktJ12_bitCount_0 := by decide +kernel
theorem dksJ12_bitCount_1 : cJ12_bitCount.data.toList.drop 24 = dktJ12_bitCount_1 := dk_seg dksJ12_bitCount_0 24 rfl rfl
theorem dksJ12_bitCount_2 : cJ12_bitCount.data.toList.drop 48 = dktJ12_bitCount_2 := dk_seg dksJ12_bitCount_1 24 rfl rfl
theorem dJ12_bitCount_0 : decode cJ12_bitCount 0 = .ok (.iload_n 0, 1) := dk_26 (dk_at dksJ12_bitCount_0 0 rfl rfl)
theorem dJ12_bitCount_1 : decode cJ12_bitCount 1 = .ok (.iload_n 0, 1) := dk_26 (dk_at dksJ12_bitCount_0 1 rfl rfl)
theorem dJ12_bitCount_2 : decode cJ12_bitCount 2 = .ok (.iconst 1, 1) := dk_4 (dk_at dksJ12_bitCount_0 2 rfl rfl)
theorem dJ12_bitCount_3 : decode cJ12_bitCount 3 = .ok (.iushr, 1) := dk_124 (dk_at dksJ12_bitCount_0 3 rfl rfl)
theorem dJ12_bitCount_4 : decode cJ12_bitCount 4 = .ok (.ldc_w 265, 3) := dk_19 1 9 (dk_at dksJ12_bitCount_0 4 rfl rfl)
theorem dJ12_bitCount_7 : decode cJ12_bitCount 7 = .ok (.iand, 1) := dk_126 (dk_at dksJ12_bitCount_0 7 rfl rfl)
theorem dJ12_bitCount_8 : decode cJ12_bitCount 8 = .ok (.isub, 1) := dk_100 (dk_at dksJ12_bitCount_0 8 rfl rfl)
theorem dJ12_bitCount_9 : decode cJ12_bitCount 9 = .ok (.istore_n 0, 1) := dk_59 (dk_at dksJ12_bitCount_0 9 rfl rfl)
theorem dJ12_bitCount_10 : decode cJ12_bitCount 10 = .ok (.iload_n 0, 1) := dk_26 (dk_at dksJ12_bitCount_0 10 rfl rfl)
theorem dJ12_bitCount_11 : decode cJ12_bitCount 11 = .ok (.ldc_w 266, 3) := dk_19 1 10 (dk_at dksJ12_bitCount_0 11 rfl rfl)
theorem dJ12_bitCount_14 : decode cJ12_bitCount 14 = .ok (.iand, 1) := dk_126 (dk_at dksJ12_bitCount_0 14 rfl rfl)
theorem dJ12_bitCount_15 : decode cJ12_bitCount 15 = .ok (.iload_n 0, 1) := dk_26 (dk_at dksJ12_bitCount_0 15 rfl rfl)
theorem dJ12_bitCount_16 : decode cJ12_bitCount 16 = .ok (.iconst 2, 1) := dk_5 (dk_at dksJ12_bitCount_0 16 rfl rfl)
theorem dJ12_bitCount_17 : decode cJ12_bitCount 17 = .ok (.iushr, 1) := dk_124 (dk_at dksJ12_bitCount_0 17 rfl rfl)
theorem dJ12_bitCount_18 : decode cJ12_bitCount 18 = .ok (.ldc_w 266, 3) := dk_19 1 10 (dk_at dksJ12_bitCount_0 18 rfl rfl)
theorem dJ12_bitCount_21 : decode cJ12_bitCount 21 = .ok (.iand, 1) := dk_126 (dk_at dksJ12_bitCount_0 21 rfl rfl)
theorem dJ12_bitCount_22 : decode cJ12_bitCount 22 = .ok (.iadd, 1) := dk_96 (dk_at dksJ12_bitCount_0 22 rfl rfl)
theorem dJ12_bitCount_23 : decode cJ12_bitCount 23 = .ok (.istore_n 0, 1) := dk_59 (dk_at dksJ12_bitCount_0 23 rfl rfl)
theorem dJ12_bitCount_24 : decode cJ12_bitCount 24 = .ok (.iload_n 0, 1) := dk_26 (dk_at dksJ12_bitCount_1 0 rfl rfl)
theorem dJ12_bitCount_25 : decode cJ12_bitCount 25 = .ok (.iload_n 0, 1) := dk_26 (dk_at dksJ12_bitCount_1 1 rfl rfl)
theorem dJ12_bitCount_26 : decode cJ12_bitCount 26 = .ok (.iconst 4, 1) := dk_7 (dk_at dksJ12_bitCount_1 2 rfl rfl)
theorem dJ12_bitCount_27 : decode cJ12_bitCount 27 = .ok (.iushr, 1) := dk_124 (dk_at dksJ12_bitCount_1 3 rfl rfl)
theorem dJ12_bitCount_28 : decode cJ12_bitCount 28 = .ok (.iadd, 1) := dk_96 (dk_at dksJ12_bitCount_1 4 rfl rfl)
theorem dJ12_bitCount_29 : decode cJ12_bitCount 29 = .ok (.ldc_w 267, 3) := dk_19 1 11 (dk_at dksJ12_bitCount_1 5 rfl rfl)
theorem dJ12_bitCount_32 : decode cJ12_bitCount 32 = .ok (.iand, 1) := dk_126 (dk_at dksJ12_bitCount_1 8 rfl rfl)
theorem dJ12_bitCount_33 : decode cJ12_bitCount 33 = .ok (.istore_n 0, 1) := dk_59 (dk_at dksJ12_bitCount_1 9 rfl rfl)
theorem dJ12_bitCount_34 : decode cJ12_bitCount 34 = .ok (.iload_n 0, 1) := dk_26 (dk_at dksJ12_bitCount_1 10 rfl rfl)
theorem dJ12_bitCount_35 : decode cJ12_bitCount 35 = .ok (.iload_n 0, 1) := dk_26 (dk_at dksJ12_bitCount_1 11 rfl rfl)
theorem dJ12_bitCount_36 : decode cJ12_bitCount 36 = .ok (.bipush 8, 2) := dk_16 8 (dk_at dksJ12_bitCount_1 12 rfl rfl)
theorem dJ12_bitCount_38 : decode cJ12_bitCount 38 = .ok (.iushr, 1) := dk_124 (dk_at dksJ12_bitCount_1 14 rfl rfl)
theorem dJ12_bitCount_39 : decode cJ12_bitCount 39 = .ok (.iadd, 1) := dk_96 (dk_at dksJ12_bitCount_1 15 rfl rfl)
theorem dJ12_bitCount_40 : decode cJ12_bitCount 40 = .ok (.istore_n 0, 1) := dk_59 (dk_at dksJ12_bitCount_1 16 rfl rfl)
theorem dJ12_bitCount_41 : decode cJ12_bitCount 41 = .ok (.iload_n 0, 1) := dk_26 (dk_at dksJ12_bitCount_1 17 rfl rfl)
theorem dJ12_bitCount_42 : decode cJ12_bitCount 42 = .ok (.iload_n 0, 1) := dk_26 (dk_at dksJ12_bitCount_1 18 rfl rfl)
theorem dJ12_bitCount_43 : decode cJ12_bitCount 43 = .ok (.bipush 16, 2) := dk_16 16 (dk_at dksJ12_bitCount_1 19 rfl rfl)
theorem dJ12_bitCount_45 : decode cJ12_bitCount 45 = .ok (.iushr, 1) := dk_124 (dk_at dksJ12_bitCount_1 21 rfl rfl)
theorem dJ12_bitCount_46 : decode cJ12_bitCount 46 = .ok (.iadd, 1) := dk_96 (dk_at dksJ12_bitCount_1 22 rfl rfl)
theorem dJ12_bitCount_47 : decode cJ12_bitCount 47 = .ok (.istore_n 0, 1) := dk_59 (dk_at dksJ12_bitCount_1 23 rfl rfl)
theorem dJ12_bitCount_48 : decode cJ12_bitCount 48 = .ok (.iload_n 0, 1) := dk_26 (dk_at dksJ12_bitCount_2 0 rfl rfl)
theorem dJ12_bitCount_49 : decode cJ12_bitCount 49 = .ok (.bipush 63, 2) := dk_16 63 (dk_at dksJ12_bitCount_2 1 rfl rfl)
theorem dJ12_bitCount_51 : decode cJ12_bitCount 51 = .ok (.iand, 1) := dk_126 (dk_at dksJ12_bitCount_2 3 rfl rfl)
theorem dJ12_bitCount_52 : decode cJ12_bitCount 52 = .ok (.ireturn, 1) := dk_172 (dk_at dksJ12_bitCount_2 4 rfl rfl)
theorem q76 : (Jvm.Cond.initialized "java/lang/Integer") ∈ lw_all := lw_g (lw_at lw_m1 18 rfl) rfl
theorem q432 : (Jvm.Cond.static ({ cls := "java/lang/Integer", name := "bitCount", desc := "(I)I" } : Jvm.MethodName)) ∈ lw_all := lw_g (lw_at lw_m2 134 rfl) rfl
theorem q433 : (Jvm.Cond.code ({ cls := "java/lang/Integer", name := "bitCount", desc := "(I)I" } : Jvm.MethodName) prog_27_method_49_code (1 : Nat) (Option.some Jvm.ClassFile.FieldType.int)) ∈ lw_all := lw_g (lw_at lw_m2 135 rfl) rfl
theorem q434 : (Jvm.Cond.constant "java/lang/Integer" (265 : Nat) (1431655765 : Int32)) ∈ lw_all := lw_g (lw_at lw_m2 136 rfl) rfl
theorem q435 : (Jvm.Cond.constant "java/lang/Integer" (266 : Nat) (858993459 : Int32)) ∈ lw_all := lw_g (lw_at lw_m2 137 rfl) rfl
theorem q436 : (Jvm.Cond.constant "java/lang/Integer" (267 : Nat) (252645135 : Int32)) ∈ lw_all := lw_g (lw_at lw_m2 138 rfl) rfl

/-! java/lang/Enum -/
set_option maxRecDepth 100000
def RJ13 : String := "java/lang/Enum"
abbrev cJ13_ordinal : ByteArray := prog_25_method_2_code
def yJ13_ordinal : MethodName := ⟨RJ13, "ordinal", "()I"⟩
theorem dJ13_ordinal_0 : decode cJ13_ordinal 0 = .ok (.aload_n 0, 1) := by decide +kernel
theorem dJ13_ordinal_1 : decode cJ13_ordinal 1 = .ok (.getfield 7, 3) := by decide +kernel
theorem dJ13_ordinal_4 : decode cJ13_ordinal 4 = .ok (.ireturn, 1) := by decide +kernel
theorem q77 : (Jvm.Cond.initialized "java/lang/Enum") ∈ lw_all := lw_g (lw_at lw_m1 19 rfl) rfl
theorem q946 : (Jvm.Cond.declares ({ cls := "java/lang/Enum", name := "ordinal", desc := "()I" } : Jvm.MethodName)) ∈ lw_tbl := lw_at lw_m4 168 rfl
theorem q951 : (Jvm.Cond.instanceMethod ({ cls := "java/lang/Enum", name := "ordinal", desc := "()I" } : Jvm.MethodName)) ∈ lw_all := lw_g (lw_at lw_m4 173 rfl) rfl
theorem q952 : (Jvm.Cond.code ({ cls := "java/lang/Enum", name := "ordinal", desc := "()I" } : Jvm.MethodName) prog_25_method_2_code (1 : Nat) (Option.some Jvm.ClassFile.FieldType.int)) ∈ lw_all := lw_g (lw_at lw_m4 174 rfl) rfl
theorem q1408 : (Jvm.Cond.fieldLink "java/lang/Enum" (7 : Nat) "java/lang/Enum" "ordinal" "I") ∈ lw_all := lw_g (lw_at lw_m6 150 rfl) rfl

/-! java/lang/Object -/
set_option maxRecDepth 100000
def RJ17 : String := "java/lang/Object"
abbrev cJ17_init : ByteArray := object_method_1_code
def yJ17_init : MethodName := ⟨RJ17, "<init>", "()V"⟩
theorem dJ17_init_0 : decode cJ17_init 0 = .ok (.return_, 1) := by decide +kernel
theorem q94 : (Jvm.Cond.instanceMethod ({ cls := "java/lang/Object", name := "<init>", desc := "()V" } : Jvm.MethodName)) ∈ lw_all := lw_g (lw_at lw_m1 36 rfl) rfl
theorem q95 : (Jvm.Cond.code ({ cls := "java/lang/Object", name := "<init>", desc := "()V" } : Jvm.MethodName) object_method_1_code (1 : Nat) (Option.none : Option Jvm.ClassFile.FieldType)) ∈ lw_all := lw_g (lw_at lw_m1 37 rfl) rfl
theorem q285 : (Jvm.Cond.instanceMethod ({ cls := "java/lang/Object", name := "getClass", desc := "()Ljava/lang/Class;" } : Jvm.MethodName)) ∈ lw_all := lw_g (lw_at lw_m1 227 rfl) rfl
theorem q286 : (Jvm.Cond.sameMethod "java/lang/Object" "java/lang/Object" "getClass" "()Ljava/lang/Class;") ∈ lw_all := lw_g (lw_at lw_m1 228 rfl) rfl
theorem q302 : (Jvm.Cond.native ({ cls := "java/lang/Object", name := "getClass", desc := "()Ljava/lang/Class;" } : Jvm.MethodName)) ∈ lw_all := lw_g (lw_at lw_m2 4 rfl) rfl
theorem q840 : (Jvm.Cond.native ({ cls := "java/lang/Object", name := "clone", desc := "()Ljava/lang/Object;" } : Jvm.MethodName)) ∈ lw_all := lw_g (lw_at lw_m4 62 rfl) rfl
theorem q841 : (Jvm.Cond.instanceMethod ({ cls := "java/lang/Object", name := "clone", desc := "()Ljava/lang/Object;" } : Jvm.MethodName)) ∈ lw_all := lw_g (lw_at lw_m4 63 rfl) rfl
theorem q1380 : (Jvm.Cond.initialized "java/lang/Object") ∈ lw_all := lw_g (lw_at lw_m6 122 rfl) rfl
theorem q1402 : (Jvm.Cond.declares ({ cls := "java/lang/Object", name := "getClass", desc := "()Ljava/lang/Class;" } : Jvm.MethodName)) ∈ lw_tbl := lw_at lw_m6 144 rfl
theorem q1409 : (Jvm.Cond.instantiable "java/lang/Object" (0 : Nat)) ∈ lw_all := lw_g (lw_at lw_m6 151 rfl) rfl

/-! java/lang/Math -/
set_option maxRecDepth 100000
def RJ8 : String := "java/lang/Math"
abbrev cJ8_min : ByteArray := prog_29_method_69_code
def yJ8_min : MethodName := ⟨RJ8, "min", "(II)I"⟩
def dkwJ8_min_0 : List UInt8 := [26, 27, 163, 0, 7, 26, 167, 0, 4, 27, 172]
abbrev dktJ8_min_0 : List UInt8 := dkwJ8_min_0 ++ []
theorem dksJ8_min_0 : cJ8_min.data.toList.drop 0 = dktJ8_min_0 := by decide +kernel
theorem dJ8_min_0 : decode cJ8_min 0 = .ok (.iload_n 0, 1) := dk_26 (dk_at dksJ8_min_0 0 rfl rfl)
theorem dJ8_min_1 : decode cJ8_min 1 = .ok (.iload_n 1, 1) := dk_27 (dk_at dksJ8_min_0 1 rfl rfl)
theorem dJ8_min_2 : decode cJ8_min 2 = .ok (.if_icmp .gt 7, 3) := dk_163 0 7 (dk_at dksJ8_min_0 2 rfl rfl)
theorem dJ8_min_5 : decode cJ8_min 5 = .ok (.iload_n 0, 1) := dk_26 (dk_at dksJ8_min_0 5 rfl rfl)
theorem dJ8_min_6 : decode cJ8_min 6 = .ok (.goto 4, 3) := dk_167 0 4 (dk_at dksJ8_min_0 6 rfl rfl)
theorem dJ8_min_9 : decode cJ8_min 9 = .ok (.iload_n 1, 1) := dk_27 (dk_at dksJ8_min_0 9 rfl rfl)
theorem dJ8_min_10 : decode cJ8_min 10 = .ok (.ireturn, 1) := dk_172 (dk_at dksJ8_min_0 10 rfl rfl)
abbrev cJ8_max : ByteArray := prog_29_method_65_code
def yJ8_max : MethodName := ⟨RJ8, "max", "(II)I"⟩
def dkwJ8_max_0 : List UInt8 := [26, 27, 161, 0, 7, 26, 167, 0, 4, 27, 172]
abbrev dktJ8_max_0 : List UInt8 := dkwJ8_max_0 ++ []
theorem dksJ8_max_0 : cJ8_max.data.toList.drop 0 = dktJ8_max_0 := by decide +kernel
theorem dJ8_max_0 : decode cJ8_max 0 = .ok (.iload_n 0, 1) := dk_26 (dk_at dksJ8_max_0 0 rfl rfl)
theorem dJ8_max_1 : decode cJ8_max 1 = .ok (.iload_n 1, 1) := dk_27 (dk_at dksJ8_max_0 1 rfl rfl)
theorem dJ8_max_2 : decode cJ8_max 2 = .ok (.if_icmp .lt 7, 3) := dk_161 0 7 (dk_at dksJ8_max_0 2 rfl rfl)
theorem dJ8_max_5 : decode cJ8_max 5 = .ok (.iload_n 0, 1) := dk_26 (dk_at dksJ8_max_0 5 rfl rfl)
theorem dJ8_max_6 : decode cJ8_max 6 = .ok (.goto 4, 3) := dk_167 0 4 (dk_at dksJ8_max_0 6 rfl rfl)
theorem dJ8_max_9 : decode cJ8_max 9 = .ok (.iload_n 1, 1) := dk_27 (dk_at dksJ8_max_0 9 rfl rfl)
theorem dJ8_max_10 : decode cJ8_max 10 = .ok (.ireturn, 1) := dk_172 (dk_at dksJ8_max_0 10 rfl rfl)
theorem q72 : (Jvm.Cond.initialized "java/lang/Math") ∈ lw_all := lw_g (lw_at lw_m1 14 rfl) rfl
theorem q310 : (Jvm.Cond.static ({ cls := "java/lang/Math", name := "min", desc := "(II)I" } : Jvm.MethodName)) ∈ lw_all := lw_g (lw_at lw_m2 12 rfl) rfl
theorem q311 : (Jvm.Cond.code ({ cls := "java/lang/Math", name := "min", desc := "(II)I" } : Jvm.MethodName) prog_29_method_69_code (2 : Nat) (Option.some Jvm.ClassFile.FieldType.int)) ∈ lw_all := lw_g (lw_at lw_m2 13 rfl) rfl
theorem q321 : (Jvm.Cond.static ({ cls := "java/lang/Math", name := "max", desc := "(II)I" } : Jvm.MethodName)) ∈ lw_all := lw_g (lw_at lw_m2 23 rfl) rfl
theorem q322 : (Jvm.Cond.code ({ cls := "java/lang/Math", name := "max", desc := "(II)I" } : Jvm.MethodName) prog_29_method_65_code (2 : Nat) (Option.some Jvm.ClassFile.FieldType.int)) ∈ lw_all := lw_g (lw_at lw_m2 24 rfl) rfl

/-! SiteCuts$Against$3 -/
set_option maxRecDepth 100000
def RX10 : String := "SiteCuts$Against$3"
abbrev cX10_is : ByteArray := prog_5_method_2_code
def yX10_is : MethodName := ⟨RX10, "is", "(LSiteCuts$Land;I)Z"⟩
def dkwX10_is_1 : List UInt8 := [28, 126, 153, 0, 5, 4, 172, 132, 3, 1, 167, 255, 224, 3, 172]
abbrev dktX10_is_1 : List UInt8 := dkwX10_is_1 ++ []
def dkwX10_is_0 : List UInt8 := [3, 62, 29, 43, 180, 0, 7, 162, 0, 30, 28, 29, 184, 0, 13, 153, 0, 16, 43, 180, 0, 19, 29, 46]
abbrev dktX10_is_0 : List UInt8 := dkwX10_is_0 ++ dktX10_is_1
theorem dksX10_is_0 : cX10_is.data.toList.drop 0 = dktX10_is_0 := by decide +kernel
theorem dksX10_is_1 : cX10_is.data.toList.drop 24 = dktX10_is_1 := dk_seg dksX10_is_0 24 rfl rfl
theorem dX10_is_0 : decode cX10_is 0 = .ok (.iconst 0, 1) := dk_3 (dk_at dksX10_is_0 0 rfl rfl)
theorem dX10_is_1 : decode cX10_is 1 = .ok (.istore_n 3, 1) := dk_62 (dk_at dksX10_is_0 1 rfl rfl)
theorem dX10_is_2 : decode cX10_is 2 = .ok (.iload_n 3, 1) := dk_29 (dk_at dksX10_is_0 2 rfl rfl)
theorem dX10_is_3 : decode cX10_is 3 = .ok (.aload_n 1, 1) := dk_43 (dk_at dksX10_is_0 3 rfl rfl)
theorem dX10_is_4 : decode cX10_is 4 = .ok (.getfield 7, 3) := dk_180 0 7 (dk_at dksX10_is_0 4 rfl rfl)
theorem dX10_is_7 : decode cX10_is 7 = .ok (.if_icmp .ge 30, 3) := dk_162 0 30 (dk_at dksX10_is_0 7 rfl rfl)
theorem dX10_is_10 : decode cX10_is 10 = .ok (.iload_n 2, 1) := dk_28 (dk_at dksX10_is_0 10 rfl rfl)
theorem dX10_is_11 : decode cX10_is 11 = .ok (.iload_n 3, 1) := dk_29 (dk_at dksX10_is_0 11 rfl rfl)
theorem dX10_is_12 : decode cX10_is 12 = .ok (.invokestatic 13, 3) := dk_184 0 13 (dk_at dksX10_is_0 12 rfl rfl)
theorem dX10_is_15 : decode cX10_is 15 = .ok (.ifCond .eq 16, 3) := dk_153 0 16 (dk_at dksX10_is_0 15 rfl rfl)
theorem dX10_is_18 : decode cX10_is 18 = .ok (.aload_n 1, 1) := dk_43 (dk_at dksX10_is_0 18 rfl rfl)
theorem dX10_is_19 : decode cX10_is 19 = .ok (.getfield 19, 3) := dk_180 0 19 (dk_at dksX10_is_0 19 rfl rfl)
theorem dX10_is_22 : decode cX10_is 22 = .ok (.iload_n 3, 1) := dk_29 (dk_at dksX10_is_0 22 rfl rfl)
theorem dX10_is_23 : decode cX10_is 23 = .ok (.iaload, 1) := dk_46 (dk_at dksX10_is_0 23 rfl rfl)
theorem dX10_is_24 : decode cX10_is 24 = .ok (.iload_n 2, 1) := dk_28 (dk_at dksX10_is_1 0 rfl rfl)
theorem dX10_is_25 : decode cX10_is 25 = .ok (.iand, 1) := dk_126 (dk_at dksX10_is_1 1 rfl rfl)
theorem dX10_is_26 : decode cX10_is 26 = .ok (.ifCond .eq 5, 3) := dk_153 0 5 (dk_at dksX10_is_1 2 rfl rfl)
theorem dX10_is_29 : decode cX10_is 29 = .ok (.iconst 1, 1) := dk_4 (dk_at dksX10_is_1 5 rfl rfl)
theorem dX10_is_30 : decode cX10_is 30 = .ok (.ireturn, 1) := dk_172 (dk_at dksX10_is_1 6 rfl rfl)
theorem dX10_is_31 : decode cX10_is 31 = .ok (.iinc 3 1, 3) := dk_132 3 1 (dk_at dksX10_is_1 7 rfl rfl)
theorem dX10_is_34 : decode cX10_is 34 = .ok (.goto (-32), 3) := dk_167 255 224 (dk_at dksX10_is_1 10 rfl rfl)
theorem dX10_is_37 : decode cX10_is 37 = .ok (.iconst 0, 1) := dk_3 (dk_at dksX10_is_1 13 rfl rfl)
theorem dX10_is_38 : decode cX10_is 38 = .ok (.ireturn, 1) := dk_172 (dk_at dksX10_is_1 14 rfl rfl)
theorem q111 : (Jvm.Cond.fieldLinkNest "SiteCuts$Against$3" (19 : Nat) "SiteCuts$Land" "excluded" "[I" "SiteCuts") ∈ lw_tbl := lw_at lw_m1 53 rfl
theorem q118 : (Jvm.Cond.fieldLinkNest "SiteCuts$Against$3" (7 : Nat) "SiteCuts$Land" "sites" "I" "SiteCuts") ∈ lw_tbl := lw_at lw_m1 60 rfl
theorem q290 : (Jvm.Cond.selects "SiteCuts$Against$3" ({ cls := "java/lang/Object", name := "getClass", desc := "()Ljava/lang/Class;" } : Jvm.MethodName) ({ cls := "java/lang/Object", name := "getClass", desc := "()Ljava/lang/Class;" } : Jvm.MethodName)) ∈ lw_all := lw_g (lw_at lw_m1 232 rfl) rfl
theorem q468 : (Jvm.Cond.selects "SiteCuts$Against$3" ({ cls := "SiteCuts$Against", name := "is", desc := "(LSiteCuts$Land;I)Z" } : Jvm.MethodName) ({ cls := "SiteCuts$Against$3", name := "is", desc := "(LSiteCuts$Land;I)Z" } : Jvm.MethodName)) ∈ lw_all := lw_g (lw_at lw_m2 170 rfl) rfl
theorem q469 : (Jvm.Cond.instanceMethod ({ cls := "SiteCuts$Against$3", name := "is", desc := "(LSiteCuts$Land;I)Z" } : Jvm.MethodName)) ∈ lw_all := lw_g (lw_at lw_m2 171 rfl) rfl
theorem q470 : (Jvm.Cond.code ({ cls := "SiteCuts$Against$3", name := "is", desc := "(LSiteCuts$Land;I)Z" } : Jvm.MethodName) prog_5_method_2_code (4 : Nat) (Option.some Jvm.ClassFile.FieldType.boolean)) ∈ lw_all := lw_g (lw_at lw_m2 172 rfl) rfl
theorem q471 : (Jvm.Cond.methodLinkNest "SiteCuts$Against$3" (13 : Nat) ({ cls := "SiteCuts", name := "has", desc := "(II)Z" } : Jvm.MethodName) "SiteCuts") ∈ lw_tbl := lw_at lw_m2 173 rfl
theorem q949 : (Jvm.Cond.selects "SiteCuts$Against$3" ({ cls := "SiteCuts$Against", name := "ordinal", desc := "()I" } : Jvm.MethodName) ({ cls := "java/lang/Enum", name := "ordinal", desc := "()I" } : Jvm.MethodName)) ∈ lw_all := lw_g (lw_at lw_m4 171 rfl) rfl
theorem q1391 : (Jvm.Cond.castable "SiteCuts$Against$3" "java/lang/Object") ∈ lw_tbl := lw_at lw_m6 133 rfl

/-! SiteCuts$Against$2 -/
set_option maxRecDepth 100000
def RX11 : String := "SiteCuts$Against$2"
abbrev cX11_is : ByteArray := prog_4_method_2_code
def yX11_is : MethodName := ⟨RX11, "is", "(LSiteCuts$Land;I)Z"⟩
def dkwX11_is_0 : List UInt8 := [28, 184, 0, 7, 43, 180, 0, 13, 164, 0, 7, 4, 167, 0, 4, 3, 172]
abbrev dktX11_is_0 : List UInt8 := dkwX11_is_0 ++ []
theorem dksX11_is_0 : cX11_is.data.toList.drop 0 = dktX11_is_0 := by decide +kernel
theorem dX11_is_0 : decode cX11_is 0 = .ok (.iload_n 2, 1) := dk_28 (dk_at dksX11_is_0 0 rfl rfl)
theorem dX11_is_1 : decode cX11_is 1 = .ok (.invokestatic 7, 3) := dk_184 0 7 (dk_at dksX11_is_0 1 rfl rfl)
theorem dX11_is_4 : decode cX11_is 4 = .ok (.aload_n 1, 1) := dk_43 (dk_at dksX11_is_0 4 rfl rfl)
theorem dX11_is_5 : decode cX11_is 5 = .ok (.getfield 13, 3) := dk_180 0 13 (dk_at dksX11_is_0 5 rfl rfl)
theorem dX11_is_8 : decode cX11_is 8 = .ok (.if_icmp .le 7, 3) := dk_164 0 7 (dk_at dksX11_is_0 8 rfl rfl)
theorem dX11_is_11 : decode cX11_is 11 = .ok (.iconst 1, 1) := dk_4 (dk_at dksX11_is_0 11 rfl rfl)
theorem dX11_is_12 : decode cX11_is 12 = .ok (.goto 4, 3) := dk_167 0 4 (dk_at dksX11_is_0 12 rfl rfl)
theorem dX11_is_15 : decode cX11_is 15 = .ok (.iconst 0, 1) := dk_3 (dk_at dksX11_is_0 15 rfl rfl)
theorem dX11_is_16 : decode cX11_is 16 = .ok (.ireturn, 1) := dk_172 (dk_at dksX11_is_0 16 rfl rfl)
theorem q127 : (Jvm.Cond.fieldLinkNest "SiteCuts$Against$2" (13 : Nat) "SiteCuts$Land" "most" "I" "SiteCuts") ∈ lw_tbl := lw_at lw_m1 69 rfl
theorem q289 : (Jvm.Cond.selects "SiteCuts$Against$2" ({ cls := "java/lang/Object", name := "getClass", desc := "()Ljava/lang/Class;" } : Jvm.MethodName) ({ cls := "java/lang/Object", name := "getClass", desc := "()Ljava/lang/Class;" } : Jvm.MethodName)) ∈ lw_all := lw_g (lw_at lw_m1 231 rfl) rfl
theorem q464 : (Jvm.Cond.selects "SiteCuts$Against$2" ({ cls := "SiteCuts$Against", name := "is", desc := "(LSiteCuts$Land;I)Z" } : Jvm.MethodName) ({ cls := "SiteCuts$Against$2", name := "is", desc := "(LSiteCuts$Land;I)Z" } : Jvm.MethodName)) ∈ lw_all := lw_g (lw_at lw_m2 166 rfl) rfl
theorem q465 : (Jvm.Cond.instanceMethod ({ cls := "SiteCuts$Against$2", name := "is", desc := "(LSiteCuts$Land;I)Z" } : Jvm.MethodName)) ∈ lw_all := lw_g (lw_at lw_m2 167 rfl) rfl
theorem q466 : (Jvm.Cond.code ({ cls := "SiteCuts$Against$2", name := "is", desc := "(LSiteCuts$Land;I)Z" } : Jvm.MethodName) prog_4_method_2_code (3 : Nat) (Option.some Jvm.ClassFile.FieldType.boolean)) ∈ lw_all := lw_g (lw_at lw_m2 168 rfl) rfl
theorem q467 : (Jvm.Cond.methodLink "SiteCuts$Against$2" (7 : Nat) ({ cls := "java/lang/Integer", name := "bitCount", desc := "(I)I" } : Jvm.MethodName)) ∈ lw_all := lw_g (lw_at lw_m2 169 rfl) rfl
theorem q948 : (Jvm.Cond.selects "SiteCuts$Against$2" ({ cls := "SiteCuts$Against", name := "ordinal", desc := "()I" } : Jvm.MethodName) ({ cls := "java/lang/Enum", name := "ordinal", desc := "()I" } : Jvm.MethodName)) ∈ lw_all := lw_g (lw_at lw_m4 170 rfl) rfl
theorem q1390 : (Jvm.Cond.castable "SiteCuts$Against$2" "java/lang/Object") ∈ lw_tbl := lw_at lw_m6 132 rfl

/-! SiteCuts$Against$1 -/
set_option maxRecDepth 100000
def RX12 : String := "SiteCuts$Against$1"
abbrev cX12_is : ByteArray := prog_3_method_2_code
def yX12_is : MethodName := ⟨RX12, "is", "(LSiteCuts$Land;I)Z"⟩
theorem dX12_is_0 : decode cX12_is 0 = .ok (.iconst 0, 1) := by decide +kernel
theorem dX12_is_1 : decode cX12_is 1 = .ok (.ireturn, 1) := by decide +kernel
theorem q288 : (Jvm.Cond.selects "SiteCuts$Against$1" ({ cls := "java/lang/Object", name := "getClass", desc := "()Ljava/lang/Class;" } : Jvm.MethodName) ({ cls := "java/lang/Object", name := "getClass", desc := "()Ljava/lang/Class;" } : Jvm.MethodName)) ∈ lw_all := lw_g (lw_at lw_m1 230 rfl) rfl
theorem q461 : (Jvm.Cond.selects "SiteCuts$Against$1" ({ cls := "SiteCuts$Against", name := "is", desc := "(LSiteCuts$Land;I)Z" } : Jvm.MethodName) ({ cls := "SiteCuts$Against$1", name := "is", desc := "(LSiteCuts$Land;I)Z" } : Jvm.MethodName)) ∈ lw_all := lw_g (lw_at lw_m2 163 rfl) rfl
theorem q462 : (Jvm.Cond.instanceMethod ({ cls := "SiteCuts$Against$1", name := "is", desc := "(LSiteCuts$Land;I)Z" } : Jvm.MethodName)) ∈ lw_all := lw_g (lw_at lw_m2 164 rfl) rfl
theorem q463 : (Jvm.Cond.code ({ cls := "SiteCuts$Against$1", name := "is", desc := "(LSiteCuts$Land;I)Z" } : Jvm.MethodName) prog_3_method_2_code (3 : Nat) (Option.some Jvm.ClassFile.FieldType.boolean)) ∈ lw_all := lw_g (lw_at lw_m2 165 rfl) rfl
theorem q947 : (Jvm.Cond.selects "SiteCuts$Against$1" ({ cls := "SiteCuts$Against", name := "ordinal", desc := "()I" } : Jvm.MethodName) ({ cls := "java/lang/Enum", name := "ordinal", desc := "()I" } : Jvm.MethodName)) ∈ lw_all := lw_g (lw_at lw_m4 169 rfl) rfl
theorem q1398 : (Jvm.Cond.castable "SiteCuts$Against$1" "java/lang/Object") ∈ lw_tbl := lw_at lw_m6 140 rfl

/-! SiteCuts$Against$4 -/
set_option maxRecDepth 100000
def RX13 : String := "SiteCuts$Against$4"
abbrev cX13_is : ByteArray := prog_6_method_2_code
def yX13_is : MethodName := ⟨RX13, "is", "(LSiteCuts$Land;I)Z"⟩
def dkwX13_is_0 : List UInt8 := [43, 28, 182, 0, 9, 16, 251, 159, 0, 7, 4, 167, 0, 4, 3, 172]
abbrev dktX13_is_0 : List UInt8 := dkwX13_is_0 ++ []
theorem dksX13_is_0 : cX13_is.data.toList.drop 0 = dktX13_is_0 := by decide +kernel
theorem dX13_is_0 : decode cX13_is 0 = .ok (.aload_n 1, 1) := dk_43 (dk_at dksX13_is_0 0 rfl rfl)
theorem dX13_is_1 : decode cX13_is 1 = .ok (.iload_n 2, 1) := dk_28 (dk_at dksX13_is_0 1 rfl rfl)
theorem dX13_is_2 : decode cX13_is 2 = .ok (.invokevirtual 9, 3) := dk_182 0 9 (dk_at dksX13_is_0 2 rfl rfl)
theorem dX13_is_5 : decode cX13_is 5 = .ok (.bipush (-5), 2) := dk_16 251 (dk_at dksX13_is_0 5 rfl rfl)
theorem dX13_is_7 : decode cX13_is 7 = .ok (.if_icmp .eq 7, 3) := dk_159 0 7 (dk_at dksX13_is_0 7 rfl rfl)
theorem dX13_is_10 : decode cX13_is 10 = .ok (.iconst 1, 1) := dk_4 (dk_at dksX13_is_0 10 rfl rfl)
theorem dX13_is_11 : decode cX13_is 11 = .ok (.goto 4, 3) := dk_167 0 4 (dk_at dksX13_is_0 11 rfl rfl)
theorem dX13_is_14 : decode cX13_is 14 = .ok (.iconst 0, 1) := dk_3 (dk_at dksX13_is_0 14 rfl rfl)
theorem dX13_is_15 : decode cX13_is 15 = .ok (.ireturn, 1) := dk_172 (dk_at dksX13_is_0 15 rfl rfl)
theorem q291 : (Jvm.Cond.selects "SiteCuts$Against$4" ({ cls := "java/lang/Object", name := "getClass", desc := "()Ljava/lang/Class;" } : Jvm.MethodName) ({ cls := "java/lang/Object", name := "getClass", desc := "()Ljava/lang/Class;" } : Jvm.MethodName)) ∈ lw_all := lw_g (lw_at lw_m1 233 rfl) rfl
theorem q472 : (Jvm.Cond.selects "SiteCuts$Against$4" ({ cls := "SiteCuts$Against", name := "is", desc := "(LSiteCuts$Land;I)Z" } : Jvm.MethodName) ({ cls := "SiteCuts$Against$4", name := "is", desc := "(LSiteCuts$Land;I)Z" } : Jvm.MethodName)) ∈ lw_all := lw_g (lw_at lw_m2 174 rfl) rfl
theorem q473 : (Jvm.Cond.instanceMethod ({ cls := "SiteCuts$Against$4", name := "is", desc := "(LSiteCuts$Land;I)Z" } : Jvm.MethodName)) ∈ lw_all := lw_g (lw_at lw_m2 175 rfl) rfl
theorem q474 : (Jvm.Cond.code ({ cls := "SiteCuts$Against$4", name := "is", desc := "(LSiteCuts$Land;I)Z" } : Jvm.MethodName) prog_6_method_2_code (3 : Nat) (Option.some Jvm.ClassFile.FieldType.boolean)) ∈ lw_all := lw_g (lw_at lw_m2 176 rfl) rfl
theorem q475 : (Jvm.Cond.methodLink "SiteCuts$Against$4" (9 : Nat) ({ cls := "SiteCuts$Land", name := "lost", desc := "(I)I" } : Jvm.MethodName)) ∈ lw_all := lw_g (lw_at lw_m2 177 rfl) rfl
theorem q950 : (Jvm.Cond.selects "SiteCuts$Against$4" ({ cls := "SiteCuts$Against", name := "ordinal", desc := "()I" } : Jvm.MethodName) ({ cls := "java/lang/Enum", name := "ordinal", desc := "()I" } : Jvm.MethodName)) ∈ lw_all := lw_g (lw_at lw_m4 172 rfl) rfl
theorem q1397 : (Jvm.Cond.castable "SiteCuts$Against$4" "java/lang/Object") ∈ lw_tbl := lw_at lw_m6 139 rfl

/-! SiteCuts$Cut -/
set_option maxRecDepth 100000
def RX4 : String := "SiteCuts$Cut"
abbrev cX4_isRay : ByteArray := prog_7_method_2_code
def yX4_isRay : MethodName := ⟨RX4, "isRay", "()Z"⟩
def dkwX4_isRay_0 : List UInt8 := [42, 180, 0, 9, 154, 0, 7, 4, 167, 0, 4, 3, 172]
abbrev dktX4_isRay_0 : List UInt8 := dkwX4_isRay_0 ++ []
theorem dksX4_isRay_0 : cX4_isRay.data.toList.drop 0 = dktX4_isRay_0 := by decide +kernel
theorem dX4_isRay_0 : decode cX4_isRay 0 = .ok (.aload_n 0, 1) := dk_42 (dk_at dksX4_isRay_0 0 rfl rfl)
theorem dX4_isRay_1 : decode cX4_isRay 1 = .ok (.getfield 9, 3) := dk_180 0 9 (dk_at dksX4_isRay_0 1 rfl rfl)
theorem dX4_isRay_4 : decode cX4_isRay 4 = .ok (.ifCond .ne 7, 3) := dk_154 0 7 (dk_at dksX4_isRay_0 4 rfl rfl)
theorem dX4_isRay_7 : decode cX4_isRay 7 = .ok (.iconst 1, 1) := dk_4 (dk_at dksX4_isRay_0 7 rfl rfl)
theorem dX4_isRay_8 : decode cX4_isRay 8 = .ok (.goto 4, 3) := dk_167 0 4 (dk_at dksX4_isRay_0 8 rfl rfl)
theorem dX4_isRay_11 : decode cX4_isRay 11 = .ok (.iconst 0, 1) := dk_3 (dk_at dksX4_isRay_0 11 rfl rfl)
theorem dX4_isRay_12 : decode cX4_isRay 12 = .ok (.ireturn, 1) := dk_172 (dk_at dksX4_isRay_0 12 rfl rfl)
abbrev cX4_sum : ByteArray := prog_7_method_6_code
def yX4_sum : MethodName := ⟨RX4, "sum", "(LSiteCuts$Land;I)I"⟩
def dkwX4_sum_1 : List UInt8 := [42, 43, 21, 4, 182, 0, 24, 167, 0, 4, 3, 96, 62, 132, 4, 1, 167, 255, 221, 29, 172]
abbrev dktX4_sum_1 : List UInt8 := dkwX4_sum_1 ++ []
def dkwX4_sum_0 : List UInt8 := [3, 62, 3, 54, 4, 21, 4, 43, 180, 0, 15, 162, 0, 32, 29, 28, 21, 4, 184, 0, 20, 153, 0, 13]
abbrev dktX4_sum_0 : List UInt8 := dkwX4_sum_0 ++ dktX4_sum_1
theorem dksX4_sum_0 : cX4_sum.data.toList.drop 0 = dktX4_sum_0 := by decide +kernel
theorem dksX4_sum_1 : cX4_sum.data.toList.drop 24 = dktX4_sum_1 := dk_seg dksX4_sum_0 24 rfl rfl
theorem dX4_sum_0 : decode cX4_sum 0 = .ok (.iconst 0, 1) := dk_3 (dk_at dksX4_sum_0 0 rfl rfl)
theorem dX4_sum_1 : decode cX4_sum 1 = .ok (.istore_n 3, 1) := dk_62 (dk_at dksX4_sum_0 1 rfl rfl)
theorem dX4_sum_2 : decode cX4_sum 2 = .ok (.iconst 0, 1) := dk_3 (dk_at dksX4_sum_0 2 rfl rfl)
theorem dX4_sum_3 : decode cX4_sum 3 = .ok (.istore 4, 2) := dk_54 4 (dk_at dksX4_sum_0 3 rfl rfl)
theorem dX4_sum_5 : decode cX4_sum 5 = .ok (.iload 4, 2) := dk_21 4 (dk_at dksX4_sum_0 5 rfl rfl)
theorem dX4_sum_7 : decode cX4_sum 7 = .ok (.aload_n 1, 1) := dk_43 (dk_at dksX4_sum_0 7 rfl rfl)
theorem dX4_sum_8 : decode cX4_sum 8 = .ok (.getfield 15, 3) := dk_180 0 15 (dk_at dksX4_sum_0 8 rfl rfl)
theorem dX4_sum_11 : decode cX4_sum 11 = .ok (.if_icmp .ge 32, 3) := dk_162 0 32 (dk_at dksX4_sum_0 11 rfl rfl)
theorem dX4_sum_14 : decode cX4_sum 14 = .ok (.iload_n 3, 1) := dk_29 (dk_at dksX4_sum_0 14 rfl rfl)
theorem dX4_sum_15 : decode cX4_sum 15 = .ok (.iload_n 2, 1) := dk_28 (dk_at dksX4_sum_0 15 rfl rfl)
theorem dX4_sum_16 : decode cX4_sum 16 = .ok (.iload 4, 2) := dk_21 4 (dk_at dksX4_sum_0 16 rfl rfl)
theorem dX4_sum_18 : decode cX4_sum 18 = .ok (.invokestatic 20, 3) := dk_184 0 20 (dk_at dksX4_sum_0 18 rfl rfl)
theorem dX4_sum_21 : decode cX4_sum 21 = .ok (.ifCond .eq 13, 3) := dk_153 0 13 (dk_at dksX4_sum_0 21 rfl rfl)
theorem dX4_sum_24 : decode cX4_sum 24 = .ok (.aload_n 0, 1) := dk_42 (dk_at dksX4_sum_1 0 rfl rfl)
theorem dX4_sum_25 : decode cX4_sum 25 = .ok (.aload_n 1, 1) := dk_43 (dk_at dksX4_sum_1 1 rfl rfl)
theorem dX4_sum_26 : decode cX4_sum 26 = .ok (.iload 4, 2) := dk_21 4 (dk_at dksX4_sum_1 2 rfl rfl)
theorem dX4_sum_28 : decode cX4_sum 28 = .ok (.invokevirtual 24, 3) := dk_182 0 24 (dk_at dksX4_sum_1 4 rfl rfl)
theorem dX4_sum_31 : decode cX4_sum 31 = .ok (.goto 4, 3) := dk_167 0 4 (dk_at dksX4_sum_1 7 rfl rfl)
theorem dX4_sum_34 : decode cX4_sum 34 = .ok (.iconst 0, 1) := dk_3 (dk_at dksX4_sum_1 10 rfl rfl)
theorem dX4_sum_35 : decode cX4_sum 35 = .ok (.iadd, 1) := dk_96 (dk_at dksX4_sum_1 11 rfl rfl)
theorem dX4_sum_36 : decode cX4_sum 36 = .ok (.istore_n 3, 1) := dk_62 (dk_at dksX4_sum_1 12 rfl rfl)
theorem dX4_sum_37 : decode cX4_sum 37 = .ok (.iinc 4 1, 3) := dk_132 4 1 (dk_at dksX4_sum_1 13 rfl rfl)
theorem dX4_sum_40 : decode cX4_sum 40 = .ok (.goto (-35), 3) := dk_167 255 221 (dk_at dksX4_sum_1 16 rfl rfl)
theorem dX4_sum_43 : decode cX4_sum 43 = .ok (.iload_n 3, 1) := dk_29 (dk_at dksX4_sum_1 19 rfl rfl)
theorem dX4_sum_44 : decode cX4_sum 44 = .ok (.ireturn, 1) := dk_172 (dk_at dksX4_sum_1 20 rfl rfl)
abbrev cX4_value : ByteArray := prog_7_method_7_code
def yX4_value : MethodName := ⟨RX4, "value", "(LSiteCuts$Land;I)I"⟩
def dkwX4_value_0 : List UInt8 := [42, 43, 28, 182, 0, 28, 172]
abbrev dktX4_value_0 : List UInt8 := dkwX4_value_0 ++ []
theorem dksX4_value_0 : cX4_value.data.toList.drop 0 = dktX4_value_0 := by decide +kernel
theorem dX4_value_0 : decode cX4_value 0 = .ok (.aload_n 0, 1) := dk_42 (dk_at dksX4_value_0 0 rfl rfl)
theorem dX4_value_1 : decode cX4_value 1 = .ok (.aload_n 1, 1) := dk_43 (dk_at dksX4_value_0 1 rfl rfl)
theorem dX4_value_2 : decode cX4_value 2 = .ok (.iload_n 2, 1) := dk_28 (dk_at dksX4_value_0 2 rfl rfl)
theorem dX4_value_3 : decode cX4_value 3 = .ok (.invokevirtual 28, 3) := dk_182 0 28 (dk_at dksX4_value_0 3 rfl rfl)
theorem dX4_value_6 : decode cX4_value 6 = .ok (.ireturn, 1) := dk_172 (dk_at dksX4_value_0 6 rfl rfl)
abbrev cX4_isBroken : ByteArray := prog_7_method_8_code
def yX4_isBroken : MethodName := ⟨RX4, "isBroken", "(LSiteCuts$Land;I)Z"⟩
def dkwX4_isBroken_0 : List UInt8 := [42, 43, 28, 182, 0, 31, 4, 162, 0, 7, 4, 167, 0, 4, 3, 172]
abbrev dktX4_isBroken_0 : List UInt8 := dkwX4_isBroken_0 ++ []
theorem dksX4_isBroken_0 : cX4_isBroken.data.toList.drop 0 = dktX4_isBroken_0 := by decide +kernel
theorem dX4_isBroken_0 : decode cX4_isBroken 0 = .ok (.aload_n 0, 1) := dk_42 (dk_at dksX4_isBroken_0 0 rfl rfl)
theorem dX4_isBroken_1 : decode cX4_isBroken 1 = .ok (.aload_n 1, 1) := dk_43 (dk_at dksX4_isBroken_0 1 rfl rfl)
theorem dX4_isBroken_2 : decode cX4_isBroken 2 = .ok (.iload_n 2, 1) := dk_28 (dk_at dksX4_isBroken_0 2 rfl rfl)
theorem dX4_isBroken_3 : decode cX4_isBroken 3 = .ok (.invokevirtual 31, 3) := dk_182 0 31 (dk_at dksX4_isBroken_0 3 rfl rfl)
theorem dX4_isBroken_6 : decode cX4_isBroken 6 = .ok (.iconst 1, 1) := dk_4 (dk_at dksX4_isBroken_0 6 rfl rfl)
theorem dX4_isBroken_7 : decode cX4_isBroken 7 = .ok (.if_icmp .ge 7, 3) := dk_162 0 7 (dk_at dksX4_isBroken_0 7 rfl rfl)
theorem dX4_isBroken_10 : decode cX4_isBroken 10 = .ok (.iconst 1, 1) := dk_4 (dk_at dksX4_isBroken_0 10 rfl rfl)
theorem dX4_isBroken_11 : decode cX4_isBroken 11 = .ok (.goto 4, 3) := dk_167 0 4 (dk_at dksX4_isBroken_0 11 rfl rfl)
theorem dX4_isBroken_14 : decode cX4_isBroken 14 = .ok (.iconst 0, 1) := dk_3 (dk_at dksX4_isBroken_0 14 rfl rfl)
theorem dX4_isBroken_15 : decode cX4_isBroken 15 = .ok (.ireturn, 1) := dk_172 (dk_at dksX4_isBroken_0 15 rfl rfl)
abbrev cX4_init : ByteArray := prog_7_method_1_code
def yX4_init : MethodName := ⟨RX4, "<init>", "(I)V"⟩
def dkwX4_init_0 : List UInt8 := [42, 183, 0, 3, 42, 27, 181, 0, 9, 177]
abbrev dktX4_init_0 : List UInt8 := dkwX4_init_0 ++ []
theorem dksX4_init_0 : cX4_init.data.toList.drop 0 = dktX4_init_0 := by decide +kernel
theorem dX4_init_0 : decode cX4_init 0 = .ok (.aload_n 0, 1) := dk_42 (dk_at dksX4_init_0 0 rfl rfl)
theorem dX4_init_1 : decode cX4_init 1 = .ok (.invokespecial 3, 3) := dk_183 0 3 (dk_at dksX4_init_0 1 rfl rfl)
theorem dX4_init_4 : decode cX4_init 4 = .ok (.aload_n 0, 1) := dk_42 (dk_at dksX4_init_0 4 rfl rfl)
theorem dX4_init_5 : decode cX4_init 5 = .ok (.iload_n 1, 1) := dk_27 (dk_at dksX4_init_0 5 rfl rfl)
theorem dX4_init_6 : decode cX4_init 6 = .ok (.putfield 9, 3) := dk_181 0 9 (dk_at dksX4_init_0 6 rfl rfl)
theorem dX4_init_9 : decode cX4_init 9 = .ok (.return_, 1) := dk_177 (dk_at dksX4_init_0 9 rfl rfl)
abbrev cX4_customer : ByteArray := prog_7_method_3_code
def yX4_customer : MethodName := ⟨RX4, "customer", "()I"⟩
theorem dX4_customer_0 : decode cX4_customer 0 = .ok (.bipush (-5), 2) := by decide +kernel
theorem dX4_customer_2 : decode cX4_customer 2 = .ok (.ireturn, 1) := by decide +kernel
abbrev cX4_isTight : ByteArray := prog_7_method_9_code
def yX4_isTight : MethodName := ⟨RX4, "isTight", "(LSiteCuts$Land;I)Z"⟩
def dkwX4_isTight_0 : List UInt8 := [42, 43, 28, 182, 0, 31, 4, 160, 0, 7, 4, 167, 0, 4, 3, 172]
abbrev dktX4_isTight_0 : List UInt8 := dkwX4_isTight_0 ++ []
theorem dksX4_isTight_0 : cX4_isTight.data.toList.drop 0 = dktX4_isTight_0 := by decide +kernel
theorem dX4_isTight_0 : decode cX4_isTight 0 = .ok (.aload_n 0, 1) := dk_42 (dk_at dksX4_isTight_0 0 rfl rfl)
theorem dX4_isTight_1 : decode cX4_isTight 1 = .ok (.aload_n 1, 1) := dk_43 (dk_at dksX4_isTight_0 1 rfl rfl)
theorem dX4_isTight_2 : decode cX4_isTight 2 = .ok (.iload_n 2, 1) := dk_28 (dk_at dksX4_isTight_0 2 rfl rfl)
theorem dX4_isTight_3 : decode cX4_isTight 3 = .ok (.invokevirtual 31, 3) := dk_182 0 31 (dk_at dksX4_isTight_0 3 rfl rfl)
theorem dX4_isTight_6 : decode cX4_isTight 6 = .ok (.iconst 1, 1) := dk_4 (dk_at dksX4_isTight_0 6 rfl rfl)
theorem dX4_isTight_7 : decode cX4_isTight 7 = .ok (.if_icmp .ne 7, 3) := dk_160 0 7 (dk_at dksX4_isTight_0 7 rfl rfl)
theorem dX4_isTight_10 : decode cX4_isTight 10 = .ok (.iconst 1, 1) := dk_4 (dk_at dksX4_isTight_0 10 rfl rfl)
theorem dX4_isTight_11 : decode cX4_isTight 11 = .ok (.goto 4, 3) := dk_167 0 4 (dk_at dksX4_isTight_0 11 rfl rfl)
theorem dX4_isTight_14 : decode cX4_isTight 14 = .ok (.iconst 0, 1) := dk_3 (dk_at dksX4_isTight_0 14 rfl rfl)
theorem dX4_isTight_15 : decode cX4_isTight 15 = .ok (.ireturn, 1) := dk_172 (dk_at dksX4_isTight_0 15 rfl rfl)
theorem q79 : (Jvm.Cond.initialized "SiteCuts$Cut") ∈ lw_all := lw_g (lw_at lw_m1 21 rfl) rfl
theorem q121 : (Jvm.Cond.fieldLinkNest "SiteCuts$Cut" (15 : Nat) "SiteCuts$Land" "sites" "I" "SiteCuts") ∈ lw_tbl := lw_at lw_m1 63 rfl
theorem q508 : (Jvm.Cond.instanceMethod ({ cls := "SiteCuts$Cut", name := "isRay", desc := "()Z" } : Jvm.MethodName)) ∈ lw_all := lw_g (lw_at lw_m2 210 rfl) rfl
theorem q509 : (Jvm.Cond.sameMethod "SiteCuts$Cut" "SiteCuts$Cut" "isRay" "()Z") ∈ lw_all := lw_g (lw_at lw_m2 211 rfl) rfl
theorem q513 : (Jvm.Cond.code ({ cls := "SiteCuts$Cut", name := "isRay", desc := "()Z" } : Jvm.MethodName) prog_7_method_2_code (1 : Nat) (Option.some Jvm.ClassFile.FieldType.boolean)) ∈ lw_all := lw_g (lw_at lw_m2 215 rfl) rfl
theorem q515 : (Jvm.Cond.instanceMethod ({ cls := "SiteCuts$Cut", name := "isBroken", desc := "(LSiteCuts$Land;I)Z" } : Jvm.MethodName)) ∈ lw_all := lw_g (lw_at lw_m2 217 rfl) rfl
theorem q516 : (Jvm.Cond.sameMethod "SiteCuts$Cut" "SiteCuts$Cut" "isBroken" "(LSiteCuts$Land;I)Z") ∈ lw_all := lw_g (lw_at lw_m2 218 rfl) rfl
theorem q535 : (Jvm.Cond.declares ({ cls := "SiteCuts$Cut", name := "sum", desc := "(LSiteCuts$Land;I)I" } : Jvm.MethodName)) ∈ lw_tbl := lw_at lw_m2 237 rfl
theorem q538 : (Jvm.Cond.instanceMethod ({ cls := "SiteCuts$Cut", name := "sum", desc := "(LSiteCuts$Land;I)I" } : Jvm.MethodName)) ∈ lw_all := lw_g (lw_at lw_m3 0 rfl) rfl
theorem q539 : (Jvm.Cond.code ({ cls := "SiteCuts$Cut", name := "sum", desc := "(LSiteCuts$Land;I)I" } : Jvm.MethodName) prog_7_method_6_code (5 : Nat) (Option.some Jvm.ClassFile.FieldType.int)) ∈ lw_all := lw_g (lw_at lw_m3 1 rfl) rfl
theorem q540 : (Jvm.Cond.methodLinkNest "SiteCuts$Cut" (20 : Nat) ({ cls := "SiteCuts", name := "has", desc := "(II)Z" } : Jvm.MethodName) "SiteCuts") ∈ lw_tbl := lw_at lw_m3 2 rfl
theorem q541 : (Jvm.Cond.methodLink "SiteCuts$Cut" (24 : Nat) ({ cls := "SiteCuts$Cut", name := "weight", desc := "(LSiteCuts$Land;I)I" } : Jvm.MethodName)) ∈ lw_all := lw_g (lw_at lw_m3 3 rfl) rfl
theorem q542 : (Jvm.Cond.declares ({ cls := "SiteCuts$Cut", name := "weight", desc := "(LSiteCuts$Land;I)I" } : Jvm.MethodName)) ∈ lw_tbl := lw_at lw_m3 4 rfl
theorem q543 : (Jvm.Cond.sameMethod "SiteCuts$Cut" "SiteCuts$Cut" "weight" "(LSiteCuts$Land;I)I") ∈ lw_all := lw_g (lw_at lw_m3 5 rfl) rfl
theorem q557 : (Jvm.Cond.instanceMethod ({ cls := "SiteCuts$Cut", name := "value", desc := "(LSiteCuts$Land;I)I" } : Jvm.MethodName)) ∈ lw_all := lw_g (lw_at lw_m3 19 rfl) rfl
theorem q558 : (Jvm.Cond.code ({ cls := "SiteCuts$Cut", name := "value", desc := "(LSiteCuts$Land;I)I" } : Jvm.MethodName) prog_7_method_7_code (3 : Nat) (Option.some Jvm.ClassFile.FieldType.int)) ∈ lw_all := lw_g (lw_at lw_m3 20 rfl) rfl
theorem q559 : (Jvm.Cond.methodLink "SiteCuts$Cut" (28 : Nat) ({ cls := "SiteCuts$Cut", name := "sum", desc := "(LSiteCuts$Land;I)I" } : Jvm.MethodName)) ∈ lw_all := lw_g (lw_at lw_m3 21 rfl) rfl
theorem q566 : (Jvm.Cond.code ({ cls := "SiteCuts$Cut", name := "isBroken", desc := "(LSiteCuts$Land;I)Z" } : Jvm.MethodName) prog_7_method_8_code (3 : Nat) (Option.some Jvm.ClassFile.FieldType.boolean)) ∈ lw_all := lw_g (lw_at lw_m3 28 rfl) rfl
theorem q567 : (Jvm.Cond.methodLink "SiteCuts$Cut" (31 : Nat) ({ cls := "SiteCuts$Cut", name := "value", desc := "(LSiteCuts$Land;I)I" } : Jvm.MethodName)) ∈ lw_all := lw_g (lw_at lw_m3 29 rfl) rfl
theorem q624 : (Jvm.Cond.instanceMethod ({ cls := "SiteCuts$Cut", name := "<init>", desc := "(I)V" } : Jvm.MethodName)) ∈ lw_all := lw_g (lw_at lw_m3 86 rfl) rfl
theorem q625 : (Jvm.Cond.code ({ cls := "SiteCuts$Cut", name := "<init>", desc := "(I)V" } : Jvm.MethodName) prog_7_method_1_code (2 : Nat) (Option.none : Option Jvm.ClassFile.FieldType)) ∈ lw_all := lw_g (lw_at lw_m3 87 rfl) rfl
theorem q626 : (Jvm.Cond.methodLink "SiteCuts$Cut" (3 : Nat) ({ cls := "java/lang/Object", name := "<init>", desc := "()V" } : Jvm.MethodName)) ∈ lw_all := lw_g (lw_at lw_m3 88 rfl) rfl
theorem q628 : (Jvm.Cond.fieldLink "SiteCuts$Cut" (9 : Nat) "SiteCuts$Cut" "kind" "I") ∈ lw_all := lw_g (lw_at lw_m3 90 rfl) rfl
theorem q632 : (Jvm.Cond.soleField "SiteCuts$Cut" "kind") ∈ lw_all := lw_g (lw_at lw_m3 94 rfl) rfl
theorem q977 : (Jvm.Cond.instanceMethod ({ cls := "SiteCuts$Cut", name := "customer", desc := "()I" } : Jvm.MethodName)) ∈ lw_all := lw_g (lw_at lw_m4 199 rfl) rfl
theorem q978 : (Jvm.Cond.sameMethod "SiteCuts$Cut" "SiteCuts$Cut" "customer" "()I") ∈ lw_all := lw_g (lw_at lw_m4 200 rfl) rfl
theorem q984 : (Jvm.Cond.code ({ cls := "SiteCuts$Cut", name := "customer", desc := "()I" } : Jvm.MethodName) prog_7_method_3_code (1 : Nat) (Option.some Jvm.ClassFile.FieldType.int)) ∈ lw_all := lw_g (lw_at lw_m4 206 rfl) rfl
theorem q986 : (Jvm.Cond.declares ({ cls := "SiteCuts$Cut", name := "constant", desc := "(LSiteCuts$Land;)I" } : Jvm.MethodName)) ∈ lw_tbl := lw_at lw_m4 208 rfl
theorem q987 : (Jvm.Cond.sameMethod "SiteCuts$Cut" "SiteCuts$Cut" "constant" "(LSiteCuts$Land;)I") ∈ lw_all := lw_g (lw_at lw_m4 209 rfl) rfl
theorem q1011 : (Jvm.Cond.instanceMethod ({ cls := "SiteCuts$Cut", name := "isTight", desc := "(LSiteCuts$Land;I)Z" } : Jvm.MethodName)) ∈ lw_all := lw_g (lw_at lw_m4 233 rfl) rfl
theorem q1012 : (Jvm.Cond.sameMethod "SiteCuts$Cut" "SiteCuts$Cut" "isTight" "(LSiteCuts$Land;I)Z") ∈ lw_all := lw_g (lw_at lw_m4 234 rfl) rfl
theorem q1018 : (Jvm.Cond.code ({ cls := "SiteCuts$Cut", name := "isTight", desc := "(LSiteCuts$Land;I)Z" } : Jvm.MethodName) prog_7_method_9_code (3 : Nat) (Option.some Jvm.ClassFile.FieldType.boolean)) ∈ lw_all := lw_g (lw_at lw_m5 0 rfl) rfl
theorem q1363 : (Jvm.Cond.sameMethod "SiteCuts$Cut" "SiteCuts$Cut" "value" "(LSiteCuts$Land;I)I") ∈ lw_all := lw_g (lw_at lw_m6 105 rfl) rfl
theorem q1364 : (Jvm.Cond.sameMethod "SiteCuts$Cut" "SiteCuts$Cut" "sum" "(LSiteCuts$Land;I)I") ∈ lw_all := lw_g (lw_at lw_m6 106 rfl) rfl

/-! SiteCuts$PriceCut -/
set_option maxRecDepth 100000
def RX5 : String := "SiteCuts$PriceCut"
def TX5 : u_T := fun k => match k with
  | 0 => ("SiteCuts$Cut", "kind", "I", true)
  | _ => ("SiteCuts$PriceCut", "numbers", "[I", true)
def tyX5 : Nat → FieldType := fun k => match k with
  | 0 => .int
  | _ => .array .int
abbrev wsX50 : List Cond := u_ws RX5 TX5 2
theorem nmX5 : ∀ a, a < 2 → ∀ b, b < 2 → a ≠ b → (TX5 a).2.1 ≠ (TX5 b).2.1 := by decide +kernel
theorem tyX5_ok : ∀ k, k < 2 → parseFieldDescriptor (TX5 k).2.2.1 = some (tyX5 k) := by decide +kernel
abbrev cX5_isBroken : ByteArray := prog_11_method_5_code
def yX5_isBroken : MethodName := ⟨RX5, "isBroken", "(LSiteCuts$Land;I)Z"⟩
def dkwX5_isBroken_0 : List UInt8 := [42, 43, 28, 182, 0, 39, 43, 28, 182, 0, 40, 164, 0, 7, 4, 167, 0, 4, 3, 172]
abbrev dktX5_isBroken_0 : List UInt8 := dkwX5_isBroken_0 ++ []
theorem dksX5_isBroken_0 : cX5_isBroken.data.toList.drop 0 = dktX5_isBroken_0 := by decide +kernel
theorem dX5_isBroken_0 : decode cX5_isBroken 0 = .ok (.aload_n 0, 1) := dk_42 (dk_at dksX5_isBroken_0 0 rfl rfl)
theorem dX5_isBroken_1 : decode cX5_isBroken 1 = .ok (.aload_n 1, 1) := dk_43 (dk_at dksX5_isBroken_0 1 rfl rfl)
theorem dX5_isBroken_2 : decode cX5_isBroken 2 = .ok (.iload_n 2, 1) := dk_28 (dk_at dksX5_isBroken_0 2 rfl rfl)
theorem dX5_isBroken_3 : decode cX5_isBroken 3 = .ok (.invokevirtual 39, 3) := dk_182 0 39 (dk_at dksX5_isBroken_0 3 rfl rfl)
theorem dX5_isBroken_6 : decode cX5_isBroken 6 = .ok (.aload_n 1, 1) := dk_43 (dk_at dksX5_isBroken_0 6 rfl rfl)
theorem dX5_isBroken_7 : decode cX5_isBroken 7 = .ok (.iload_n 2, 1) := dk_28 (dk_at dksX5_isBroken_0 7 rfl rfl)
theorem dX5_isBroken_8 : decode cX5_isBroken 8 = .ok (.invokevirtual 40, 3) := dk_182 0 40 (dk_at dksX5_isBroken_0 8 rfl rfl)
theorem dX5_isBroken_11 : decode cX5_isBroken 11 = .ok (.if_icmp .le 7, 3) := dk_164 0 7 (dk_at dksX5_isBroken_0 11 rfl rfl)
theorem dX5_isBroken_14 : decode cX5_isBroken 14 = .ok (.iconst 1, 1) := dk_4 (dk_at dksX5_isBroken_0 14 rfl rfl)
theorem dX5_isBroken_15 : decode cX5_isBroken 15 = .ok (.goto 4, 3) := dk_167 0 4 (dk_at dksX5_isBroken_0 15 rfl rfl)
theorem dX5_isBroken_18 : decode cX5_isBroken 18 = .ok (.iconst 0, 1) := dk_3 (dk_at dksX5_isBroken_0 18 rfl rfl)
theorem dX5_isBroken_19 : decode cX5_isBroken 19 = .ok (.ireturn, 1) := dk_172 (dk_at dksX5_isBroken_0 19 rfl rfl)
abbrev cX5_constant : ByteArray := prog_11_method_3_code
def yX5_constant : MethodName := ⟨RX5, "constant", "(LSiteCuts$Land;)I"⟩
def dkwX5_constant_1 : List UInt8 := [46, 104, 96, 61, 132, 3, 1, 167, 255, 229, 28, 172]
abbrev dktX5_constant_1 : List UInt8 := dkwX5_constant_1 ++ []
def dkwX5_constant_0 : List UInt8 := [3, 61, 3, 62, 29, 43, 180, 0, 13, 162, 0, 25, 28, 43, 180, 0, 19, 29, 46, 42, 180, 0, 7, 29]
abbrev dktX5_constant_0 : List UInt8 := dkwX5_constant_0 ++ dktX5_constant_1
theorem dksX5_constant_0 : cX5_constant.data.toList.drop 0 = dktX5_constant_0 := by decide +kernel
theorem dksX5_constant_1 : cX5_constant.data.toList.drop 24 = dktX5_constant_1 := dk_seg dksX5_constant_0 24 rfl rfl
theorem dX5_constant_0 : decode cX5_constant 0 = .ok (.iconst 0, 1) := dk_3 (dk_at dksX5_constant_0 0 rfl rfl)
theorem dX5_constant_1 : decode cX5_constant 1 = .ok (.istore_n 2, 1) := dk_61 (dk_at dksX5_constant_0 1 rfl rfl)
theorem dX5_constant_2 : decode cX5_constant 2 = .ok (.iconst 0, 1) := dk_3 (dk_at dksX5_constant_0 2 rfl rfl)
theorem dX5_constant_3 : decode cX5_constant 3 = .ok (.istore_n 3, 1) := dk_62 (dk_at dksX5_constant_0 3 rfl rfl)
theorem dX5_constant_4 : decode cX5_constant 4 = .ok (.iload_n 3, 1) := dk_29 (dk_at dksX5_constant_0 4 rfl rfl)
theorem dX5_constant_5 : decode cX5_constant 5 = .ok (.aload_n 1, 1) := dk_43 (dk_at dksX5_constant_0 5 rfl rfl)
theorem dX5_constant_6 : decode cX5_constant 6 = .ok (.getfield 13, 3) := dk_180 0 13 (dk_at dksX5_constant_0 6 rfl rfl)
theorem dX5_constant_9 : decode cX5_constant 9 = .ok (.if_icmp .ge 25, 3) := dk_162 0 25 (dk_at dksX5_constant_0 9 rfl rfl)
theorem dX5_constant_12 : decode cX5_constant 12 = .ok (.iload_n 2, 1) := dk_28 (dk_at dksX5_constant_0 12 rfl rfl)
theorem dX5_constant_13 : decode cX5_constant 13 = .ok (.aload_n 1, 1) := dk_43 (dk_at dksX5_constant_0 13 rfl rfl)
theorem dX5_constant_14 : decode cX5_constant 14 = .ok (.getfield 19, 3) := dk_180 0 19 (dk_at dksX5_constant_0 14 rfl rfl)
theorem dX5_constant_17 : decode cX5_constant 17 = .ok (.iload_n 3, 1) := dk_29 (dk_at dksX5_constant_0 17 rfl rfl)
theorem dX5_constant_18 : decode cX5_constant 18 = .ok (.iaload, 1) := dk_46 (dk_at dksX5_constant_0 18 rfl rfl)
theorem dX5_constant_19 : decode cX5_constant 19 = .ok (.aload_n 0, 1) := dk_42 (dk_at dksX5_constant_0 19 rfl rfl)
theorem dX5_constant_20 : decode cX5_constant 20 = .ok (.getfield 7, 3) := dk_180 0 7 (dk_at dksX5_constant_0 20 rfl rfl)
theorem dX5_constant_23 : decode cX5_constant 23 = .ok (.iload_n 3, 1) := dk_29 (dk_at dksX5_constant_0 23 rfl rfl)
theorem dX5_constant_24 : decode cX5_constant 24 = .ok (.iaload, 1) := dk_46 (dk_at dksX5_constant_1 0 rfl rfl)
theorem dX5_constant_25 : decode cX5_constant 25 = .ok (.imul, 1) := dk_104 (dk_at dksX5_constant_1 1 rfl rfl)
theorem dX5_constant_26 : decode cX5_constant 26 = .ok (.iadd, 1) := dk_96 (dk_at dksX5_constant_1 2 rfl rfl)
theorem dX5_constant_27 : decode cX5_constant 27 = .ok (.istore_n 2, 1) := dk_61 (dk_at dksX5_constant_1 3 rfl rfl)
theorem dX5_constant_28 : decode cX5_constant 28 = .ok (.iinc 3 1, 3) := dk_132 3 1 (dk_at dksX5_constant_1 4 rfl rfl)
theorem dX5_constant_31 : decode cX5_constant 31 = .ok (.goto (-27), 3) := dk_167 255 229 (dk_at dksX5_constant_1 7 rfl rfl)
theorem dX5_constant_34 : decode cX5_constant 34 = .ok (.iload_n 2, 1) := dk_28 (dk_at dksX5_constant_1 10 rfl rfl)
theorem dX5_constant_35 : decode cX5_constant 35 = .ok (.ireturn, 1) := dk_172 (dk_at dksX5_constant_1 11 rfl rfl)
abbrev cX5_weight : ByteArray := prog_11_method_2_code
def yX5_weight : MethodName := ⟨RX5, "weight", "(LSiteCuts$Land;I)I"⟩
def dkwX5_weight_2 : List UInt8 := [167, 255, 214, 29, 172]
abbrev dktX5_weight_2 : List UInt8 := dkwX5_weight_2 ++ []
def dkwX5_weight_1 : List UInt8 := [180, 0, 7, 21, 4, 46, 43, 28, 21, 4, 182, 0, 22, 100, 184, 0, 26, 104, 96, 62, 132, 4, 1]
abbrev dktX5_weight_1 : List UInt8 := dkwX5_weight_1 ++ dktX5_weight_2
def dkwX5_weight_0 : List UInt8 := [3, 62, 3, 54, 4, 21, 4, 43, 180, 0, 13, 162, 0, 39, 29, 43, 180, 0, 19, 21, 4, 46, 3, 42]
abbrev dktX5_weight_0 : List UInt8 := dkwX5_weight_0 ++ dktX5_weight_1
theorem dksX5_weight_0 : cX5_weight.data.toList.drop 0 = dktX5_weight_0 := by decide +kernel
theorem dksX5_weight_1 : cX5_weight.data.toList.drop 24 = dktX5_weight_1 := dk_seg dksX5_weight_0 24 rfl rfl
theorem dksX5_weight_2 : cX5_weight.data.toList.drop 47 = dktX5_weight_2 := dk_seg dksX5_weight_1 23 rfl rfl
theorem dX5_weight_0 : decode cX5_weight 0 = .ok (.iconst 0, 1) := dk_3 (dk_at dksX5_weight_0 0 rfl rfl)
theorem dX5_weight_1 : decode cX5_weight 1 = .ok (.istore_n 3, 1) := dk_62 (dk_at dksX5_weight_0 1 rfl rfl)
theorem dX5_weight_2 : decode cX5_weight 2 = .ok (.iconst 0, 1) := dk_3 (dk_at dksX5_weight_0 2 rfl rfl)
theorem dX5_weight_3 : decode cX5_weight 3 = .ok (.istore 4, 2) := dk_54 4 (dk_at dksX5_weight_0 3 rfl rfl)
theorem dX5_weight_5 : decode cX5_weight 5 = .ok (.iload 4, 2) := dk_21 4 (dk_at dksX5_weight_0 5 rfl rfl)
theorem dX5_weight_7 : decode cX5_weight 7 = .ok (.aload_n 1, 1) := dk_43 (dk_at dksX5_weight_0 7 rfl rfl)
theorem dX5_weight_8 : decode cX5_weight 8 = .ok (.getfield 13, 3) := dk_180 0 13 (dk_at dksX5_weight_0 8 rfl rfl)
theorem dX5_weight_11 : decode cX5_weight 11 = .ok (.if_icmp .ge 39, 3) := dk_162 0 39 (dk_at dksX5_weight_0 11 rfl rfl)
theorem dX5_weight_14 : decode cX5_weight 14 = .ok (.iload_n 3, 1) := dk_29 (dk_at dksX5_weight_0 14 rfl rfl)
theorem dX5_weight_15 : decode cX5_weight 15 = .ok (.aload_n 1, 1) := dk_43 (dk_at dksX5_weight_0 15 rfl rfl)
theorem dX5_weight_16 : decode cX5_weight 16 = .ok (.getfield 19, 3) := dk_180 0 19 (dk_at dksX5_weight_0 16 rfl rfl)
theorem dX5_weight_19 : decode cX5_weight 19 = .ok (.iload 4, 2) := dk_21 4 (dk_at dksX5_weight_0 19 rfl rfl)
theorem dX5_weight_21 : decode cX5_weight 21 = .ok (.iaload, 1) := dk_46 (dk_at dksX5_weight_0 21 rfl rfl)
theorem dX5_weight_22 : decode cX5_weight 22 = .ok (.iconst 0, 1) := dk_3 (dk_at dksX5_weight_0 22 rfl rfl)
theorem dX5_weight_23 : decode cX5_weight 23 = .ok (.aload_n 0, 1) := dk_42 (dk_at dksX5_weight_0 23 rfl rfl)
theorem dX5_weight_24 : decode cX5_weight 24 = .ok (.getfield 7, 3) := dk_180 0 7 (dk_at dksX5_weight_1 0 rfl rfl)
theorem dX5_weight_27 : decode cX5_weight 27 = .ok (.iload 4, 2) := dk_21 4 (dk_at dksX5_weight_1 3 rfl rfl)
theorem dX5_weight_29 : decode cX5_weight 29 = .ok (.iaload, 1) := dk_46 (dk_at dksX5_weight_1 5 rfl rfl)
theorem dX5_weight_30 : decode cX5_weight 30 = .ok (.aload_n 1, 1) := dk_43 (dk_at dksX5_weight_1 6 rfl rfl)
theorem dX5_weight_31 : decode cX5_weight 31 = .ok (.iload_n 2, 1) := dk_28 (dk_at dksX5_weight_1 7 rfl rfl)
theorem dX5_weight_32 : decode cX5_weight 32 = .ok (.iload 4, 2) := dk_21 4 (dk_at dksX5_weight_1 8 rfl rfl)
theorem dX5_weight_34 : decode cX5_weight 34 = .ok (.invokevirtual 22, 3) := dk_182 0 22 (dk_at dksX5_weight_1 10 rfl rfl)
theorem dX5_weight_37 : decode cX5_weight 37 = .ok (.isub, 1) := dk_100 (dk_at dksX5_weight_1 13 rfl rfl)
theorem dX5_weight_38 : decode cX5_weight 38 = .ok (.invokestatic 26, 3) := dk_184 0 26 (dk_at dksX5_weight_1 14 rfl rfl)
theorem dX5_weight_41 : decode cX5_weight 41 = .ok (.imul, 1) := dk_104 (dk_at dksX5_weight_1 17 rfl rfl)
theorem dX5_weight_42 : decode cX5_weight 42 = .ok (.iadd, 1) := dk_96 (dk_at dksX5_weight_1 18 rfl rfl)
theorem dX5_weight_43 : decode cX5_weight 43 = .ok (.istore_n 3, 1) := dk_62 (dk_at dksX5_weight_1 19 rfl rfl)
theorem dX5_weight_44 : decode cX5_weight 44 = .ok (.iinc 4 1, 3) := dk_132 4 1 (dk_at dksX5_weight_1 20 rfl rfl)
theorem dX5_weight_47 : decode cX5_weight 47 = .ok (.goto (-42), 3) := dk_167 255 214 (dk_at dksX5_weight_2 0 rfl rfl)
theorem dX5_weight_50 : decode cX5_weight 50 = .ok (.iload_n 3, 1) := dk_29 (dk_at dksX5_weight_2 3 rfl rfl)
theorem dX5_weight_51 : decode cX5_weight 51 = .ok (.ireturn, 1) := dk_172 (dk_at dksX5_weight_2 4 rfl rfl)
abbrev cX5_value : ByteArray := prog_11_method_4_code
def yX5_value : MethodName := ⟨RX5, "value", "(LSiteCuts$Land;I)I"⟩
def dkwX5_value_0 : List UInt8 := [42, 43, 182, 0, 31, 42, 43, 28, 183, 0, 35, 100, 172]
abbrev dktX5_value_0 : List UInt8 := dkwX5_value_0 ++ []
theorem dksX5_value_0 : cX5_value.data.toList.drop 0 = dktX5_value_0 := by decide +kernel
theorem dX5_value_0 : decode cX5_value 0 = .ok (.aload_n 0, 1) := dk_42 (dk_at dksX5_value_0 0 rfl rfl)
theorem dX5_value_1 : decode cX5_value 1 = .ok (.aload_n 1, 1) := dk_43 (dk_at dksX5_value_0 1 rfl rfl)
theorem dX5_value_2 : decode cX5_value 2 = .ok (.invokevirtual 31, 3) := dk_182 0 31 (dk_at dksX5_value_0 2 rfl rfl)
theorem dX5_value_5 : decode cX5_value 5 = .ok (.aload_n 0, 1) := dk_42 (dk_at dksX5_value_0 5 rfl rfl)
theorem dX5_value_6 : decode cX5_value 6 = .ok (.aload_n 1, 1) := dk_43 (dk_at dksX5_value_0 6 rfl rfl)
theorem dX5_value_7 : decode cX5_value 7 = .ok (.iload_n 2, 1) := dk_28 (dk_at dksX5_value_0 7 rfl rfl)
theorem dX5_value_8 : decode cX5_value 8 = .ok (.invokespecial 35, 3) := dk_183 0 35 (dk_at dksX5_value_0 8 rfl rfl)
theorem dX5_value_11 : decode cX5_value 11 = .ok (.isub, 1) := dk_100 (dk_at dksX5_value_0 11 rfl rfl)
theorem dX5_value_12 : decode cX5_value 12 = .ok (.ireturn, 1) := dk_172 (dk_at dksX5_value_0 12 rfl rfl)
abbrev cX5_init : ByteArray := prog_11_method_1_code
def yX5_init : MethodName := ⟨RX5, "<init>", "([I)V"⟩
def dkwX5_init_0 : List UInt8 := [42, 4, 183, 0, 1, 42, 43, 181, 0, 7, 177]
abbrev dktX5_init_0 : List UInt8 := dkwX5_init_0 ++ []
theorem dksX5_init_0 : cX5_init.data.toList.drop 0 = dktX5_init_0 := by decide +kernel
theorem dX5_init_0 : decode cX5_init 0 = .ok (.aload_n 0, 1) := dk_42 (dk_at dksX5_init_0 0 rfl rfl)
theorem dX5_init_1 : decode cX5_init 1 = .ok (.iconst 1, 1) := dk_4 (dk_at dksX5_init_0 1 rfl rfl)
theorem dX5_init_2 : decode cX5_init 2 = .ok (.invokespecial 1, 3) := dk_183 0 1 (dk_at dksX5_init_0 2 rfl rfl)
theorem dX5_init_5 : decode cX5_init 5 = .ok (.aload_n 0, 1) := dk_42 (dk_at dksX5_init_0 5 rfl rfl)
theorem dX5_init_6 : decode cX5_init 6 = .ok (.aload_n 1, 1) := dk_43 (dk_at dksX5_init_0 6 rfl rfl)
theorem dX5_init_7 : decode cX5_init 7 = .ok (.putfield 7, 3) := dk_181 0 7 (dk_at dksX5_init_0 7 rfl rfl)
theorem dX5_init_10 : decode cX5_init 10 = .ok (.return_, 1) := dk_177 (dk_at dksX5_init_0 10 rfl rfl)
abbrev cX5_isTight : ByteArray := prog_11_method_6_code
def yX5_isTight : MethodName := ⟨RX5, "isTight", "(LSiteCuts$Land;I)Z"⟩
def dkwX5_isTight_0 : List UInt8 := [42, 43, 28, 182, 0, 39, 43, 28, 182, 0, 40, 160, 0, 7, 4, 167, 0, 4, 3, 172]
abbrev dktX5_isTight_0 : List UInt8 := dkwX5_isTight_0 ++ []
theorem dksX5_isTight_0 : cX5_isTight.data.toList.drop 0 = dktX5_isTight_0 := by decide +kernel
theorem dX5_isTight_0 : decode cX5_isTight 0 = .ok (.aload_n 0, 1) := dk_42 (dk_at dksX5_isTight_0 0 rfl rfl)
theorem dX5_isTight_1 : decode cX5_isTight 1 = .ok (.aload_n 1, 1) := dk_43 (dk_at dksX5_isTight_0 1 rfl rfl)
theorem dX5_isTight_2 : decode cX5_isTight 2 = .ok (.iload_n 2, 1) := dk_28 (dk_at dksX5_isTight_0 2 rfl rfl)
theorem dX5_isTight_3 : decode cX5_isTight 3 = .ok (.invokevirtual 39, 3) := dk_182 0 39 (dk_at dksX5_isTight_0 3 rfl rfl)
theorem dX5_isTight_6 : decode cX5_isTight 6 = .ok (.aload_n 1, 1) := dk_43 (dk_at dksX5_isTight_0 6 rfl rfl)
theorem dX5_isTight_7 : decode cX5_isTight 7 = .ok (.iload_n 2, 1) := dk_28 (dk_at dksX5_isTight_0 7 rfl rfl)
theorem dX5_isTight_8 : decode cX5_isTight 8 = .ok (.invokevirtual 40, 3) := dk_182 0 40 (dk_at dksX5_isTight_0 8 rfl rfl)
theorem dX5_isTight_11 : decode cX5_isTight 11 = .ok (.if_icmp .ne 7, 3) := dk_160 0 7 (dk_at dksX5_isTight_0 11 rfl rfl)
theorem dX5_isTight_14 : decode cX5_isTight 14 = .ok (.iconst 1, 1) := dk_4 (dk_at dksX5_isTight_0 14 rfl rfl)
theorem dX5_isTight_15 : decode cX5_isTight 15 = .ok (.goto 4, 3) := dk_167 0 4 (dk_at dksX5_isTight_0 15 rfl rfl)
theorem dX5_isTight_18 : decode cX5_isTight 18 = .ok (.iconst 0, 1) := dk_3 (dk_at dksX5_isTight_0 18 rfl rfl)
theorem dX5_isTight_19 : decode cX5_isTight 19 = .ok (.ireturn, 1) := dk_172 (dk_at dksX5_isTight_0 19 rfl rfl)
theorem q80 : (Jvm.Cond.initialized "SiteCuts$PriceCut") ∈ lw_all := lw_g (lw_at lw_m1 22 rfl) rfl
theorem q114 : (Jvm.Cond.fieldLinkNest "SiteCuts$PriceCut" (19 : Nat) "SiteCuts$Land" "demands" "[I" "SiteCuts") ∈ lw_tbl := lw_at lw_m1 56 rfl
theorem q122 : (Jvm.Cond.fieldLinkNest "SiteCuts$PriceCut" (13 : Nat) "SiteCuts$Land" "customers" "I" "SiteCuts") ∈ lw_tbl := lw_at lw_m1 64 rfl
theorem q293 : (Jvm.Cond.selects "SiteCuts$PriceCut" ({ cls := "java/lang/Object", name := "getClass", desc := "()Ljava/lang/Class;" } : Jvm.MethodName) ({ cls := "java/lang/Object", name := "getClass", desc := "()Ljava/lang/Class;" } : Jvm.MethodName)) ∈ lw_all := lw_g (lw_at lw_m1 235 rfl) rfl
theorem q510 : (Jvm.Cond.selects "SiteCuts$PriceCut" ({ cls := "SiteCuts$Cut", name := "isRay", desc := "()Z" } : Jvm.MethodName) ({ cls := "SiteCuts$Cut", name := "isRay", desc := "()Z" } : Jvm.MethodName)) ∈ lw_all := lw_g (lw_at lw_m2 212 rfl) rfl
theorem q517 : (Jvm.Cond.selects "SiteCuts$PriceCut" ({ cls := "SiteCuts$Cut", name := "isBroken", desc := "(LSiteCuts$Land;I)Z" } : Jvm.MethodName) ({ cls := "SiteCuts$PriceCut", name := "isBroken", desc := "(LSiteCuts$Land;I)Z" } : Jvm.MethodName)) ∈ lw_all := lw_g (lw_at lw_m2 219 rfl) rfl
theorem q518 : (Jvm.Cond.instanceMethod ({ cls := "SiteCuts$PriceCut", name := "isBroken", desc := "(LSiteCuts$Land;I)Z" } : Jvm.MethodName)) ∈ lw_all := lw_g (lw_at lw_m2 220 rfl) rfl
theorem q519 : (Jvm.Cond.code ({ cls := "SiteCuts$PriceCut", name := "isBroken", desc := "(LSiteCuts$Land;I)Z" } : Jvm.MethodName) prog_11_method_5_code (3 : Nat) (Option.some Jvm.ClassFile.FieldType.boolean)) ∈ lw_all := lw_g (lw_at lw_m2 221 rfl) rfl
theorem q520 : (Jvm.Cond.methodLink "SiteCuts$PriceCut" (39 : Nat) ({ cls := "SiteCuts$PriceCut", name := "value", desc := "(LSiteCuts$Land;I)I" } : Jvm.MethodName)) ∈ lw_all := lw_g (lw_at lw_m2 222 rfl) rfl
theorem q521 : (Jvm.Cond.instanceMethod ({ cls := "SiteCuts$PriceCut", name := "value", desc := "(LSiteCuts$Land;I)I" } : Jvm.MethodName)) ∈ lw_all := lw_g (lw_at lw_m2 223 rfl) rfl
theorem q522 : (Jvm.Cond.selects "SiteCuts$PriceCut" ({ cls := "SiteCuts$PriceCut", name := "value", desc := "(LSiteCuts$Land;I)I" } : Jvm.MethodName) ({ cls := "SiteCuts$PriceCut", name := "value", desc := "(LSiteCuts$Land;I)I" } : Jvm.MethodName)) ∈ lw_all := lw_g (lw_at lw_m2 224 rfl) rfl
theorem q523 : (Jvm.Cond.sameMethod "SiteCuts$PriceCut" "SiteCuts$PriceCut" "value" "(LSiteCuts$Land;I)I") ∈ lw_all := lw_g (lw_at lw_m2 225 rfl) rfl
theorem q529 : (Jvm.Cond.declares ({ cls := "SiteCuts$PriceCut", name := "constant", desc := "(LSiteCuts$Land;)I" } : Jvm.MethodName)) ∈ lw_tbl := lw_at lw_m2 231 rfl
theorem q531 : (Jvm.Cond.instanceMethod ({ cls := "SiteCuts$PriceCut", name := "constant", desc := "(LSiteCuts$Land;)I" } : Jvm.MethodName)) ∈ lw_all := lw_g (lw_at lw_m2 233 rfl) rfl
theorem q532 : (Jvm.Cond.code ({ cls := "SiteCuts$PriceCut", name := "constant", desc := "(LSiteCuts$Land;)I" } : Jvm.MethodName) prog_11_method_3_code (4 : Nat) (Option.some Jvm.ClassFile.FieldType.int)) ∈ lw_all := lw_g (lw_at lw_m2 234 rfl) rfl
theorem q534 : (Jvm.Cond.sameMethod "SiteCuts$PriceCut" "SiteCuts$Cut" "sum" "(LSiteCuts$Land;I)I") ∈ lw_all := lw_g (lw_at lw_m2 236 rfl) rfl
theorem q537 : (Jvm.Cond.superclass "SiteCuts$PriceCut" "SiteCuts$Cut") ∈ lw_all := lw_g (lw_at lw_m2 239 rfl) rfl
theorem q544 : (Jvm.Cond.selects "SiteCuts$PriceCut" ({ cls := "SiteCuts$Cut", name := "weight", desc := "(LSiteCuts$Land;I)I" } : Jvm.MethodName) ({ cls := "SiteCuts$PriceCut", name := "weight", desc := "(LSiteCuts$Land;I)I" } : Jvm.MethodName)) ∈ lw_all := lw_g (lw_at lw_m3 6 rfl) rfl
theorem q545 : (Jvm.Cond.instanceMethod ({ cls := "SiteCuts$PriceCut", name := "weight", desc := "(LSiteCuts$Land;I)I" } : Jvm.MethodName)) ∈ lw_all := lw_g (lw_at lw_m3 7 rfl) rfl
theorem q546 : (Jvm.Cond.code ({ cls := "SiteCuts$PriceCut", name := "weight", desc := "(LSiteCuts$Land;I)I" } : Jvm.MethodName) prog_11_method_2_code (5 : Nat) (Option.some Jvm.ClassFile.FieldType.int)) ∈ lw_all := lw_g (lw_at lw_m3 8 rfl) rfl
theorem q547 : (Jvm.Cond.methodLink "SiteCuts$PriceCut" (22 : Nat) ({ cls := "SiteCuts$Land", name := "route", desc := "(II)I" } : Jvm.MethodName)) ∈ lw_all := lw_g (lw_at lw_m3 9 rfl) rfl
theorem q548 : (Jvm.Cond.methodLink "SiteCuts$PriceCut" (26 : Nat) ({ cls := "java/lang/Math", name := "max", desc := "(II)I" } : Jvm.MethodName)) ∈ lw_all := lw_g (lw_at lw_m3 10 rfl) rfl
theorem q554 : (Jvm.Cond.code ({ cls := "SiteCuts$PriceCut", name := "value", desc := "(LSiteCuts$Land;I)I" } : Jvm.MethodName) prog_11_method_4_code (3 : Nat) (Option.some Jvm.ClassFile.FieldType.int)) ∈ lw_all := lw_g (lw_at lw_m3 16 rfl) rfl
theorem q555 : (Jvm.Cond.methodLink "SiteCuts$PriceCut" (31 : Nat) ({ cls := "SiteCuts$PriceCut", name := "constant", desc := "(LSiteCuts$Land;)I" } : Jvm.MethodName)) ∈ lw_all := lw_g (lw_at lw_m3 17 rfl) rfl
theorem q556 : (Jvm.Cond.methodLink "SiteCuts$PriceCut" (35 : Nat) ({ cls := "SiteCuts$Cut", name := "value", desc := "(LSiteCuts$Land;I)I" } : Jvm.MethodName)) ∈ lw_all := lw_g (lw_at lw_m3 18 rfl) rfl
theorem q560 : (Jvm.Cond.methodLink "SiteCuts$PriceCut" (40 : Nat) ({ cls := "SiteCuts$Land", name := "routesOf", desc := "(I)I" } : Jvm.MethodName)) ∈ lw_all := lw_g (lw_at lw_m3 22 rfl) rfl
theorem q619 : (Jvm.Cond.instantiable "SiteCuts$PriceCut" (2 : Nat)) ∈ lw_all := lw_g (lw_at lw_m3 81 rfl) rfl
theorem q621 : (Jvm.Cond.instanceMethod ({ cls := "SiteCuts$PriceCut", name := "<init>", desc := "([I)V" } : Jvm.MethodName)) ∈ lw_all := lw_g (lw_at lw_m3 83 rfl) rfl
theorem q622 : (Jvm.Cond.code ({ cls := "SiteCuts$PriceCut", name := "<init>", desc := "([I)V" } : Jvm.MethodName) prog_11_method_1_code (2 : Nat) (Option.none : Option Jvm.ClassFile.FieldType)) ∈ lw_all := lw_g (lw_at lw_m3 84 rfl) rfl
theorem q623 : (Jvm.Cond.methodLink "SiteCuts$PriceCut" (1 : Nat) ({ cls := "SiteCuts$Cut", name := "<init>", desc := "(I)V" } : Jvm.MethodName)) ∈ lw_all := lw_g (lw_at lw_m3 85 rfl) rfl
theorem q627 : (Jvm.Cond.fieldLink "SiteCuts$PriceCut" (7 : Nat) "SiteCuts$PriceCut" "numbers" "[I") ∈ lw_all := lw_g (lw_at lw_m3 89 rfl) rfl
theorem q629 : (Jvm.Cond.laysFinal "SiteCuts$PriceCut" "SiteCuts$PriceCut" "numbers" "[I") ∈ lw_all := lw_g (lw_at lw_m3 91 rfl) rfl
theorem q630 : (Jvm.Cond.soleField "SiteCuts$PriceCut" "numbers") ∈ lw_all := lw_g (lw_at lw_m3 92 rfl) rfl
theorem q631 : (Jvm.Cond.laysFinal "SiteCuts$PriceCut" "SiteCuts$Cut" "kind" "I") ∈ lw_all := lw_g (lw_at lw_m3 93 rfl) rfl
theorem q979 : (Jvm.Cond.selects "SiteCuts$PriceCut" ({ cls := "SiteCuts$Cut", name := "customer", desc := "()I" } : Jvm.MethodName) ({ cls := "SiteCuts$Cut", name := "customer", desc := "()I" } : Jvm.MethodName)) ∈ lw_all := lw_g (lw_at lw_m4 201 rfl) rfl
theorem q988 : (Jvm.Cond.selects "SiteCuts$PriceCut" ({ cls := "SiteCuts$Cut", name := "constant", desc := "(LSiteCuts$Land;)I" } : Jvm.MethodName) ({ cls := "SiteCuts$PriceCut", name := "constant", desc := "(LSiteCuts$Land;)I" } : Jvm.MethodName)) ∈ lw_all := lw_g (lw_at lw_m4 210 rfl) rfl
theorem q1013 : (Jvm.Cond.selects "SiteCuts$PriceCut" ({ cls := "SiteCuts$Cut", name := "isTight", desc := "(LSiteCuts$Land;I)Z" } : Jvm.MethodName) ({ cls := "SiteCuts$PriceCut", name := "isTight", desc := "(LSiteCuts$Land;I)Z" } : Jvm.MethodName)) ∈ lw_all := lw_g (lw_at lw_m4 235 rfl) rfl
theorem q1014 : (Jvm.Cond.instanceMethod ({ cls := "SiteCuts$PriceCut", name := "isTight", desc := "(LSiteCuts$Land;I)Z" } : Jvm.MethodName)) ∈ lw_all := lw_g (lw_at lw_m4 236 rfl) rfl
theorem q1015 : (Jvm.Cond.code ({ cls := "SiteCuts$PriceCut", name := "isTight", desc := "(LSiteCuts$Land;I)Z" } : Jvm.MethodName) prog_11_method_6_code (3 : Nat) (Option.some Jvm.ClassFile.FieldType.boolean)) ∈ lw_all := lw_g (lw_at lw_m4 237 rfl) rfl
theorem q1360 : (Jvm.Cond.sameMethod "SiteCuts$PriceCut" "SiteCuts$PriceCut" "constant" "(LSiteCuts$Land;)I") ∈ lw_all := lw_g (lw_at lw_m6 102 rfl) rfl
theorem q1361 : (Jvm.Cond.selects "SiteCuts$PriceCut" ({ cls := "SiteCuts$PriceCut", name := "constant", desc := "(LSiteCuts$Land;)I" } : Jvm.MethodName) ({ cls := "SiteCuts$PriceCut", name := "constant", desc := "(LSiteCuts$Land;)I" } : Jvm.MethodName)) ∈ lw_all := lw_g (lw_at lw_m6 103 rfl) rfl
theorem q1365 : (Jvm.Cond.selects "SiteCuts$PriceCut" ({ cls := "SiteCuts$Cut", name := "sum", desc := "(LSiteCuts$Land;I)I" } : Jvm.MethodName) ({ cls := "SiteCuts$Cut", name := "sum", desc := "(LSiteCuts$Land;I)I" } : Jvm.MethodName)) ∈ lw_all := lw_g (lw_at lw_m6 107 rfl) rfl
theorem q1368 : (Jvm.Cond.selects "SiteCuts$PriceCut" ({ cls := "SiteCuts$Cut", name := "value", desc := "(LSiteCuts$Land;I)I" } : Jvm.MethodName) ({ cls := "SiteCuts$PriceCut", name := "value", desc := "(LSiteCuts$Land;I)I" } : Jvm.MethodName)) ∈ lw_all := lw_g (lw_at lw_m6 110 rfl) rfl
theorem q1381 : (Jvm.Cond.castable "SiteCuts$PriceCut" "SiteCuts$Cut") ∈ lw_tbl := lw_at lw_m6 123 rfl
theorem q1392 : (Jvm.Cond.castable "SiteCuts$PriceCut" "java/lang/Object") ∈ lw_tbl := lw_at lw_m6 134 rfl
theorem in_X5 : ∀ w ∈ wsX50, w ∈ lw_all := lw_in wsX50 [631, 629] (by decide +kernel) (by decide +kernel)

/-! SiteCuts$Ray -/
set_option maxRecDepth 100000
def RX6 : String := "SiteCuts$Ray"
def TX6 : u_T := fun k => match k with
  | 0 => ("SiteCuts$Cut", "kind", "I", true)
  | _ => ("SiteCuts$Ray", "customer", "I", true)
def tyX6 : Nat → FieldType := fun k => match k with
  | 0 => .int
  | _ => .int
abbrev wsX60 : List Cond := u_ws RX6 TX6 2
theorem nmX6 : ∀ a, a < 2 → ∀ b, b < 2 → a ≠ b → (TX6 a).2.1 ≠ (TX6 b).2.1 := by decide +kernel
theorem tyX6_ok : ∀ k, k < 2 → parseFieldDescriptor (TX6 k).2.2.1 = some (tyX6 k) := by decide +kernel
abbrev cX6_weight : ByteArray := prog_12_method_3_code
def yX6_weight : MethodName := ⟨RX6, "weight", "(LSiteCuts$Land;I)I"⟩
def dkwX6_weight_0 : List UInt8 := [43, 28, 42, 180, 0, 9, 182, 0, 15, 16, 100, 162, 0, 7, 4, 167, 0, 4, 3, 172]
abbrev dktX6_weight_0 : List UInt8 := dkwX6_weight_0 ++ []
theorem dksX6_weight_0 : cX6_weight.data.toList.drop 0 = dktX6_weight_0 := by decide +kernel
theorem dX6_weight_0 : decode cX6_weight 0 = .ok (.aload_n 1, 1) := dk_43 (dk_at dksX6_weight_0 0 rfl rfl)
theorem dX6_weight_1 : decode cX6_weight 1 = .ok (.iload_n 2, 1) := dk_28 (dk_at dksX6_weight_0 1 rfl rfl)
theorem dX6_weight_2 : decode cX6_weight 2 = .ok (.aload_n 0, 1) := dk_42 (dk_at dksX6_weight_0 2 rfl rfl)
theorem dX6_weight_3 : decode cX6_weight 3 = .ok (.getfield 9, 3) := dk_180 0 9 (dk_at dksX6_weight_0 3 rfl rfl)
theorem dX6_weight_6 : decode cX6_weight 6 = .ok (.invokevirtual 15, 3) := dk_182 0 15 (dk_at dksX6_weight_0 6 rfl rfl)
theorem dX6_weight_9 : decode cX6_weight 9 = .ok (.bipush 100, 2) := dk_16 100 (dk_at dksX6_weight_0 9 rfl rfl)
theorem dX6_weight_11 : decode cX6_weight 11 = .ok (.if_icmp .ge 7, 3) := dk_162 0 7 (dk_at dksX6_weight_0 11 rfl rfl)
theorem dX6_weight_14 : decode cX6_weight 14 = .ok (.iconst 1, 1) := dk_4 (dk_at dksX6_weight_0 14 rfl rfl)
theorem dX6_weight_15 : decode cX6_weight 15 = .ok (.goto 4, 3) := dk_167 0 4 (dk_at dksX6_weight_0 15 rfl rfl)
theorem dX6_weight_18 : decode cX6_weight 18 = .ok (.iconst 0, 1) := dk_3 (dk_at dksX6_weight_0 18 rfl rfl)
theorem dX6_weight_19 : decode cX6_weight 19 = .ok (.ireturn, 1) := dk_172 (dk_at dksX6_weight_0 19 rfl rfl)
abbrev cX6_init : ByteArray := prog_12_method_1_code
def yX6_init : MethodName := ⟨RX6, "<init>", "(I)V"⟩
def dkwX6_init_0 : List UInt8 := [42, 3, 183, 0, 3, 42, 27, 181, 0, 9, 177]
abbrev dktX6_init_0 : List UInt8 := dkwX6_init_0 ++ []
theorem dksX6_init_0 : cX6_init.data.toList.drop 0 = dktX6_init_0 := by decide +kernel
theorem dX6_init_0 : decode cX6_init 0 = .ok (.aload_n 0, 1) := dk_42 (dk_at dksX6_init_0 0 rfl rfl)
theorem dX6_init_1 : decode cX6_init 1 = .ok (.iconst 0, 1) := dk_3 (dk_at dksX6_init_0 1 rfl rfl)
theorem dX6_init_2 : decode cX6_init 2 = .ok (.invokespecial 3, 3) := dk_183 0 3 (dk_at dksX6_init_0 2 rfl rfl)
theorem dX6_init_5 : decode cX6_init 5 = .ok (.aload_n 0, 1) := dk_42 (dk_at dksX6_init_0 5 rfl rfl)
theorem dX6_init_6 : decode cX6_init 6 = .ok (.iload_n 1, 1) := dk_27 (dk_at dksX6_init_0 6 rfl rfl)
theorem dX6_init_7 : decode cX6_init 7 = .ok (.putfield 9, 3) := dk_181 0 9 (dk_at dksX6_init_0 7 rfl rfl)
theorem dX6_init_10 : decode cX6_init 10 = .ok (.return_, 1) := dk_177 (dk_at dksX6_init_0 10 rfl rfl)
abbrev cX6_customer : ByteArray := prog_12_method_2_code
def yX6_customer : MethodName := ⟨RX6, "customer", "()I"⟩
theorem dX6_customer_0 : decode cX6_customer 0 = .ok (.aload_n 0, 1) := by decide +kernel
theorem dX6_customer_1 : decode cX6_customer 1 = .ok (.getfield 9, 3) := by decide +kernel
theorem dX6_customer_4 : decode cX6_customer 4 = .ok (.ireturn, 1) := by decide +kernel
abbrev cX6_constant : ByteArray := prog_12_method_4_code
def yX6_constant : MethodName := ⟨RX6, "constant", "(LSiteCuts$Land;)I"⟩
theorem dX6_constant_0 : decode cX6_constant 0 = .ok (.iconst 1, 1) := by decide +kernel
theorem dX6_constant_1 : decode cX6_constant 1 = .ok (.ireturn, 1) := by decide +kernel
theorem q81 : (Jvm.Cond.initialized "SiteCuts$Ray") ∈ lw_all := lw_g (lw_at lw_m1 23 rfl) rfl
theorem q294 : (Jvm.Cond.selects "SiteCuts$Ray" ({ cls := "java/lang/Object", name := "getClass", desc := "()Ljava/lang/Class;" } : Jvm.MethodName) ({ cls := "java/lang/Object", name := "getClass", desc := "()Ljava/lang/Class;" } : Jvm.MethodName)) ∈ lw_all := lw_g (lw_at lw_m1 236 rfl) rfl
theorem q511 : (Jvm.Cond.selects "SiteCuts$Ray" ({ cls := "SiteCuts$Cut", name := "isRay", desc := "()Z" } : Jvm.MethodName) ({ cls := "SiteCuts$Cut", name := "isRay", desc := "()Z" } : Jvm.MethodName)) ∈ lw_all := lw_g (lw_at lw_m2 213 rfl) rfl
theorem q549 : (Jvm.Cond.selects "SiteCuts$Ray" ({ cls := "SiteCuts$Cut", name := "weight", desc := "(LSiteCuts$Land;I)I" } : Jvm.MethodName) ({ cls := "SiteCuts$Ray", name := "weight", desc := "(LSiteCuts$Land;I)I" } : Jvm.MethodName)) ∈ lw_all := lw_g (lw_at lw_m3 11 rfl) rfl
theorem q550 : (Jvm.Cond.instanceMethod ({ cls := "SiteCuts$Ray", name := "weight", desc := "(LSiteCuts$Land;I)I" } : Jvm.MethodName)) ∈ lw_all := lw_g (lw_at lw_m3 12 rfl) rfl
theorem q551 : (Jvm.Cond.code ({ cls := "SiteCuts$Ray", name := "weight", desc := "(LSiteCuts$Land;I)I" } : Jvm.MethodName) prog_12_method_3_code (3 : Nat) (Option.some Jvm.ClassFile.FieldType.int)) ∈ lw_all := lw_g (lw_at lw_m3 13 rfl) rfl
theorem q552 : (Jvm.Cond.methodLink "SiteCuts$Ray" (15 : Nat) ({ cls := "SiteCuts$Land", name := "route", desc := "(II)I" } : Jvm.MethodName)) ∈ lw_all := lw_g (lw_at lw_m3 14 rfl) rfl
theorem q564 : (Jvm.Cond.selects "SiteCuts$Ray" ({ cls := "SiteCuts$Cut", name := "isBroken", desc := "(LSiteCuts$Land;I)Z" } : Jvm.MethodName) ({ cls := "SiteCuts$Cut", name := "isBroken", desc := "(LSiteCuts$Land;I)Z" } : Jvm.MethodName)) ∈ lw_all := lw_g (lw_at lw_m3 26 rfl) rfl
theorem q634 : (Jvm.Cond.instantiable "SiteCuts$Ray" (2 : Nat)) ∈ lw_all := lw_g (lw_at lw_m3 96 rfl) rfl
theorem q636 : (Jvm.Cond.instanceMethod ({ cls := "SiteCuts$Ray", name := "<init>", desc := "(I)V" } : Jvm.MethodName)) ∈ lw_all := lw_g (lw_at lw_m3 98 rfl) rfl
theorem q637 : (Jvm.Cond.code ({ cls := "SiteCuts$Ray", name := "<init>", desc := "(I)V" } : Jvm.MethodName) prog_12_method_1_code (2 : Nat) (Option.none : Option Jvm.ClassFile.FieldType)) ∈ lw_all := lw_g (lw_at lw_m3 99 rfl) rfl
theorem q638 : (Jvm.Cond.methodLink "SiteCuts$Ray" (3 : Nat) ({ cls := "SiteCuts$Cut", name := "<init>", desc := "(I)V" } : Jvm.MethodName)) ∈ lw_all := lw_g (lw_at lw_m3 100 rfl) rfl
theorem q639 : (Jvm.Cond.fieldLink "SiteCuts$Ray" (9 : Nat) "SiteCuts$Ray" "customer" "I") ∈ lw_all := lw_g (lw_at lw_m3 101 rfl) rfl
theorem q640 : (Jvm.Cond.laysFinal "SiteCuts$Ray" "SiteCuts$Ray" "customer" "I") ∈ lw_all := lw_g (lw_at lw_m3 102 rfl) rfl
theorem q641 : (Jvm.Cond.soleField "SiteCuts$Ray" "customer") ∈ lw_all := lw_g (lw_at lw_m3 103 rfl) rfl
theorem q642 : (Jvm.Cond.laysFinal "SiteCuts$Ray" "SiteCuts$Cut" "kind" "I") ∈ lw_all := lw_g (lw_at lw_m3 104 rfl) rfl
theorem q643 : (Jvm.Cond.superclass "SiteCuts$Ray" "SiteCuts$Cut") ∈ lw_all := lw_g (lw_at lw_m3 105 rfl) rfl
theorem q980 : (Jvm.Cond.selects "SiteCuts$Ray" ({ cls := "SiteCuts$Cut", name := "customer", desc := "()I" } : Jvm.MethodName) ({ cls := "SiteCuts$Ray", name := "customer", desc := "()I" } : Jvm.MethodName)) ∈ lw_all := lw_g (lw_at lw_m4 202 rfl) rfl
theorem q981 : (Jvm.Cond.instanceMethod ({ cls := "SiteCuts$Ray", name := "customer", desc := "()I" } : Jvm.MethodName)) ∈ lw_all := lw_g (lw_at lw_m4 203 rfl) rfl
theorem q982 : (Jvm.Cond.code ({ cls := "SiteCuts$Ray", name := "customer", desc := "()I" } : Jvm.MethodName) prog_12_method_2_code (1 : Nat) (Option.some Jvm.ClassFile.FieldType.int)) ∈ lw_all := lw_g (lw_at lw_m4 204 rfl) rfl
theorem q989 : (Jvm.Cond.selects "SiteCuts$Ray" ({ cls := "SiteCuts$Cut", name := "constant", desc := "(LSiteCuts$Land;)I" } : Jvm.MethodName) ({ cls := "SiteCuts$Ray", name := "constant", desc := "(LSiteCuts$Land;)I" } : Jvm.MethodName)) ∈ lw_all := lw_g (lw_at lw_m4 211 rfl) rfl
theorem q990 : (Jvm.Cond.instanceMethod ({ cls := "SiteCuts$Ray", name := "constant", desc := "(LSiteCuts$Land;)I" } : Jvm.MethodName)) ∈ lw_all := lw_g (lw_at lw_m4 212 rfl) rfl
theorem q991 : (Jvm.Cond.code ({ cls := "SiteCuts$Ray", name := "constant", desc := "(LSiteCuts$Land;)I" } : Jvm.MethodName) prog_12_method_4_code (2 : Nat) (Option.some Jvm.ClassFile.FieldType.int)) ∈ lw_all := lw_g (lw_at lw_m4 213 rfl) rfl
theorem q1016 : (Jvm.Cond.selects "SiteCuts$Ray" ({ cls := "SiteCuts$Cut", name := "isTight", desc := "(LSiteCuts$Land;I)Z" } : Jvm.MethodName) ({ cls := "SiteCuts$Cut", name := "isTight", desc := "(LSiteCuts$Land;I)Z" } : Jvm.MethodName)) ∈ lw_all := lw_g (lw_at lw_m4 238 rfl) rfl
theorem q1366 : (Jvm.Cond.selects "SiteCuts$Ray" ({ cls := "SiteCuts$Cut", name := "sum", desc := "(LSiteCuts$Land;I)I" } : Jvm.MethodName) ({ cls := "SiteCuts$Cut", name := "sum", desc := "(LSiteCuts$Land;I)I" } : Jvm.MethodName)) ∈ lw_all := lw_g (lw_at lw_m6 108 rfl) rfl
theorem q1369 : (Jvm.Cond.selects "SiteCuts$Ray" ({ cls := "SiteCuts$Cut", name := "value", desc := "(LSiteCuts$Land;I)I" } : Jvm.MethodName) ({ cls := "SiteCuts$Cut", name := "value", desc := "(LSiteCuts$Land;I)I" } : Jvm.MethodName)) ∈ lw_all := lw_g (lw_at lw_m6 111 rfl) rfl
theorem q1382 : (Jvm.Cond.castable "SiteCuts$Ray" "SiteCuts$Cut") ∈ lw_tbl := lw_at lw_m6 124 rfl
theorem q1393 : (Jvm.Cond.castable "SiteCuts$Ray" "java/lang/Object") ∈ lw_tbl := lw_at lw_m6 135 rfl
theorem in_X6 : ∀ w ∈ wsX60, w ∈ lw_all := lw_in wsX60 [642, 640] (by decide +kernel) (by decide +kernel)

/-! SiteCuts$TextFault -/
set_option maxRecDepth 100000
def RX8 : String := "SiteCuts$TextFault"
def TX8 : u_T := fun k => match k with
  | 0 => ("java/lang/Throwable", "cause", "Ljava/lang/Throwable;", false)
  | 1 => ("java/lang/Throwable", "stackTrace", "[Ljava/lang/StackTraceElement;", false)
  | 2 => ("java/lang/Throwable", "suppressedExceptions", "Ljava/util/List;", false)
  | 3 => ("java/lang/Throwable", "detailMessage", "Ljava/lang/String;", false)
  | 4 => ("java/lang/Throwable", "backtrace", "Ljava/lang/Object;", false)
  | 5 => ("java/lang/Throwable", "depth", "I", false)
  | _ => ("SiteCuts$TextFault", "place", "I", true)
def tyX8 : Nat → FieldType := fun k => match k with
  | 0 => .object "java/lang/Throwable"
  | 1 => .array (.object "java/lang/StackTraceElement")
  | 2 => .object "java/util/List"
  | 3 => .object "java/lang/String"
  | 4 => .object "java/lang/Object"
  | 5 => .int
  | _ => .int
abbrev wsX80 : List Cond := u_ws RX8 TX8 7
theorem nmX8 : ∀ a, a < 7 → ∀ b, b < 7 → a ≠ b → (TX8 a).2.1 ≠ (TX8 b).2.1 := by decide +kernel
theorem tyX8_ok : ∀ k, k < 7 → parseFieldDescriptor (TX8 k).2.2.1 = some (tyX8 k) := by decide +kernel
abbrev cX8_init : ByteArray := prog_15_method_1_code
def yX8_init : MethodName := ⟨RX8, "<init>", "(I)V"⟩
def dkwX8_init_0 : List UInt8 := [42, 183, 0, 1, 42, 27, 181, 0, 7, 177]
abbrev dktX8_init_0 : List UInt8 := dkwX8_init_0 ++ []
theorem dksX8_init_0 : cX8_init.data.toList.drop 0 = dktX8_init_0 := by decide +kernel
theorem dX8_init_0 : decode cX8_init 0 = .ok (.aload_n 0, 1) := dk_42 (dk_at dksX8_init_0 0 rfl rfl)
theorem dX8_init_1 : decode cX8_init 1 = .ok (.invokespecial 1, 3) := dk_183 0 1 (dk_at dksX8_init_0 1 rfl rfl)
theorem dX8_init_4 : decode cX8_init 4 = .ok (.aload_n 0, 1) := dk_42 (dk_at dksX8_init_0 4 rfl rfl)
theorem dX8_init_5 : decode cX8_init 5 = .ok (.iload_n 1, 1) := dk_27 (dk_at dksX8_init_0 5 rfl rfl)
theorem dX8_init_6 : decode cX8_init 6 = .ok (.putfield 7, 3) := dk_181 0 7 (dk_at dksX8_init_0 6 rfl rfl)
theorem dX8_init_9 : decode cX8_init 9 = .ok (.return_, 1) := dk_177 (dk_at dksX8_init_0 9 rfl rfl)
theorem q85 : (Jvm.Cond.initialized "SiteCuts$TextFault") ∈ lw_all := lw_g (lw_at lw_m1 27 rfl) rfl
theorem q297 : (Jvm.Cond.selects "SiteCuts$TextFault" ({ cls := "java/lang/Object", name := "getClass", desc := "()Ljava/lang/Class;" } : Jvm.MethodName) ({ cls := "java/lang/Object", name := "getClass", desc := "()Ljava/lang/Class;" } : Jvm.MethodName)) ∈ lw_all := lw_g (lw_at lw_m1 239 rfl) rfl
theorem q717 : (Jvm.Cond.instantiable "SiteCuts$TextFault" (7 : Nat)) ∈ lw_all := lw_g (lw_at lw_m3 179 rfl) rfl
theorem q718 : (Jvm.Cond.castable "SiteCuts$TextFault" "SiteCuts$TextFault") ∈ lw_tbl := lw_at lw_m3 180 rfl
theorem q723 : (Jvm.Cond.selects "SiteCuts$TextFault" ({ cls := "java/lang/Throwable", name := "fillInStackTrace", desc := "(I)Ljava/lang/Throwable;" } : Jvm.MethodName) ({ cls := "java/lang/Throwable", name := "fillInStackTrace", desc := "(I)Ljava/lang/Throwable;" } : Jvm.MethodName)) ∈ lw_all := lw_g (lw_at lw_m3 185 rfl) rfl
theorem q724 : (Jvm.Cond.selects "SiteCuts$TextFault" ({ cls := "java/lang/Throwable", name := "fillInStackTrace", desc := "()Ljava/lang/Throwable;" } : Jvm.MethodName) ({ cls := "java/lang/Throwable", name := "fillInStackTrace", desc := "()Ljava/lang/Throwable;" } : Jvm.MethodName)) ∈ lw_all := lw_g (lw_at lw_m3 186 rfl) rfl
theorem q725 : (Jvm.Cond.lays "SiteCuts$TextFault" "java/lang/Throwable" "cause" "Ljava/lang/Throwable;") ∈ lw_all := lw_g (lw_at lw_m3 187 rfl) rfl
theorem q727 : (Jvm.Cond.lays "SiteCuts$TextFault" "java/lang/Throwable" "stackTrace" "[Ljava/lang/StackTraceElement;") ∈ lw_all := lw_g (lw_at lw_m3 189 rfl) rfl
theorem q729 : (Jvm.Cond.lays "SiteCuts$TextFault" "java/lang/Throwable" "suppressedExceptions" "Ljava/util/List;") ∈ lw_all := lw_g (lw_at lw_m3 191 rfl) rfl
theorem q731 : (Jvm.Cond.lays "SiteCuts$TextFault" "java/lang/Throwable" "detailMessage" "Ljava/lang/String;") ∈ lw_all := lw_g (lw_at lw_m3 193 rfl) rfl
theorem q733 : (Jvm.Cond.lays "SiteCuts$TextFault" "java/lang/Throwable" "backtrace" "Ljava/lang/Object;") ∈ lw_all := lw_g (lw_at lw_m3 195 rfl) rfl
theorem q754 : (Jvm.Cond.instanceMethod ({ cls := "SiteCuts$TextFault", name := "<init>", desc := "(I)V" } : Jvm.MethodName)) ∈ lw_all := lw_g (lw_at lw_m3 216 rfl) rfl
theorem q755 : (Jvm.Cond.code ({ cls := "SiteCuts$TextFault", name := "<init>", desc := "(I)V" } : Jvm.MethodName) prog_15_method_1_code (2 : Nat) (Option.none : Option Jvm.ClassFile.FieldType)) ∈ lw_all := lw_g (lw_at lw_m3 217 rfl) rfl
theorem q756 : (Jvm.Cond.methodLink "SiteCuts$TextFault" (1 : Nat) ({ cls := "java/lang/Exception", name := "<init>", desc := "()V" } : Jvm.MethodName)) ∈ lw_all := lw_g (lw_at lw_m3 218 rfl) rfl
theorem q760 : (Jvm.Cond.fieldLink "SiteCuts$TextFault" (7 : Nat) "SiteCuts$TextFault" "place" "I") ∈ lw_all := lw_g (lw_at lw_m3 222 rfl) rfl
theorem q766 : (Jvm.Cond.laysFinal "SiteCuts$TextFault" "SiteCuts$TextFault" "place" "I") ∈ lw_all := lw_g (lw_at lw_m3 228 rfl) rfl
theorem q767 : (Jvm.Cond.soleField "SiteCuts$TextFault" "place") ∈ lw_all := lw_g (lw_at lw_m3 229 rfl) rfl
theorem q772 : (Jvm.Cond.lays "SiteCuts$TextFault" "java/lang/Throwable" "depth" "I") ∈ lw_all := lw_g (lw_at lw_m3 234 rfl) rfl
theorem q775 : (Jvm.Cond.superclass "SiteCuts$TextFault" "java/lang/Exception") ∈ lw_all := lw_g (lw_at lw_m3 237 rfl) rfl
theorem q1395 : (Jvm.Cond.castable "SiteCuts$TextFault" "java/lang/Object") ∈ lw_tbl := lw_at lw_m6 137 rfl
theorem in_X8 : ∀ w ∈ wsX80, w ∈ lw_all := lw_in wsX80 [725, 727, 729, 731, 733, 772, 766] (by decide +kernel) (by decide +kernel)

/-! SiteCuts$TypedCut -/
set_option maxRecDepth 100000
def RX9 : String := "SiteCuts$TypedCut"
def TX9 : u_T := fun k => match k with
  | 0 => ("SiteCuts$Cut", "kind", "I", true)
  | _ => ("SiteCuts$PriceCut", "numbers", "[I", true)
def tyX9 : Nat → FieldType := fun k => match k with
  | 0 => .int
  | _ => .array .int
abbrev wsX90 : List Cond := u_ws RX9 TX9 2
theorem nmX9 : ∀ a, a < 2 → ∀ b, b < 2 → a ≠ b → (TX9 a).2.1 ≠ (TX9 b).2.1 := by decide +kernel
theorem tyX9_ok : ∀ k, k < 2 → parseFieldDescriptor (TX9 k).2.2.1 = some (tyX9 k) := by decide +kernel
abbrev cX9_value : ByteArray := prog_16_method_2_code
def yX9_value : MethodName := ⟨RX9, "value", "(LSiteCuts$Land;I)I"⟩
def dkwX9_value_0 : List UInt8 := [42, 43, 182, 0, 7, 42, 43, 28, 183, 0, 13, 100, 172]
abbrev dktX9_value_0 : List UInt8 := dkwX9_value_0 ++ []
theorem dksX9_value_0 : cX9_value.data.toList.drop 0 = dktX9_value_0 := by decide +kernel
theorem dX9_value_0 : decode cX9_value 0 = .ok (.aload_n 0, 1) := dk_42 (dk_at dksX9_value_0 0 rfl rfl)
theorem dX9_value_1 : decode cX9_value 1 = .ok (.aload_n 1, 1) := dk_43 (dk_at dksX9_value_0 1 rfl rfl)
theorem dX9_value_2 : decode cX9_value 2 = .ok (.invokevirtual 7, 3) := dk_182 0 7 (dk_at dksX9_value_0 2 rfl rfl)
theorem dX9_value_5 : decode cX9_value 5 = .ok (.aload_n 0, 1) := dk_42 (dk_at dksX9_value_0 5 rfl rfl)
theorem dX9_value_6 : decode cX9_value 6 = .ok (.aload_n 1, 1) := dk_43 (dk_at dksX9_value_0 6 rfl rfl)
theorem dX9_value_7 : decode cX9_value 7 = .ok (.iload_n 2, 1) := dk_28 (dk_at dksX9_value_0 7 rfl rfl)
theorem dX9_value_8 : decode cX9_value 8 = .ok (.invokespecial 13, 3) := dk_183 0 13 (dk_at dksX9_value_0 8 rfl rfl)
theorem dX9_value_11 : decode cX9_value 11 = .ok (.isub, 1) := dk_100 (dk_at dksX9_value_0 11 rfl rfl)
theorem dX9_value_12 : decode cX9_value 12 = .ok (.ireturn, 1) := dk_172 (dk_at dksX9_value_0 12 rfl rfl)
abbrev cX9_init : ByteArray := prog_16_method_1_code
def yX9_init : MethodName := ⟨RX9, "<init>", "([I)V"⟩
def dkwX9_init_0 : List UInt8 := [42, 43, 183, 0, 1, 177]
abbrev dktX9_init_0 : List UInt8 := dkwX9_init_0 ++ []
theorem dksX9_init_0 : cX9_init.data.toList.drop 0 = dktX9_init_0 := by decide +kernel
theorem dX9_init_0 : decode cX9_init 0 = .ok (.aload_n 0, 1) := dk_42 (dk_at dksX9_init_0 0 rfl rfl)
theorem dX9_init_1 : decode cX9_init 1 = .ok (.aload_n 1, 1) := dk_43 (dk_at dksX9_init_0 1 rfl rfl)
theorem dX9_init_2 : decode cX9_init 2 = .ok (.invokespecial 1, 3) := dk_183 0 1 (dk_at dksX9_init_0 2 rfl rfl)
theorem dX9_init_5 : decode cX9_init 5 = .ok (.return_, 1) := dk_177 (dk_at dksX9_init_0 5 rfl rfl)
theorem q86 : (Jvm.Cond.initialized "SiteCuts$TypedCut") ∈ lw_all := lw_g (lw_at lw_m1 28 rfl) rfl
theorem q298 : (Jvm.Cond.selects "SiteCuts$TypedCut" ({ cls := "java/lang/Object", name := "getClass", desc := "()Ljava/lang/Class;" } : Jvm.MethodName) ({ cls := "java/lang/Object", name := "getClass", desc := "()Ljava/lang/Class;" } : Jvm.MethodName)) ∈ lw_all := lw_g (lw_at lw_m2 0 rfl) rfl
theorem q512 : (Jvm.Cond.selects "SiteCuts$TypedCut" ({ cls := "SiteCuts$Cut", name := "isRay", desc := "()Z" } : Jvm.MethodName) ({ cls := "SiteCuts$Cut", name := "isRay", desc := "()Z" } : Jvm.MethodName)) ∈ lw_all := lw_g (lw_at lw_m2 214 rfl) rfl
theorem q524 : (Jvm.Cond.selects "SiteCuts$TypedCut" ({ cls := "SiteCuts$PriceCut", name := "value", desc := "(LSiteCuts$Land;I)I" } : Jvm.MethodName) ({ cls := "SiteCuts$TypedCut", name := "value", desc := "(LSiteCuts$Land;I)I" } : Jvm.MethodName)) ∈ lw_all := lw_g (lw_at lw_m2 226 rfl) rfl
theorem q525 : (Jvm.Cond.instanceMethod ({ cls := "SiteCuts$TypedCut", name := "value", desc := "(LSiteCuts$Land;I)I" } : Jvm.MethodName)) ∈ lw_all := lw_g (lw_at lw_m2 227 rfl) rfl
theorem q526 : (Jvm.Cond.code ({ cls := "SiteCuts$TypedCut", name := "value", desc := "(LSiteCuts$Land;I)I" } : Jvm.MethodName) prog_16_method_2_code (3 : Nat) (Option.some Jvm.ClassFile.FieldType.int)) ∈ lw_all := lw_g (lw_at lw_m2 228 rfl) rfl
theorem q527 : (Jvm.Cond.methodLink "SiteCuts$TypedCut" (7 : Nat) ({ cls := "SiteCuts$TypedCut", name := "constant", desc := "(LSiteCuts$Land;)I" } : Jvm.MethodName)) ∈ lw_all := lw_g (lw_at lw_m2 229 rfl) rfl
theorem q528 : (Jvm.Cond.sameMethod "SiteCuts$TypedCut" "SiteCuts$PriceCut" "constant" "(LSiteCuts$Land;)I") ∈ lw_all := lw_g (lw_at lw_m2 230 rfl) rfl
theorem q530 : (Jvm.Cond.selects "SiteCuts$TypedCut" ({ cls := "SiteCuts$TypedCut", name := "constant", desc := "(LSiteCuts$Land;)I" } : Jvm.MethodName) ({ cls := "SiteCuts$PriceCut", name := "constant", desc := "(LSiteCuts$Land;)I" } : Jvm.MethodName)) ∈ lw_all := lw_g (lw_at lw_m2 232 rfl) rfl
theorem q533 : (Jvm.Cond.methodLink "SiteCuts$TypedCut" (13 : Nat) ({ cls := "SiteCuts$PriceCut", name := "sum", desc := "(LSiteCuts$Land;I)I" } : Jvm.MethodName)) ∈ lw_all := lw_g (lw_at lw_m2 235 rfl) rfl
theorem q536 : (Jvm.Cond.superclass "SiteCuts$TypedCut" "SiteCuts$PriceCut") ∈ lw_all := lw_g (lw_at lw_m2 238 rfl) rfl
theorem q553 : (Jvm.Cond.selects "SiteCuts$TypedCut" ({ cls := "SiteCuts$Cut", name := "weight", desc := "(LSiteCuts$Land;I)I" } : Jvm.MethodName) ({ cls := "SiteCuts$PriceCut", name := "weight", desc := "(LSiteCuts$Land;I)I" } : Jvm.MethodName)) ∈ lw_all := lw_g (lw_at lw_m3 15 rfl) rfl
theorem q565 : (Jvm.Cond.selects "SiteCuts$TypedCut" ({ cls := "SiteCuts$Cut", name := "isBroken", desc := "(LSiteCuts$Land;I)Z" } : Jvm.MethodName) ({ cls := "SiteCuts$PriceCut", name := "isBroken", desc := "(LSiteCuts$Land;I)Z" } : Jvm.MethodName)) ∈ lw_all := lw_g (lw_at lw_m3 27 rfl) rfl
theorem q785 : (Jvm.Cond.instantiable "SiteCuts$TypedCut" (2 : Nat)) ∈ lw_all := lw_g (lw_at lw_m4 7 rfl) rfl
theorem q787 : (Jvm.Cond.instanceMethod ({ cls := "SiteCuts$TypedCut", name := "<init>", desc := "([I)V" } : Jvm.MethodName)) ∈ lw_all := lw_g (lw_at lw_m4 9 rfl) rfl
theorem q788 : (Jvm.Cond.code ({ cls := "SiteCuts$TypedCut", name := "<init>", desc := "([I)V" } : Jvm.MethodName) prog_16_method_1_code (2 : Nat) (Option.none : Option Jvm.ClassFile.FieldType)) ∈ lw_all := lw_g (lw_at lw_m4 10 rfl) rfl
theorem q789 : (Jvm.Cond.methodLink "SiteCuts$TypedCut" (1 : Nat) ({ cls := "SiteCuts$PriceCut", name := "<init>", desc := "([I)V" } : Jvm.MethodName)) ∈ lw_all := lw_g (lw_at lw_m4 11 rfl) rfl
theorem q790 : (Jvm.Cond.laysFinal "SiteCuts$TypedCut" "SiteCuts$PriceCut" "numbers" "[I") ∈ lw_all := lw_g (lw_at lw_m4 12 rfl) rfl
theorem q791 : (Jvm.Cond.laysFinal "SiteCuts$TypedCut" "SiteCuts$Cut" "kind" "I") ∈ lw_all := lw_g (lw_at lw_m4 13 rfl) rfl
theorem q983 : (Jvm.Cond.selects "SiteCuts$TypedCut" ({ cls := "SiteCuts$Cut", name := "customer", desc := "()I" } : Jvm.MethodName) ({ cls := "SiteCuts$Cut", name := "customer", desc := "()I" } : Jvm.MethodName)) ∈ lw_all := lw_g (lw_at lw_m4 205 rfl) rfl
theorem q992 : (Jvm.Cond.selects "SiteCuts$TypedCut" ({ cls := "SiteCuts$Cut", name := "constant", desc := "(LSiteCuts$Land;)I" } : Jvm.MethodName) ({ cls := "SiteCuts$PriceCut", name := "constant", desc := "(LSiteCuts$Land;)I" } : Jvm.MethodName)) ∈ lw_all := lw_g (lw_at lw_m4 214 rfl) rfl
theorem q1017 : (Jvm.Cond.selects "SiteCuts$TypedCut" ({ cls := "SiteCuts$Cut", name := "isTight", desc := "(LSiteCuts$Land;I)Z" } : Jvm.MethodName) ({ cls := "SiteCuts$PriceCut", name := "isTight", desc := "(LSiteCuts$Land;I)Z" } : Jvm.MethodName)) ∈ lw_all := lw_g (lw_at lw_m4 239 rfl) rfl
theorem q1362 : (Jvm.Cond.selects "SiteCuts$TypedCut" ({ cls := "SiteCuts$PriceCut", name := "constant", desc := "(LSiteCuts$Land;)I" } : Jvm.MethodName) ({ cls := "SiteCuts$PriceCut", name := "constant", desc := "(LSiteCuts$Land;)I" } : Jvm.MethodName)) ∈ lw_all := lw_g (lw_at lw_m6 104 rfl) rfl
theorem q1367 : (Jvm.Cond.selects "SiteCuts$TypedCut" ({ cls := "SiteCuts$Cut", name := "sum", desc := "(LSiteCuts$Land;I)I" } : Jvm.MethodName) ({ cls := "SiteCuts$Cut", name := "sum", desc := "(LSiteCuts$Land;I)I" } : Jvm.MethodName)) ∈ lw_all := lw_g (lw_at lw_m6 109 rfl) rfl
theorem q1370 : (Jvm.Cond.selects "SiteCuts$TypedCut" ({ cls := "SiteCuts$Cut", name := "value", desc := "(LSiteCuts$Land;I)I" } : Jvm.MethodName) ({ cls := "SiteCuts$TypedCut", name := "value", desc := "(LSiteCuts$Land;I)I" } : Jvm.MethodName)) ∈ lw_all := lw_g (lw_at lw_m6 112 rfl) rfl
theorem q1383 : (Jvm.Cond.castable "SiteCuts$TypedCut" "SiteCuts$Cut") ∈ lw_tbl := lw_at lw_m6 125 rfl
theorem q1396 : (Jvm.Cond.castable "SiteCuts$TypedCut" "java/lang/Object") ∈ lw_tbl := lw_at lw_m6 138 rfl
theorem in_X9 : ∀ w ∈ wsX90, w ∈ lw_all := lw_in wsX90 [791, 790] (by decide +kernel) (by decide +kernel)
