set_option maxRecDepth 100000
theorem q172 : (Jvm.Cond.initialized "StruckCountsModel") ∈ lw_all := lw_g (lw_at lw_m1 17 rfl) rfl
theorem q1165 : (Jvm.Cond.selects "StruckCountsModel" ({ cls := "java/lang/Object", name := "hashCode", desc := "()I" } : Jvm.MethodName) ({ cls := "java/lang/Object", name := "hashCode", desc := "()I" } : Jvm.MethodName)) ∈ lw_all := lw_g (lw_at lw_m5 50 rfl) rfl
theorem q1197 : (Jvm.Cond.selects "StruckCountsModel" ({ cls := "java/lang/Object", name := "equals", desc := "(Ljava/lang/Object;)Z" } : Jvm.MethodName) ({ cls := "java/lang/Object", name := "equals", desc := "(Ljava/lang/Object;)Z" } : Jvm.MethodName)) ∈ lw_all := lw_g (lw_at lw_m5 82 rfl) rfl
theorem q1240 : (Jvm.Cond.selects "StruckCountsModel" ({ cls := "java/lang/Object", name := "getClass", desc := "()Ljava/lang/Class;" } : Jvm.MethodName) ({ cls := "java/lang/Object", name := "getClass", desc := "()Ljava/lang/Class;" } : Jvm.MethodName)) ∈ lw_all := lw_g (lw_at lw_m5 125 rfl) rfl
theorem q2364 : (Jvm.Cond.instantiable "StruckCountsModel" (42 : Nat)) ∈ lw_all := lw_g (lw_at lw_m10 49 rfl) rfl
theorem q2366 : (Jvm.Cond.instanceMethod ({ cls := "StruckCountsModel", name := "<init>", desc := "()V" } : Jvm.MethodName)) ∈ lw_all := lw_g (lw_at lw_m10 51 rfl) rfl
theorem q2367 : (Jvm.Cond.code ({ cls := "StruckCountsModel", name := "<init>", desc := "()V" } : Jvm.MethodName) prog_18_method_1_code (1 : Nat) (Option.none : Option Jvm.ClassFile.FieldType)) ∈ lw_all := lw_g (lw_at lw_m10 52 rfl) rfl
theorem q2368 : (Jvm.Cond.methodLink "StruckCountsModel" (1 : Nat) ({ cls := "java/lang/Object", name := "<init>", desc := "()V" } : Jvm.MethodName)) ∈ lw_all := lw_g (lw_at lw_m10 53 rfl) rfl
theorem q2369 : (Jvm.Cond.methodLink "StruckCountsModel" (79 : Nat) ({ cls := "StruckCountsModel", name := "laysTables", desc := "()V" } : Jvm.MethodName)) ∈ lw_all := lw_g (lw_at lw_m10 54 rfl) rfl
theorem q2370 : (Jvm.Cond.privateMethod ({ cls := "StruckCountsModel", name := "laysTables", desc := "()V" } : Jvm.MethodName)) ∈ lw_tbl := lw_at lw_m10 55 rfl
theorem q2371 : (Jvm.Cond.instanceMethod ({ cls := "StruckCountsModel", name := "laysTables", desc := "()V" } : Jvm.MethodName)) ∈ lw_all := lw_g (lw_at lw_m10 56 rfl) rfl
theorem q2372 : (Jvm.Cond.code ({ cls := "StruckCountsModel", name := "laysTables", desc := "()V" } : Jvm.MethodName) prog_18_method_49_code (3 : Nat) (Option.none : Option Jvm.ClassFile.FieldType)) ∈ lw_all := lw_g (lw_at lw_m10 57 rfl) rfl
theorem q2373 : (Jvm.Cond.methodLink "StruckCountsModel" (297 : Nat) ({ cls := "StruckCountsModel", name := "empties", desc := "([I)V" } : Jvm.MethodName)) ∈ lw_all := lw_g (lw_at lw_m10 58 rfl) rfl
theorem q2374 : (Jvm.Cond.static ({ cls := "StruckCountsModel", name := "empties", desc := "([I)V" } : Jvm.MethodName)) ∈ lw_all := lw_g (lw_at lw_m10 59 rfl) rfl
theorem q2375 : (Jvm.Cond.code ({ cls := "StruckCountsModel", name := "empties", desc := "([I)V" } : Jvm.MethodName) prog_18_method_48_code (2 : Nat) (Option.none : Option Jvm.ClassFile.FieldType)) ∈ lw_all := lw_g (lw_at lw_m10 60 rfl) rfl
theorem q2376 : (Jvm.Cond.methodLink "StruckCountsModel" (235 : Nat) ({ cls := "StruckCountsModel", name := "mayBe", desc := "([II)Z" } : Jvm.MethodName)) ∈ lw_all := lw_g (lw_at lw_m10 61 rfl) rfl
theorem q2377 : (Jvm.Cond.privateMethod ({ cls := "StruckCountsModel", name := "mayBe", desc := "([II)Z" } : Jvm.MethodName)) ∈ lw_tbl := lw_at lw_m10 62 rfl
theorem q2378 : (Jvm.Cond.instanceMethod ({ cls := "StruckCountsModel", name := "mayBe", desc := "([II)Z" } : Jvm.MethodName)) ∈ lw_all := lw_g (lw_at lw_m10 63 rfl) rfl
theorem q2379 : (Jvm.Cond.code ({ cls := "StruckCountsModel", name := "mayBe", desc := "([II)Z" } : Jvm.MethodName) prog_18_method_45_code (4 : Nat) (Option.some Jvm.ClassFile.FieldType.boolean)) ∈ lw_all := lw_g (lw_at lw_m10 64 rfl) rfl
theorem q2380 : (Jvm.Cond.methodLink "StruckCountsModel" (293 : Nat) ({ cls := "StruckCountsModel", name := "holds", desc := "([III)I" } : Jvm.MethodName)) ∈ lw_all := lw_g (lw_at lw_m10 65 rfl) rfl
theorem q2381 : (Jvm.Cond.privateMethod ({ cls := "StruckCountsModel", name := "holds", desc := "([III)I" } : Jvm.MethodName)) ∈ lw_tbl := lw_at lw_m10 66 rfl
theorem q2382 : (Jvm.Cond.instanceMethod ({ cls := "StruckCountsModel", name := "holds", desc := "([III)I" } : Jvm.MethodName)) ∈ lw_all := lw_g (lw_at lw_m10 67 rfl) rfl
theorem q2383 : (Jvm.Cond.code ({ cls := "StruckCountsModel", name := "holds", desc := "([III)I" } : Jvm.MethodName) prog_18_method_44_code (10 : Nat) (Option.some Jvm.ClassFile.FieldType.int)) ∈ lw_all := lw_g (lw_at lw_m10 68 rfl) rfl
theorem q2384 : (Jvm.Cond.methodLink "StruckCountsModel" (301 : Nat) ({ cls := "StruckCountsModel", name := "adds", desc := "([IIIZ)V" } : Jvm.MethodName)) ∈ lw_all := lw_g (lw_at lw_m10 69 rfl) rfl
theorem q2385 : (Jvm.Cond.static ({ cls := "StruckCountsModel", name := "adds", desc := "([IIIZ)V" } : Jvm.MethodName)) ∈ lw_all := lw_g (lw_at lw_m10 70 rfl) rfl
theorem q2386 : (Jvm.Cond.code ({ cls := "StruckCountsModel", name := "adds", desc := "([IIIZ)V" } : Jvm.MethodName) prog_18_method_47_code (4 : Nat) (Option.none : Option Jvm.ClassFile.FieldType)) ∈ lw_all := lw_g (lw_at lw_m10 71 rfl) rfl
theorem q2387 : (Jvm.Cond.methodLink "StruckCountsModel" (305 : Nat) ({ cls := "StruckCountsModel", name := "isWonTold", desc := "(II)Z" } : Jvm.MethodName)) ∈ lw_all := lw_g (lw_at lw_m10 72 rfl) rfl
theorem q2388 : (Jvm.Cond.privateMethod ({ cls := "StruckCountsModel", name := "isWonTold", desc := "(II)Z" } : Jvm.MethodName)) ∈ lw_tbl := lw_at lw_m10 73 rfl
theorem q2389 : (Jvm.Cond.instanceMethod ({ cls := "StruckCountsModel", name := "isWonTold", desc := "(II)Z" } : Jvm.MethodName)) ∈ lw_all := lw_g (lw_at lw_m10 74 rfl) rfl
theorem q2390 : (Jvm.Cond.code ({ cls := "StruckCountsModel", name := "isWonTold", desc := "(II)Z" } : Jvm.MethodName) prog_18_method_50_code (4 : Nat) (Option.some Jvm.ClassFile.FieldType.boolean)) ∈ lw_all := lw_g (lw_at lw_m10 75 rfl) rfl
theorem q2391 : (Jvm.Cond.methodLink "StruckCountsModel" (311 : Nat) ({ cls := "StruckCountsModel", name := "isIn", desc := "([III)Z" } : Jvm.MethodName)) ∈ lw_all := lw_g (lw_at lw_m10 76 rfl) rfl
theorem q2392 : (Jvm.Cond.static ({ cls := "StruckCountsModel", name := "isIn", desc := "([III)Z" } : Jvm.MethodName)) ∈ lw_all := lw_g (lw_at lw_m10 77 rfl) rfl
theorem q2393 : (Jvm.Cond.code ({ cls := "StruckCountsModel", name := "isIn", desc := "([III)Z" } : Jvm.MethodName) prog_18_method_46_code (3 : Nat) (Option.some Jvm.ClassFile.FieldType.boolean)) ∈ lw_all := lw_g (lw_at lw_m10 78 rfl) rfl
theorem q2394 : (Jvm.Cond.methodLink "StruckCountsModel" (308 : Nat) ({ cls := "StruckCountsModel", name := "laysKnown", desc := "()V" } : Jvm.MethodName)) ∈ lw_all := lw_g (lw_at lw_m10 79 rfl) rfl
theorem q2395 : (Jvm.Cond.privateMethod ({ cls := "StruckCountsModel", name := "laysKnown", desc := "()V" } : Jvm.MethodName)) ∈ lw_tbl := lw_at lw_m10 80 rfl
theorem q2396 : (Jvm.Cond.instanceMethod ({ cls := "StruckCountsModel", name := "laysKnown", desc := "()V" } : Jvm.MethodName)) ∈ lw_all := lw_g (lw_at lw_m10 81 rfl) rfl
theorem q2397 : (Jvm.Cond.code ({ cls := "StruckCountsModel", name := "laysKnown", desc := "()V" } : Jvm.MethodName) prog_18_method_62_code (1 : Nat) (Option.none : Option Jvm.ClassFile.FieldType)) ∈ lw_all := lw_g (lw_at lw_m10 82 rfl) rfl
theorem q2398 : (Jvm.Cond.methodLink "StruckCountsModel" (329 : Nat) ({ cls := "StruckCountsModel", name := "knownFacts", desc := "()I" } : Jvm.MethodName)) ∈ lw_all := lw_g (lw_at lw_m10 83 rfl) rfl
theorem q2399 : (Jvm.Cond.privateMethod ({ cls := "StruckCountsModel", name := "knownFacts", desc := "()I" } : Jvm.MethodName)) ∈ lw_tbl := lw_at lw_m10 84 rfl
theorem q2400 : (Jvm.Cond.instanceMethod ({ cls := "StruckCountsModel", name := "knownFacts", desc := "()I" } : Jvm.MethodName)) ∈ lw_all := lw_g (lw_at lw_m10 85 rfl) rfl
theorem q2401 : (Jvm.Cond.code ({ cls := "StruckCountsModel", name := "knownFacts", desc := "()I" } : Jvm.MethodName) prog_18_method_60_code (3 : Nat) (Option.some Jvm.ClassFile.FieldType.int)) ∈ lw_all := lw_g (lw_at lw_m10 86 rfl) rfl
theorem q2402 : (Jvm.Cond.methodLink "StruckCountsModel" (326 : Nat) ({ cls := "StruckCountsModel", name := "isKnown", desc := "(I)Z" } : Jvm.MethodName)) ∈ lw_all := lw_g (lw_at lw_m10 87 rfl) rfl
theorem q2403 : (Jvm.Cond.privateMethod ({ cls := "StruckCountsModel", name := "isKnown", desc := "(I)Z" } : Jvm.MethodName)) ∈ lw_tbl := lw_at lw_m10 88 rfl
theorem q2404 : (Jvm.Cond.instanceMethod ({ cls := "StruckCountsModel", name := "isKnown", desc := "(I)Z" } : Jvm.MethodName)) ∈ lw_all := lw_g (lw_at lw_m10 89 rfl) rfl
theorem q2405 : (Jvm.Cond.code ({ cls := "StruckCountsModel", name := "isKnown", desc := "(I)Z" } : Jvm.MethodName) prog_18_method_59_code (2 : Nat) (Option.some Jvm.ClassFile.FieldType.boolean)) ∈ lw_all := lw_g (lw_at lw_m10 90 rfl) rfl
theorem q2406 : (Jvm.Cond.methodLink "StruckCountsModel" (332 : Nat) ({ cls := "StruckCountsModel", name := "knownSo", desc := "()I" } : Jvm.MethodName)) ∈ lw_all := lw_g (lw_at lw_m10 91 rfl) rfl
theorem q2407 : (Jvm.Cond.privateMethod ({ cls := "StruckCountsModel", name := "knownSo", desc := "()I" } : Jvm.MethodName)) ∈ lw_tbl := lw_at lw_m10 92 rfl
theorem q2408 : (Jvm.Cond.instanceMethod ({ cls := "StruckCountsModel", name := "knownSo", desc := "()I" } : Jvm.MethodName)) ∈ lw_all := lw_g (lw_at lw_m10 93 rfl) rfl
theorem q2409 : (Jvm.Cond.code ({ cls := "StruckCountsModel", name := "knownSo", desc := "()I" } : Jvm.MethodName) prog_18_method_61_code (3 : Nat) (Option.some Jvm.ClassFile.FieldType.int)) ∈ lw_all := lw_g (lw_at lw_m10 94 rfl) rfl
theorem q2410 : (Jvm.Cond.methodLink "StruckCountsModel" (335 : Nat) ({ cls := "StruckCountsModel", name := "laysAgreed", desc := "([III)V" } : Jvm.MethodName)) ∈ lw_all := lw_g (lw_at lw_m10 95 rfl) rfl
theorem q2411 : (Jvm.Cond.privateMethod ({ cls := "StruckCountsModel", name := "laysAgreed", desc := "([III)V" } : Jvm.MethodName)) ∈ lw_tbl := lw_at lw_m10 96 rfl
theorem q2412 : (Jvm.Cond.instanceMethod ({ cls := "StruckCountsModel", name := "laysAgreed", desc := "([III)V" } : Jvm.MethodName)) ∈ lw_all := lw_g (lw_at lw_m10 97 rfl) rfl
theorem q2413 : (Jvm.Cond.code ({ cls := "StruckCountsModel", name := "laysAgreed", desc := "([III)V" } : Jvm.MethodName) prog_18_method_51_code (5 : Nat) (Option.none : Option Jvm.ClassFile.FieldType)) ∈ lw_all := lw_g (lw_at lw_m10 98 rfl) rfl
theorem q2414 : (Jvm.Cond.fieldLink "StruckCountsModel" (7 : Nat) "StruckCountsModel" "told" "[I") ∈ lw_all := lw_g (lw_at lw_m10 99 rfl) rfl
theorem q2415 : (Jvm.Cond.fieldLink "StruckCountsModel" (13 : Nat) "StruckCountsModel" "read" "[I") ∈ lw_all := lw_g (lw_at lw_m10 100 rfl) rfl
theorem q2416 : (Jvm.Cond.fieldLink "StruckCountsModel" (16 : Nat) "StruckCountsModel" "names" "[J") ∈ lw_all := lw_g (lw_at lw_m10 101 rfl) rfl
theorem q2417 : (Jvm.Cond.fieldLink "StruckCountsModel" (20 : Nat) "StruckCountsModel" "readNames" "[J") ∈ lw_all := lw_g (lw_at lw_m10 102 rfl) rfl
theorem q2418 : (Jvm.Cond.fieldLink "StruckCountsModel" (23 : Nat) "StruckCountsModel" "now" "[I") ∈ lw_all := lw_g (lw_at lw_m10 103 rfl) rfl
theorem q2419 : (Jvm.Cond.fieldLink "StruckCountsModel" (26 : Nat) "StruckCountsModel" "past" "[I") ∈ lw_all := lw_g (lw_at lw_m10 104 rfl) rfl
theorem q2420 : (Jvm.Cond.fieldLink "StruckCountsModel" (29 : Nat) "StruckCountsModel" "kept" "[I") ∈ lw_all := lw_g (lw_at lw_m10 105 rfl) rfl
theorem q2421 : (Jvm.Cond.fieldLink "StruckCountsModel" (32 : Nat) "StruckCountsModel" "isKept" "[Z") ∈ lw_all := lw_g (lw_at lw_m10 106 rfl) rfl
theorem q2422 : (Jvm.Cond.fieldLink "StruckCountsModel" (287 : Nat) "StruckCountsModel" "acts" "I") ∈ lw_all := lw_g (lw_at lw_m10 107 rfl) rfl
theorem q2423 : (Jvm.Cond.fieldLink "StruckCountsModel" (36 : Nat) "StruckCountsModel" "tape" "[I") ∈ lw_all := lw_g (lw_at lw_m10 108 rfl) rfl
theorem q2424 : (Jvm.Cond.fieldLink "StruckCountsModel" (82 : Nat) "StruckCountsModel" "taped" "I") ∈ lw_all := lw_g (lw_at lw_m10 109 rfl) rfl
theorem q2425 : (Jvm.Cond.fieldLink "StruckCountsModel" (89 : Nat) "StruckCountsModel" "size" "I") ∈ lw_all := lw_g (lw_at lw_m10 110 rfl) rfl
theorem q2426 : (Jvm.Cond.fieldLink "StruckCountsModel" (92 : Nat) "StruckCountsModel" "head" "I") ∈ lw_all := lw_g (lw_at lw_m10 111 rfl) rfl
theorem q2427 : (Jvm.Cond.fieldLink "StruckCountsModel" (99 : Nat) "StruckCountsModel" "begin" "I") ∈ lw_all := lw_g (lw_at lw_m10 112 rfl) rfl
theorem q2428 : (Jvm.Cond.fieldLink "StruckCountsModel" (109 : Nat) "StruckCountsModel" "token" "I") ∈ lw_all := lw_g (lw_at lw_m10 113 rfl) rfl
theorem q2429 : (Jvm.Cond.fieldLink "StruckCountsModel" (102 : Nat) "StruckCountsModel" "value" "I") ∈ lw_all := lw_g (lw_at lw_m10 114 rfl) rfl
theorem q2430 : (Jvm.Cond.fieldLink "StruckCountsModel" (186 : Nat) "StruckCountsModel" "open" "I") ∈ lw_all := lw_g (lw_at lw_m10 115 rfl) rfl
theorem q2431 : (Jvm.Cond.fieldLink "StruckCountsModel" (126 : Nat) "StruckCountsModel" "bad" "I") ∈ lw_all := lw_g (lw_at lw_m10 116 rfl) rfl
theorem q2432 : (Jvm.Cond.fieldLink "StruckCountsModel" (159 : Nat) "StruckCountsModel" "badAt" "I") ∈ lw_all := lw_g (lw_at lw_m10 117 rfl) rfl
theorem q2433 : (Jvm.Cond.fieldLink "StruckCountsModel" (268 : Nat) "StruckCountsModel" "fault" "I") ∈ lw_all := lw_g (lw_at lw_m10 118 rfl) rfl
theorem q2434 : (Jvm.Cond.fieldLink "StruckCountsModel" (39 : Nat) "StruckCountsModel" "faultAt" "I") ∈ lw_all := lw_g (lw_at lw_m10 119 rfl) rfl
theorem q2435 : (Jvm.Cond.fieldLink "StruckCountsModel" (105 : Nat) "StruckCountsModel" "word" "J") ∈ lw_all := lw_g (lw_at lw_m10 120 rfl) rfl
theorem q2436 : (Jvm.Cond.fieldLink "StruckCountsModel" (243 : Nat) "StruckCountsModel" "isLimitTold" "Z") ∈ lw_all := lw_g (lw_at lw_m10 121 rfl) rfl
theorem q2437 : (Jvm.Cond.fieldLink "StruckCountsModel" (43 : Nat) "StruckCountsModel" "pile" "[I") ∈ lw_all := lw_g (lw_at lw_m10 122 rfl) rfl
theorem q2438 : (Jvm.Cond.fieldLink "StruckCountsModel" (46 : Nat) "StruckCountsModel" "can" "[I") ∈ lw_all := lw_g (lw_at lw_m10 123 rfl) rfl
theorem q2439 : (Jvm.Cond.fieldLink "StruckCountsModel" (49 : Nat) "StruckCountsModel" "table" "[I") ∈ lw_all := lw_g (lw_at lw_m10 124 rfl) rfl
theorem q2440 : (Jvm.Cond.fieldLink "StruckCountsModel" (52 : Nat) "StruckCountsModel" "wonIn" "[I") ∈ lw_all := lw_g (lw_at lw_m10 125 rfl) rfl
theorem q2441 : (Jvm.Cond.fieldLink "StruckCountsModel" (55 : Nat) "StruckCountsModel" "knownIn" "[I") ∈ lw_all := lw_g (lw_at lw_m10 126 rfl) rfl
theorem q2442 : (Jvm.Cond.fieldLink "StruckCountsModel" (58 : Nat) "StruckCountsModel" "agreed" "[I") ∈ lw_all := lw_g (lw_at lw_m10 127 rfl) rfl
theorem q2443 : (Jvm.Cond.fieldLink "StruckCountsModel" (61 : Nat) "StruckCountsModel" "backs" "[I") ∈ lw_all := lw_g (lw_at lw_m10 128 rfl) rfl
theorem q2444 : (Jvm.Cond.fieldLink "StruckCountsModel" (64 : Nat) "StruckCountsModel" "injury" "[I") ∈ lw_all := lw_g (lw_at lw_m10 129 rfl) rfl
theorem q2445 : (Jvm.Cond.fieldLink "StruckCountsModel" (419 : Nat) "StruckCountsModel" "foundFacts" "I") ∈ lw_all := lw_g (lw_at lw_m10 130 rfl) rfl
theorem q2446 : (Jvm.Cond.fieldLink "StruckCountsModel" (422 : Nat) "StruckCountsModel" "foundSo" "I") ∈ lw_all := lw_g (lw_at lw_m10 131 rfl) rfl
theorem q2447 : (Jvm.Cond.fieldLink "StruckCountsModel" (67 : Nat) "StruckCountsModel" "left" "[I") ∈ lw_all := lw_g (lw_at lw_m10 132 rfl) rfl
theorem q2448 : (Jvm.Cond.fieldLink "StruckCountsModel" (70 : Nat) "StruckCountsModel" "won" "[I") ∈ lw_all := lw_g (lw_at lw_m10 133 rfl) rfl
theorem q2449 : (Jvm.Cond.fieldLink "StruckCountsModel" (73 : Nat) "StruckCountsModel" "best" "[I") ∈ lw_all := lw_g (lw_at lw_m10 134 rfl) rfl
theorem q2450 : (Jvm.Cond.fieldLink "StruckCountsModel" (471 : Nat) "StruckCountsModel" "top" "J") ∈ lw_all := lw_g (lw_at lw_m10 135 rfl) rfl
theorem q2451 : (Jvm.Cond.fieldLink "StruckCountsModel" (474 : Nat) "StruckCountsModel" "bottom" "J") ∈ lw_all := lw_g (lw_at lw_m10 136 rfl) rfl
theorem q2452 : (Jvm.Cond.fieldLink "StruckCountsModel" (76 : Nat) "StruckCountsModel" "wins" "[I") ∈ lw_all := lw_g (lw_at lw_m10 137 rfl) rfl
theorem q2453 : (Jvm.Cond.fieldLink "StruckCountsModel" (290 : Nat) "StruckCountsModel" "isAsked" "Z") ∈ lw_all := lw_g (lw_at lw_m10 138 rfl) rfl
theorem q2454 : (Jvm.Cond.fieldLink "StruckCountsModel" (502 : Nat) "StruckCountsModel" "askedTop" "J") ∈ lw_all := lw_g (lw_at lw_m10 139 rfl) rfl
theorem q2455 : (Jvm.Cond.fieldLink "StruckCountsModel" (505 : Nat) "StruckCountsModel" "askedBottom" "J") ∈ lw_all := lw_g (lw_at lw_m10 140 rfl) rfl
theorem q2456 : (Jvm.Cond.laysFinal "StruckCountsModel" "StruckCountsModel" "told" "[I") ∈ lw_all := lw_g (lw_at lw_m10 141 rfl) rfl
theorem q2457 : (Jvm.Cond.soleField "StruckCountsModel" "told") ∈ lw_all := lw_g (lw_at lw_m10 142 rfl) rfl
theorem q2458 : (Jvm.Cond.laysFinal "StruckCountsModel" "StruckCountsModel" "read" "[I") ∈ lw_all := lw_g (lw_at lw_m10 143 rfl) rfl
theorem q2459 : (Jvm.Cond.soleField "StruckCountsModel" "read") ∈ lw_all := lw_g (lw_at lw_m10 144 rfl) rfl
theorem q2460 : (Jvm.Cond.laysFinal "StruckCountsModel" "StruckCountsModel" "names" "[J") ∈ lw_all := lw_g (lw_at lw_m10 145 rfl) rfl
theorem q2461 : (Jvm.Cond.soleField "StruckCountsModel" "names") ∈ lw_all := lw_g (lw_at lw_m10 146 rfl) rfl
theorem q2462 : (Jvm.Cond.laysFinal "StruckCountsModel" "StruckCountsModel" "readNames" "[J") ∈ lw_all := lw_g (lw_at lw_m10 147 rfl) rfl
theorem q2463 : (Jvm.Cond.soleField "StruckCountsModel" "readNames") ∈ lw_all := lw_g (lw_at lw_m10 148 rfl) rfl
theorem q2464 : (Jvm.Cond.laysFinal "StruckCountsModel" "StruckCountsModel" "now" "[I") ∈ lw_all := lw_g (lw_at lw_m10 149 rfl) rfl
theorem q2465 : (Jvm.Cond.soleField "StruckCountsModel" "now") ∈ lw_all := lw_g (lw_at lw_m10 150 rfl) rfl
theorem q2466 : (Jvm.Cond.laysFinal "StruckCountsModel" "StruckCountsModel" "past" "[I") ∈ lw_all := lw_g (lw_at lw_m10 151 rfl) rfl
theorem q2467 : (Jvm.Cond.soleField "StruckCountsModel" "past") ∈ lw_all := lw_g (lw_at lw_m10 152 rfl) rfl
theorem q2468 : (Jvm.Cond.laysFinal "StruckCountsModel" "StruckCountsModel" "kept" "[I") ∈ lw_all := lw_g (lw_at lw_m10 153 rfl) rfl
theorem q2469 : (Jvm.Cond.soleField "StruckCountsModel" "kept") ∈ lw_all := lw_g (lw_at lw_m10 154 rfl) rfl
theorem q2470 : (Jvm.Cond.laysFinal "StruckCountsModel" "StruckCountsModel" "isKept" "[Z") ∈ lw_all := lw_g (lw_at lw_m10 155 rfl) rfl
theorem q2471 : (Jvm.Cond.soleField "StruckCountsModel" "isKept") ∈ lw_all := lw_g (lw_at lw_m10 156 rfl) rfl
theorem q2472 : (Jvm.Cond.lays "StruckCountsModel" "StruckCountsModel" "acts" "I") ∈ lw_all := lw_g (lw_at lw_m10 157 rfl) rfl
theorem q2473 : (Jvm.Cond.soleField "StruckCountsModel" "acts") ∈ lw_all := lw_g (lw_at lw_m10 158 rfl) rfl
theorem q2474 : (Jvm.Cond.laysFinal "StruckCountsModel" "StruckCountsModel" "tape" "[I") ∈ lw_all := lw_g (lw_at lw_m10 159 rfl) rfl
theorem q2475 : (Jvm.Cond.soleField "StruckCountsModel" "tape") ∈ lw_all := lw_g (lw_at lw_m10 160 rfl) rfl
theorem q2476 : (Jvm.Cond.lays "StruckCountsModel" "StruckCountsModel" "taped" "I") ∈ lw_all := lw_g (lw_at lw_m10 161 rfl) rfl
theorem q2477 : (Jvm.Cond.soleField "StruckCountsModel" "taped") ∈ lw_all := lw_g (lw_at lw_m10 162 rfl) rfl
theorem q2478 : (Jvm.Cond.lays "StruckCountsModel" "StruckCountsModel" "size" "I") ∈ lw_all := lw_g (lw_at lw_m10 163 rfl) rfl
theorem q2479 : (Jvm.Cond.soleField "StruckCountsModel" "size") ∈ lw_all := lw_g (lw_at lw_m10 164 rfl) rfl
theorem q2480 : (Jvm.Cond.lays "StruckCountsModel" "StruckCountsModel" "head" "I") ∈ lw_all := lw_g (lw_at lw_m10 165 rfl) rfl
theorem q2481 : (Jvm.Cond.soleField "StruckCountsModel" "head") ∈ lw_all := lw_g (lw_at lw_m10 166 rfl) rfl
theorem q2482 : (Jvm.Cond.lays "StruckCountsModel" "StruckCountsModel" "begin" "I") ∈ lw_all := lw_g (lw_at lw_m10 167 rfl) rfl
theorem q2483 : (Jvm.Cond.soleField "StruckCountsModel" "begin") ∈ lw_all := lw_g (lw_at lw_m10 168 rfl) rfl
theorem q2484 : (Jvm.Cond.lays "StruckCountsModel" "StruckCountsModel" "token" "I") ∈ lw_all := lw_g (lw_at lw_m10 169 rfl) rfl
theorem q2485 : (Jvm.Cond.soleField "StruckCountsModel" "token") ∈ lw_all := lw_g (lw_at lw_m10 170 rfl) rfl
theorem q2486 : (Jvm.Cond.lays "StruckCountsModel" "StruckCountsModel" "value" "I") ∈ lw_all := lw_g (lw_at lw_m10 171 rfl) rfl
theorem q2487 : (Jvm.Cond.soleField "StruckCountsModel" "value") ∈ lw_all := lw_g (lw_at lw_m10 172 rfl) rfl
theorem q2488 : (Jvm.Cond.lays "StruckCountsModel" "StruckCountsModel" "open" "I") ∈ lw_all := lw_g (lw_at lw_m10 173 rfl) rfl
theorem q2489 : (Jvm.Cond.soleField "StruckCountsModel" "open") ∈ lw_all := lw_g (lw_at lw_m10 174 rfl) rfl
theorem q2490 : (Jvm.Cond.lays "StruckCountsModel" "StruckCountsModel" "bad" "I") ∈ lw_all := lw_g (lw_at lw_m10 175 rfl) rfl
theorem q2491 : (Jvm.Cond.soleField "StruckCountsModel" "bad") ∈ lw_all := lw_g (lw_at lw_m10 176 rfl) rfl
theorem q2492 : (Jvm.Cond.lays "StruckCountsModel" "StruckCountsModel" "badAt" "I") ∈ lw_all := lw_g (lw_at lw_m10 177 rfl) rfl
theorem q2493 : (Jvm.Cond.soleField "StruckCountsModel" "badAt") ∈ lw_all := lw_g (lw_at lw_m10 178 rfl) rfl
theorem q2494 : (Jvm.Cond.lays "StruckCountsModel" "StruckCountsModel" "fault" "I") ∈ lw_all := lw_g (lw_at lw_m10 179 rfl) rfl
theorem q2495 : (Jvm.Cond.soleField "StruckCountsModel" "fault") ∈ lw_all := lw_g (lw_at lw_m10 180 rfl) rfl
theorem q2496 : (Jvm.Cond.lays "StruckCountsModel" "StruckCountsModel" "faultAt" "I") ∈ lw_all := lw_g (lw_at lw_m10 181 rfl) rfl
theorem q2497 : (Jvm.Cond.soleField "StruckCountsModel" "faultAt") ∈ lw_all := lw_g (lw_at lw_m10 182 rfl) rfl
theorem q2498 : (Jvm.Cond.lays "StruckCountsModel" "StruckCountsModel" "word" "J") ∈ lw_all := lw_g (lw_at lw_m10 183 rfl) rfl
theorem q2499 : (Jvm.Cond.soleField "StruckCountsModel" "word") ∈ lw_all := lw_g (lw_at lw_m10 184 rfl) rfl
theorem q2500 : (Jvm.Cond.lays "StruckCountsModel" "StruckCountsModel" "isLimitTold" "Z") ∈ lw_all := lw_g (lw_at lw_m10 185 rfl) rfl
theorem q2501 : (Jvm.Cond.soleField "StruckCountsModel" "isLimitTold") ∈ lw_all := lw_g (lw_at lw_m10 186 rfl) rfl
theorem q2502 : (Jvm.Cond.laysFinal "StruckCountsModel" "StruckCountsModel" "pile" "[I") ∈ lw_all := lw_g (lw_at lw_m10 187 rfl) rfl
theorem q2503 : (Jvm.Cond.soleField "StruckCountsModel" "pile") ∈ lw_all := lw_g (lw_at lw_m10 188 rfl) rfl
theorem q2504 : (Jvm.Cond.laysFinal "StruckCountsModel" "StruckCountsModel" "can" "[I") ∈ lw_all := lw_g (lw_at lw_m10 189 rfl) rfl
theorem q2505 : (Jvm.Cond.soleField "StruckCountsModel" "can") ∈ lw_all := lw_g (lw_at lw_m10 190 rfl) rfl
theorem q2506 : (Jvm.Cond.laysFinal "StruckCountsModel" "StruckCountsModel" "table" "[I") ∈ lw_all := lw_g (lw_at lw_m10 191 rfl) rfl
theorem q2507 : (Jvm.Cond.soleField "StruckCountsModel" "table") ∈ lw_all := lw_g (lw_at lw_m10 192 rfl) rfl
theorem q2508 : (Jvm.Cond.laysFinal "StruckCountsModel" "StruckCountsModel" "wonIn" "[I") ∈ lw_all := lw_g (lw_at lw_m10 193 rfl) rfl
theorem q2509 : (Jvm.Cond.soleField "StruckCountsModel" "wonIn") ∈ lw_all := lw_g (lw_at lw_m10 194 rfl) rfl
theorem q2510 : (Jvm.Cond.laysFinal "StruckCountsModel" "StruckCountsModel" "knownIn" "[I") ∈ lw_all := lw_g (lw_at lw_m10 195 rfl) rfl
theorem q2511 : (Jvm.Cond.soleField "StruckCountsModel" "knownIn") ∈ lw_all := lw_g (lw_at lw_m10 196 rfl) rfl
theorem q2512 : (Jvm.Cond.laysFinal "StruckCountsModel" "StruckCountsModel" "agreed" "[I") ∈ lw_all := lw_g (lw_at lw_m10 197 rfl) rfl
theorem q2513 : (Jvm.Cond.soleField "StruckCountsModel" "agreed") ∈ lw_all := lw_g (lw_at lw_m10 198 rfl) rfl
theorem q2514 : (Jvm.Cond.laysFinal "StruckCountsModel" "StruckCountsModel" "backs" "[I") ∈ lw_all := lw_g (lw_at lw_m10 199 rfl) rfl
theorem q2515 : (Jvm.Cond.soleField "StruckCountsModel" "backs") ∈ lw_all := lw_g (lw_at lw_m10 200 rfl) rfl
theorem q2516 : (Jvm.Cond.laysFinal "StruckCountsModel" "StruckCountsModel" "injury" "[I") ∈ lw_all := lw_g (lw_at lw_m10 201 rfl) rfl
theorem q2517 : (Jvm.Cond.soleField "StruckCountsModel" "injury") ∈ lw_all := lw_g (lw_at lw_m10 202 rfl) rfl
theorem q2518 : (Jvm.Cond.lays "StruckCountsModel" "StruckCountsModel" "foundFacts" "I") ∈ lw_all := lw_g (lw_at lw_m10 203 rfl) rfl
theorem q2519 : (Jvm.Cond.soleField "StruckCountsModel" "foundFacts") ∈ lw_all := lw_g (lw_at lw_m10 204 rfl) rfl
theorem q2520 : (Jvm.Cond.lays "StruckCountsModel" "StruckCountsModel" "foundSo" "I") ∈ lw_all := lw_g (lw_at lw_m10 205 rfl) rfl
theorem q2521 : (Jvm.Cond.soleField "StruckCountsModel" "foundSo") ∈ lw_all := lw_g (lw_at lw_m10 206 rfl) rfl
theorem q2522 : (Jvm.Cond.laysFinal "StruckCountsModel" "StruckCountsModel" "left" "[I") ∈ lw_all := lw_g (lw_at lw_m10 207 rfl) rfl
theorem q2523 : (Jvm.Cond.soleField "StruckCountsModel" "left") ∈ lw_all := lw_g (lw_at lw_m10 208 rfl) rfl
theorem q2524 : (Jvm.Cond.laysFinal "StruckCountsModel" "StruckCountsModel" "won" "[I") ∈ lw_all := lw_g (lw_at lw_m10 209 rfl) rfl
theorem q2525 : (Jvm.Cond.soleField "StruckCountsModel" "won") ∈ lw_all := lw_g (lw_at lw_m10 210 rfl) rfl
theorem q2526 : (Jvm.Cond.laysFinal "StruckCountsModel" "StruckCountsModel" "best" "[I") ∈ lw_all := lw_g (lw_at lw_m10 211 rfl) rfl
theorem q2527 : (Jvm.Cond.soleField "StruckCountsModel" "best") ∈ lw_all := lw_g (lw_at lw_m10 212 rfl) rfl
theorem q2528 : (Jvm.Cond.lays "StruckCountsModel" "StruckCountsModel" "top" "J") ∈ lw_all := lw_g (lw_at lw_m10 213 rfl) rfl
theorem q2529 : (Jvm.Cond.soleField "StruckCountsModel" "top") ∈ lw_all := lw_g (lw_at lw_m10 214 rfl) rfl
theorem q2530 : (Jvm.Cond.lays "StruckCountsModel" "StruckCountsModel" "bottom" "J") ∈ lw_all := lw_g (lw_at lw_m10 215 rfl) rfl
theorem q2531 : (Jvm.Cond.soleField "StruckCountsModel" "bottom") ∈ lw_all := lw_g (lw_at lw_m10 216 rfl) rfl
theorem q2532 : (Jvm.Cond.laysFinal "StruckCountsModel" "StruckCountsModel" "wins" "[I") ∈ lw_all := lw_g (lw_at lw_m10 217 rfl) rfl
theorem q2533 : (Jvm.Cond.soleField "StruckCountsModel" "wins") ∈ lw_all := lw_g (lw_at lw_m10 218 rfl) rfl
theorem q2534 : (Jvm.Cond.lays "StruckCountsModel" "StruckCountsModel" "isAsked" "Z") ∈ lw_all := lw_g (lw_at lw_m10 219 rfl) rfl
theorem q2535 : (Jvm.Cond.soleField "StruckCountsModel" "isAsked") ∈ lw_all := lw_g (lw_at lw_m10 220 rfl) rfl
theorem q2536 : (Jvm.Cond.lays "StruckCountsModel" "StruckCountsModel" "askedTop" "J") ∈ lw_all := lw_g (lw_at lw_m10 221 rfl) rfl
theorem q2537 : (Jvm.Cond.soleField "StruckCountsModel" "askedTop") ∈ lw_all := lw_g (lw_at lw_m10 222 rfl) rfl
theorem q2538 : (Jvm.Cond.lays "StruckCountsModel" "StruckCountsModel" "askedBottom" "J") ∈ lw_all := lw_g (lw_at lw_m10 223 rfl) rfl
theorem q2539 : (Jvm.Cond.soleField "StruckCountsModel" "askedBottom") ∈ lw_all := lw_g (lw_at lw_m10 224 rfl) rfl
theorem q2540 : (Jvm.Cond.superclass "StruckCountsModel" "java/lang/Object") ∈ lw_all := lw_g (lw_at lw_m10 225 rfl) rfl
theorem q2543 : (Jvm.Cond.instanceMethod ({ cls := "StruckCountsModel", name := "sign", desc := "(I)I" } : Jvm.MethodName)) ∈ lw_all := lw_g (lw_at lw_m10 228 rfl) rfl
theorem q2544 : (Jvm.Cond.selects "StruckCountsModel" ({ cls := "StruckCountsModel", name := "sign", desc := "(I)I" } : Jvm.MethodName) ({ cls := "StruckCountsModel", name := "sign", desc := "(I)I" } : Jvm.MethodName)) ∈ lw_all := lw_g (lw_at lw_m10 229 rfl) rfl
theorem q2545 : (Jvm.Cond.code ({ cls := "StruckCountsModel", name := "sign", desc := "(I)I" } : Jvm.MethodName) prog_18_method_5_code (3 : Nat) (Option.some Jvm.ClassFile.FieldType.int)) ∈ lw_all := lw_g (lw_at lw_m10 230 rfl) rfl
theorem q2547 : (Jvm.Cond.instanceMethod ({ cls := "StruckCountsModel", name := "end", desc := "(I)Z" } : Jvm.MethodName)) ∈ lw_all := lw_g (lw_at lw_m10 232 rfl) rfl
theorem q2548 : (Jvm.Cond.selects "StruckCountsModel" ({ cls := "StruckCountsModel", name := "end", desc := "(I)Z" } : Jvm.MethodName) ({ cls := "StruckCountsModel", name := "end", desc := "(I)Z" } : Jvm.MethodName)) ∈ lw_all := lw_g (lw_at lw_m10 233 rfl) rfl
theorem q2549 : (Jvm.Cond.code ({ cls := "StruckCountsModel", name := "end", desc := "(I)Z" } : Jvm.MethodName) prog_18_method_6_code (2 : Nat) (Option.some Jvm.ClassFile.FieldType.boolean)) ∈ lw_all := lw_g (lw_at lw_m10 234 rfl) rfl
theorem q2550 : (Jvm.Cond.methodLink "StruckCountsModel" (85 : Nat) ({ cls := "StruckCountsModel", name := "in", desc := "(III)Z" } : Jvm.MethodName)) ∈ lw_all := lw_g (lw_at lw_m10 235 rfl) rfl
theorem q2551 : (Jvm.Cond.static ({ cls := "StruckCountsModel", name := "in", desc := "(III)Z" } : Jvm.MethodName)) ∈ lw_all := lw_g (lw_at lw_m10 236 rfl) rfl
theorem q2552 : (Jvm.Cond.code ({ cls := "StruckCountsModel", name := "in", desc := "(III)Z" } : Jvm.MethodName) prog_18_method_2_code (3 : Nat) (Option.some Jvm.ClassFile.FieldType.boolean)) ∈ lw_all := lw_g (lw_at lw_m10 237 rfl) rfl
theorem q2554 : (Jvm.Cond.instanceMethod ({ cls := "StruckCountsModel", name := "suit", desc := "()I" } : Jvm.MethodName)) ∈ lw_all := lw_g (lw_at lw_m10 239 rfl) rfl
theorem q2555 : (Jvm.Cond.selects "StruckCountsModel" ({ cls := "StruckCountsModel", name := "suit", desc := "()I" } : Jvm.MethodName) ({ cls := "StruckCountsModel", name := "suit", desc := "()I" } : Jvm.MethodName)) ∈ lw_all := lw_g (lw_at lw_m11 0 rfl) rfl
theorem q2556 : (Jvm.Cond.code ({ cls := "StruckCountsModel", name := "suit", desc := "()I" } : Jvm.MethodName) prog_18_method_41_code (2 : Nat) (Option.some Jvm.ClassFile.FieldType.int)) ∈ lw_all := lw_g (lw_at lw_m11 1 rfl) rfl
theorem q2557 : (Jvm.Cond.methodLink "StruckCountsModel" (271 : Nat) ({ cls := "StruckCountsModel", name := "takes", desc := "()V" } : Jvm.MethodName)) ∈ lw_all := lw_g (lw_at lw_m11 2 rfl) rfl
theorem q2558 : (Jvm.Cond.privateMethod ({ cls := "StruckCountsModel", name := "takes", desc := "()V" } : Jvm.MethodName)) ∈ lw_tbl := lw_at lw_m11 3 rfl
theorem q2559 : (Jvm.Cond.instanceMethod ({ cls := "StruckCountsModel", name := "takes", desc := "()V" } : Jvm.MethodName)) ∈ lw_all := lw_g (lw_at lw_m11 4 rfl) rfl
theorem q2560 : (Jvm.Cond.code ({ cls := "StruckCountsModel", name := "takes", desc := "()V" } : Jvm.MethodName) prog_18_method_39_code (1 : Nat) (Option.none : Option Jvm.ClassFile.FieldType)) ∈ lw_all := lw_g (lw_at lw_m11 5 rfl) rfl
theorem q2561 : (Jvm.Cond.methodLink "StruckCountsModel" (162 : Nat) ({ cls := "StruckCountsModel", name := "next", desc := "()V" } : Jvm.MethodName)) ∈ lw_all := lw_g (lw_at lw_m11 6 rfl) rfl
theorem q2562 : (Jvm.Cond.privateMethod ({ cls := "StruckCountsModel", name := "next", desc := "()V" } : Jvm.MethodName)) ∈ lw_tbl := lw_at lw_m11 7 rfl
theorem q2563 : (Jvm.Cond.instanceMethod ({ cls := "StruckCountsModel", name := "next", desc := "()V" } : Jvm.MethodName)) ∈ lw_all := lw_g (lw_at lw_m11 8 rfl) rfl
theorem q2564 : (Jvm.Cond.code ({ cls := "StruckCountsModel", name := "next", desc := "()V" } : Jvm.MethodName) prog_18_method_8_code (2 : Nat) (Option.none : Option Jvm.ClassFile.FieldType)) ∈ lw_all := lw_g (lw_at lw_m11 9 rfl) rfl
theorem q2565 : (Jvm.Cond.methodLink "StruckCountsModel" (95 : Nat) ({ cls := "StruckCountsModel", name := "see", desc := "(I)I" } : Jvm.MethodName)) ∈ lw_all := lw_g (lw_at lw_m11 10 rfl) rfl
theorem q2566 : (Jvm.Cond.privateMethod ({ cls := "StruckCountsModel", name := "see", desc := "(I)I" } : Jvm.MethodName)) ∈ lw_tbl := lw_at lw_m11 11 rfl
theorem q2567 : (Jvm.Cond.instanceMethod ({ cls := "StruckCountsModel", name := "see", desc := "(I)I" } : Jvm.MethodName)) ∈ lw_all := lw_g (lw_at lw_m11 12 rfl) rfl
theorem q2568 : (Jvm.Cond.code ({ cls := "StruckCountsModel", name := "see", desc := "(I)I" } : Jvm.MethodName) prog_18_method_7_code (2 : Nat) (Option.some Jvm.ClassFile.FieldType.int)) ∈ lw_all := lw_g (lw_at lw_m11 13 rfl) rfl
theorem q2569 : (Jvm.Cond.constantLong "StruckCountsModel" (112 : Nat) (27 : Int64)) ∈ lw_all := lw_g (lw_at lw_m11 14 rfl) rfl
theorem q2570 : (Jvm.Cond.constantLong "StruckCountsModel" (114 : Nat) (96 : Int64)) ∈ lw_all := lw_g (lw_at lw_m11 15 rfl) rfl
theorem q2571 : (Jvm.Cond.methodLink "StruckCountsModel" (274 : Nat) ({ cls := "StruckCountsModel", name := "readLine", desc := "()V" } : Jvm.MethodName)) ∈ lw_all := lw_g (lw_at lw_m11 16 rfl) rfl
theorem q2572 : (Jvm.Cond.privateMethod ({ cls := "StruckCountsModel", name := "readLine", desc := "()V" } : Jvm.MethodName)) ∈ lw_tbl := lw_at lw_m11 17 rfl
theorem q2573 : (Jvm.Cond.instanceMethod ({ cls := "StruckCountsModel", name := "readLine", desc := "()V" } : Jvm.MethodName)) ∈ lw_all := lw_g (lw_at lw_m11 18 rfl) rfl
theorem q2574 : (Jvm.Cond.code ({ cls := "StruckCountsModel", name := "readLine", desc := "()V" } : Jvm.MethodName) prog_18_method_38_code (1 : Nat) (Option.none : Option Jvm.ClassFile.FieldType)) ∈ lw_all := lw_g (lw_at lw_m11 19 rfl) rfl
theorem q2575 : (Jvm.Cond.stringRef "StruckCountsModel" (133 : Nat) "fact") ∈ lw_tbl := lw_at lw_m11 20 rfl
theorem q2576 : (Jvm.Cond.methodLink "StruckCountsModel" (135 : Nat) ({ cls := "StruckCountsModel", name := "isWord", desc := "(Ljava/lang/String;)Z" } : Jvm.MethodName)) ∈ lw_all := lw_g (lw_at lw_m11 21 rfl) rfl
theorem q2577 : (Jvm.Cond.privateMethod ({ cls := "StruckCountsModel", name := "isWord", desc := "(Ljava/lang/String;)Z" } : Jvm.MethodName)) ∈ lw_tbl := lw_at lw_m11 22 rfl
theorem q2578 : (Jvm.Cond.instanceMethod ({ cls := "StruckCountsModel", name := "isWord", desc := "(Ljava/lang/String;)Z" } : Jvm.MethodName)) ∈ lw_all := lw_g (lw_at lw_m11 23 rfl) rfl
theorem q2579 : (Jvm.Cond.code ({ cls := "StruckCountsModel", name := "isWord", desc := "(Ljava/lang/String;)Z" } : Jvm.MethodName) prog_18_method_10_code (2 : Nat) (Option.some Jvm.ClassFile.FieldType.boolean)) ∈ lw_all := lw_g (lw_at lw_m11 24 rfl) rfl
theorem q2580 : (Jvm.Cond.methodLink "StruckCountsModel" (129 : Nat) ({ cls := "StruckCountsModel", name := "spelled", desc := "(Ljava/lang/String;)J" } : Jvm.MethodName)) ∈ lw_all := lw_g (lw_at lw_m11 25 rfl) rfl
theorem q2581 : (Jvm.Cond.static ({ cls := "StruckCountsModel", name := "spelled", desc := "(Ljava/lang/String;)J" } : Jvm.MethodName)) ∈ lw_all := lw_g (lw_at lw_m11 26 rfl) rfl
theorem q2582 : (Jvm.Cond.code ({ cls := "StruckCountsModel", name := "spelled", desc := "(Ljava/lang/String;)J" } : Jvm.MethodName) prog_18_method_9_code (4 : Nat) (Option.some Jvm.ClassFile.FieldType.long)) ∈ lw_all := lw_g (lw_at lw_m11 27 rfl) rfl
theorem q2583 : (Jvm.Cond.methodLink "StruckCountsModel" (116 : Nat) ({ cls := "java/lang/String", name := "length", desc := "()I" } : Jvm.MethodName)) ∈ lw_all := lw_g (lw_at lw_m11 28 rfl) rfl
theorem q2584 : (Jvm.Cond.methodLink "StruckCountsModel" (122 : Nat) ({ cls := "java/lang/String", name := "charAt", desc := "(I)C" } : Jvm.MethodName)) ∈ lw_all := lw_g (lw_at lw_m11 29 rfl) rfl
theorem q2595 : (Jvm.Cond.methodLink "StruckCountsModel" (247 : Nat) ({ cls := "StruckCountsModel", name := "readFact", desc := "()V" } : Jvm.MethodName)) ∈ lw_all := lw_g (lw_at lw_m11 40 rfl) rfl
theorem q2596 : (Jvm.Cond.privateMethod ({ cls := "StruckCountsModel", name := "readFact", desc := "()V" } : Jvm.MethodName)) ∈ lw_tbl := lw_at lw_m11 41 rfl
theorem q2597 : (Jvm.Cond.instanceMethod ({ cls := "StruckCountsModel", name := "readFact", desc := "()V" } : Jvm.MethodName)) ∈ lw_all := lw_g (lw_at lw_m11 42 rfl) rfl
theorem q2598 : (Jvm.Cond.code ({ cls := "StruckCountsModel", name := "readFact", desc := "()V" } : Jvm.MethodName) prog_18_method_31_code (3 : Nat) (Option.none : Option Jvm.ClassFile.FieldType)) ∈ lw_all := lw_g (lw_at lw_m11 43 rfl) rfl
theorem q2599 : (Jvm.Cond.methodLink "StruckCountsModel" (226 : Nat) ({ cls := "StruckCountsModel", name := "room", desc := "(II)V" } : Jvm.MethodName)) ∈ lw_all := lw_g (lw_at lw_m11 44 rfl) rfl
theorem q2600 : (Jvm.Cond.privateMethod ({ cls := "StruckCountsModel", name := "room", desc := "(II)V" } : Jvm.MethodName)) ∈ lw_tbl := lw_at lw_m11 45 rfl
theorem q2601 : (Jvm.Cond.instanceMethod ({ cls := "StruckCountsModel", name := "room", desc := "(II)V" } : Jvm.MethodName)) ∈ lw_all := lw_g (lw_at lw_m11 46 rfl) rfl
theorem q2602 : (Jvm.Cond.code ({ cls := "StruckCountsModel", name := "room", desc := "(II)V" } : Jvm.MethodName) prog_18_method_17_code (3 : Nat) (Option.none : Option Jvm.ClassFile.FieldType)) ∈ lw_all := lw_g (lw_at lw_m11 47 rfl) rfl
theorem q2603 : (Jvm.Cond.methodLink "StruckCountsModel" (165 : Nat) ({ cls := "StruckCountsModel", name := "wrong", desc := "(I)V" } : Jvm.MethodName)) ∈ lw_all := lw_g (lw_at lw_m11 48 rfl) rfl
theorem q2604 : (Jvm.Cond.privateMethod ({ cls := "StruckCountsModel", name := "wrong", desc := "(I)V" } : Jvm.MethodName)) ∈ lw_tbl := lw_at lw_m11 49 rfl
theorem q2605 : (Jvm.Cond.instanceMethod ({ cls := "StruckCountsModel", name := "wrong", desc := "(I)V" } : Jvm.MethodName)) ∈ lw_all := lw_g (lw_at lw_m11 50 rfl) rfl
theorem q2606 : (Jvm.Cond.code ({ cls := "StruckCountsModel", name := "wrong", desc := "(I)V" } : Jvm.MethodName) prog_18_method_13_code (2 : Nat) (Option.none : Option Jvm.ClassFile.FieldType)) ∈ lw_all := lw_g (lw_at lw_m11 51 rfl) rfl
theorem q2607 : (Jvm.Cond.methodLink "StruckCountsModel" (169 : Nat) ({ cls := "StruckCountsModel", name := "passes", desc := "()V" } : Jvm.MethodName)) ∈ lw_all := lw_g (lw_at lw_m11 52 rfl) rfl
theorem q2608 : (Jvm.Cond.privateMethod ({ cls := "StruckCountsModel", name := "passes", desc := "()V" } : Jvm.MethodName)) ∈ lw_tbl := lw_at lw_m11 53 rfl
theorem q2609 : (Jvm.Cond.instanceMethod ({ cls := "StruckCountsModel", name := "passes", desc := "()V" } : Jvm.MethodName)) ∈ lw_all := lw_g (lw_at lw_m11 54 rfl) rfl
theorem q2610 : (Jvm.Cond.code ({ cls := "StruckCountsModel", name := "passes", desc := "()V" } : Jvm.MethodName) prog_18_method_14_code (1 : Nat) (Option.none : Option Jvm.ClassFile.FieldType)) ∈ lw_all := lw_g (lw_at lw_m11 55 rfl) rfl
theorem q2611 : (Jvm.Cond.methodLink "StruckCountsModel" (229 : Nat) ({ cls := "StruckCountsModel", name := "newName", desc := "(I)V" } : Jvm.MethodName)) ∈ lw_all := lw_g (lw_at lw_m11 56 rfl) rfl
theorem q2612 : (Jvm.Cond.privateMethod ({ cls := "StruckCountsModel", name := "newName", desc := "(I)V" } : Jvm.MethodName)) ∈ lw_tbl := lw_at lw_m11 57 rfl
theorem q2613 : (Jvm.Cond.instanceMethod ({ cls := "StruckCountsModel", name := "newName", desc := "(I)V" } : Jvm.MethodName)) ∈ lw_all := lw_g (lw_at lw_m11 58 rfl) rfl
theorem q2614 : (Jvm.Cond.code ({ cls := "StruckCountsModel", name := "newName", desc := "(I)V" } : Jvm.MethodName) prog_18_method_22_code (2 : Nat) (Option.none : Option Jvm.ClassFile.FieldType)) ∈ lw_all := lw_g (lw_at lw_m11 59 rfl) rfl
theorem q2615 : (Jvm.Cond.methodLink "StruckCountsModel" (172 : Nat) ({ cls := "StruckCountsModel", name := "isName", desc := "()Z" } : Jvm.MethodName)) ∈ lw_all := lw_g (lw_at lw_m11 60 rfl) rfl
theorem q2616 : (Jvm.Cond.privateMethod ({ cls := "StruckCountsModel", name := "isName", desc := "()Z" } : Jvm.MethodName)) ∈ lw_tbl := lw_at lw_m11 61 rfl
theorem q2617 : (Jvm.Cond.instanceMethod ({ cls := "StruckCountsModel", name := "isName", desc := "()Z" } : Jvm.MethodName)) ∈ lw_all := lw_g (lw_at lw_m11 62 rfl) rfl
theorem q2618 : (Jvm.Cond.code ({ cls := "StruckCountsModel", name := "isName", desc := "()Z" } : Jvm.MethodName) prog_18_method_12_code (1 : Nat) (Option.some Jvm.ClassFile.FieldType.boolean)) ∈ lw_all := lw_g (lw_at lw_m11 63 rfl) rfl
theorem q2619 : (Jvm.Cond.stringRef "StruckCountsModel" (139 : Nat) "never") ∈ lw_tbl := lw_at lw_m11 64 rfl
theorem q2620 : (Jvm.Cond.stringRef "StruckCountsModel" (141 : Nat) "count") ∈ lw_tbl := lw_at lw_m11 65 rfl
theorem q2621 : (Jvm.Cond.stringRef "StruckCountsModel" (143 : Nat) "worth") ∈ lw_tbl := lw_at lw_m11 66 rfl
theorem q2622 : (Jvm.Cond.stringRef "StruckCountsModel" (145 : Nat) "arose") ∈ lw_tbl := lw_at lw_m11 67 rfl
theorem q2623 : (Jvm.Cond.stringRef "StruckCountsModel" (147 : Nat) "needs") ∈ lw_tbl := lw_at lw_m11 68 rfl
theorem q2624 : (Jvm.Cond.stringRef "StruckCountsModel" (149 : Nat) "plea") ∈ lw_tbl := lw_at lw_m11 69 rfl
theorem q2625 : (Jvm.Cond.stringRef "StruckCountsModel" (151 : Nat) "says") ∈ lw_tbl := lw_at lw_m11 70 rfl
theorem q2626 : (Jvm.Cond.stringRef "StruckCountsModel" (153 : Nat) "same") ∈ lw_tbl := lw_at lw_m11 71 rfl
theorem q2627 : (Jvm.Cond.stringRef "StruckCountsModel" (155 : Nat) "limit") ∈ lw_tbl := lw_at lw_m11 72 rfl
theorem q2628 : (Jvm.Cond.stringRef "StruckCountsModel" (157 : Nat) "of") ∈ lw_tbl := lw_at lw_m11 73 rfl
theorem q2629 : (Jvm.Cond.methodLink "StruckCountsModel" (176 : Nat) ({ cls := "StruckCountsModel", name := "factNamed", desc := "()I" } : Jvm.MethodName)) ∈ lw_all := lw_g (lw_at lw_m11 74 rfl) rfl
theorem q2630 : (Jvm.Cond.privateMethod ({ cls := "StruckCountsModel", name := "factNamed", desc := "()I" } : Jvm.MethodName)) ∈ lw_tbl := lw_at lw_m11 75 rfl
theorem q2631 : (Jvm.Cond.instanceMethod ({ cls := "StruckCountsModel", name := "factNamed", desc := "()I" } : Jvm.MethodName)) ∈ lw_all := lw_g (lw_at lw_m11 76 rfl) rfl
theorem q2632 : (Jvm.Cond.code ({ cls := "StruckCountsModel", name := "factNamed", desc := "()I" } : Jvm.MethodName) prog_18_method_18_code (2 : Nat) (Option.some Jvm.ClassFile.FieldType.int)) ∈ lw_all := lw_g (lw_at lw_m11 77 rfl) rfl
theorem q2633 : (Jvm.Cond.methodLink "StruckCountsModel" (179 : Nat) ({ cls := "StruckCountsModel", name := "countNamed", desc := "()I" } : Jvm.MethodName)) ∈ lw_all := lw_g (lw_at lw_m11 78 rfl) rfl
theorem q2634 : (Jvm.Cond.privateMethod ({ cls := "StruckCountsModel", name := "countNamed", desc := "()I" } : Jvm.MethodName)) ∈ lw_tbl := lw_at lw_m11 79 rfl
theorem q2635 : (Jvm.Cond.instanceMethod ({ cls := "StruckCountsModel", name := "countNamed", desc := "()I" } : Jvm.MethodName)) ∈ lw_all := lw_g (lw_at lw_m11 80 rfl) rfl
theorem q2636 : (Jvm.Cond.code ({ cls := "StruckCountsModel", name := "countNamed", desc := "()I" } : Jvm.MethodName) prog_18_method_19_code (2 : Nat) (Option.some Jvm.ClassFile.FieldType.int)) ∈ lw_all := lw_g (lw_at lw_m11 81 rfl) rfl
theorem q2637 : (Jvm.Cond.methodLink "StruckCountsModel" (219 : Nat) ({ cls := "StruckCountsModel", name := "number", desc := "(II)I" } : Jvm.MethodName)) ∈ lw_all := lw_g (lw_at lw_m11 82 rfl) rfl
theorem q2638 : (Jvm.Cond.privateMethod ({ cls := "StruckCountsModel", name := "number", desc := "(II)I" } : Jvm.MethodName)) ∈ lw_tbl := lw_at lw_m11 83 rfl
theorem q2639 : (Jvm.Cond.instanceMethod ({ cls := "StruckCountsModel", name := "number", desc := "(II)I" } : Jvm.MethodName)) ∈ lw_all := lw_g (lw_at lw_m11 84 rfl) rfl
theorem q2640 : (Jvm.Cond.code ({ cls := "StruckCountsModel", name := "number", desc := "(II)I" } : Jvm.MethodName) prog_18_method_16_code (4 : Nat) (Option.some Jvm.ClassFile.FieldType.int)) ∈ lw_all := lw_g (lw_at lw_m11 85 rfl) rfl
theorem q2641 : (Jvm.Cond.methodLink "StruckCountsModel" (195 : Nat) ({ cls := "StruckCountsModel", name := "isSign", desc := "(I)Z" } : Jvm.MethodName)) ∈ lw_all := lw_g (lw_at lw_m11 86 rfl) rfl
theorem q2642 : (Jvm.Cond.privateMethod ({ cls := "StruckCountsModel", name := "isSign", desc := "(I)Z" } : Jvm.MethodName)) ∈ lw_tbl := lw_at lw_m11 87 rfl
theorem q2643 : (Jvm.Cond.instanceMethod ({ cls := "StruckCountsModel", name := "isSign", desc := "(I)Z" } : Jvm.MethodName)) ∈ lw_all := lw_g (lw_at lw_m11 88 rfl) rfl
theorem q2644 : (Jvm.Cond.code ({ cls := "StruckCountsModel", name := "isSign", desc := "(I)Z" } : Jvm.MethodName) prog_18_method_11_code (2 : Nat) (Option.some Jvm.ClassFile.FieldType.boolean)) ∈ lw_all := lw_g (lw_at lw_m11 89 rfl) rfl
theorem q2645 : (Jvm.Cond.methodLink "StruckCountsModel" (209 : Nat) ({ cls := "StruckCountsModel", name := "must", desc := "(Z)V" } : Jvm.MethodName)) ∈ lw_all := lw_g (lw_at lw_m11 90 rfl) rfl
theorem q2646 : (Jvm.Cond.privateMethod ({ cls := "StruckCountsModel", name := "must", desc := "(Z)V" } : Jvm.MethodName)) ∈ lw_tbl := lw_at lw_m11 91 rfl
theorem q2647 : (Jvm.Cond.instanceMethod ({ cls := "StruckCountsModel", name := "must", desc := "(Z)V" } : Jvm.MethodName)) ∈ lw_all := lw_g (lw_at lw_m11 92 rfl) rfl
theorem q2648 : (Jvm.Cond.code ({ cls := "StruckCountsModel", name := "must", desc := "(Z)V" } : Jvm.MethodName) prog_18_method_15_code (2 : Nat) (Option.none : Option Jvm.ClassFile.FieldType)) ∈ lw_all := lw_g (lw_at lw_m11 93 rfl) rfl
theorem q2649 : (Jvm.Cond.methodLink "StruckCountsModel" (250 : Nat) ({ cls := "StruckCountsModel", name := "readNever", desc := "()V" } : Jvm.MethodName)) ∈ lw_all := lw_g (lw_at lw_m11 94 rfl) rfl
theorem q2650 : (Jvm.Cond.privateMethod ({ cls := "StruckCountsModel", name := "readNever", desc := "()V" } : Jvm.MethodName)) ∈ lw_tbl := lw_at lw_m11 95 rfl
theorem q2651 : (Jvm.Cond.instanceMethod ({ cls := "StruckCountsModel", name := "readNever", desc := "()V" } : Jvm.MethodName)) ∈ lw_all := lw_g (lw_at lw_m11 96 rfl) rfl
theorem q2652 : (Jvm.Cond.code ({ cls := "StruckCountsModel", name := "readNever", desc := "()V" } : Jvm.MethodName) prog_18_method_32_code (5 : Nat) (Option.none : Option Jvm.ClassFile.FieldType)) ∈ lw_all := lw_g (lw_at lw_m11 97 rfl) rfl
theorem q2653 : (Jvm.Cond.methodLink "StruckCountsModel" (232 : Nat) ({ cls := "StruckCountsModel", name := "expr", desc := "()I" } : Jvm.MethodName)) ∈ lw_all := lw_g (lw_at lw_m11 98 rfl) rfl
theorem q2654 : (Jvm.Cond.privateMethod ({ cls := "StruckCountsModel", name := "expr", desc := "()I" } : Jvm.MethodName)) ∈ lw_tbl := lw_at lw_m11 99 rfl
theorem q2655 : (Jvm.Cond.instanceMethod ({ cls := "StruckCountsModel", name := "expr", desc := "()I" } : Jvm.MethodName)) ∈ lw_all := lw_g (lw_at lw_m11 100 rfl) rfl
theorem q2656 : (Jvm.Cond.code ({ cls := "StruckCountsModel", name := "expr", desc := "()I" } : Jvm.MethodName) prog_18_method_24_code (2 : Nat) (Option.some Jvm.ClassFile.FieldType.int)) ∈ lw_all := lw_g (lw_at lw_m11 101 rfl) rfl
theorem q2657 : (Jvm.Cond.methodLink "StruckCountsModel" (189 : Nat) ({ cls := "StruckCountsModel", name := "either", desc := "()V" } : Jvm.MethodName)) ∈ lw_all := lw_g (lw_at lw_m11 102 rfl) rfl
theorem q2658 : (Jvm.Cond.privateMethod ({ cls := "StruckCountsModel", name := "either", desc := "()V" } : Jvm.MethodName)) ∈ lw_tbl := lw_at lw_m11 103 rfl
theorem q2659 : (Jvm.Cond.instanceMethod ({ cls := "StruckCountsModel", name := "either", desc := "()V" } : Jvm.MethodName)) ∈ lw_all := lw_g (lw_at lw_m11 104 rfl) rfl
theorem q2660 : (Jvm.Cond.code ({ cls := "StruckCountsModel", name := "either", desc := "()V" } : Jvm.MethodName) prog_18_method_25_code (1 : Nat) (Option.none : Option Jvm.ClassFile.FieldType)) ∈ lw_all := lw_g (lw_at lw_m11 105 rfl) rfl
theorem q2661 : (Jvm.Cond.methodLink "StruckCountsModel" (192 : Nat) ({ cls := "StruckCountsModel", name := "both", desc := "()V" } : Jvm.MethodName)) ∈ lw_all := lw_g (lw_at lw_m11 106 rfl) rfl
theorem q2662 : (Jvm.Cond.privateMethod ({ cls := "StruckCountsModel", name := "both", desc := "()V" } : Jvm.MethodName)) ∈ lw_tbl := lw_at lw_m11 107 rfl
theorem q2663 : (Jvm.Cond.instanceMethod ({ cls := "StruckCountsModel", name := "both", desc := "()V" } : Jvm.MethodName)) ∈ lw_all := lw_g (lw_at lw_m11 108 rfl) rfl
theorem q2664 : (Jvm.Cond.code ({ cls := "StruckCountsModel", name := "both", desc := "()V" } : Jvm.MethodName) prog_18_method_26_code (1 : Nat) (Option.none : Option Jvm.ClassFile.FieldType)) ∈ lw_all := lw_g (lw_at lw_m11 109 rfl) rfl
theorem q2665 : (Jvm.Cond.methodLink "StruckCountsModel" (203 : Nat) ({ cls := "StruckCountsModel", name := "one", desc := "()V" } : Jvm.MethodName)) ∈ lw_all := lw_g (lw_at lw_m11 110 rfl) rfl
theorem q2666 : (Jvm.Cond.privateMethod ({ cls := "StruckCountsModel", name := "one", desc := "()V" } : Jvm.MethodName)) ∈ lw_tbl := lw_at lw_m11 111 rfl
theorem q2667 : (Jvm.Cond.instanceMethod ({ cls := "StruckCountsModel", name := "one", desc := "()V" } : Jvm.MethodName)) ∈ lw_all := lw_g (lw_at lw_m11 112 rfl) rfl
theorem q2668 : (Jvm.Cond.code ({ cls := "StruckCountsModel", name := "one", desc := "()V" } : Jvm.MethodName) prog_18_method_28_code (1 : Nat) (Option.none : Option Jvm.ClassFile.FieldType)) ∈ lw_all := lw_g (lw_at lw_m11 113 rfl) rfl
theorem q2669 : (Jvm.Cond.methodLink "StruckCountsModel" (206 : Nat) ({ cls := "StruckCountsModel", name := "opens", desc := "()V" } : Jvm.MethodName)) ∈ lw_all := lw_g (lw_at lw_m11 114 rfl) rfl
theorem q2670 : (Jvm.Cond.privateMethod ({ cls := "StruckCountsModel", name := "opens", desc := "()V" } : Jvm.MethodName)) ∈ lw_tbl := lw_at lw_m11 115 rfl
theorem q2671 : (Jvm.Cond.instanceMethod ({ cls := "StruckCountsModel", name := "opens", desc := "()V" } : Jvm.MethodName)) ∈ lw_all := lw_g (lw_at lw_m11 116 rfl) rfl
theorem q2672 : (Jvm.Cond.code ({ cls := "StruckCountsModel", name := "opens", desc := "()V" } : Jvm.MethodName) prog_18_method_27_code (1 : Nat) (Option.none : Option Jvm.ClassFile.FieldType)) ∈ lw_all := lw_g (lw_at lw_m11 117 rfl) rfl
theorem q2673 : (Jvm.Cond.methodLink "StruckCountsModel" (199 : Nat) ({ cls := "StruckCountsModel", name := "step", desc := "(II)V" } : Jvm.MethodName)) ∈ lw_all := lw_g (lw_at lw_m11 118 rfl) rfl
theorem q2674 : (Jvm.Cond.privateMethod ({ cls := "StruckCountsModel", name := "step", desc := "(II)V" } : Jvm.MethodName)) ∈ lw_tbl := lw_at lw_m11 119 rfl
theorem q2675 : (Jvm.Cond.instanceMethod ({ cls := "StruckCountsModel", name := "step", desc := "(II)V" } : Jvm.MethodName)) ∈ lw_all := lw_g (lw_at lw_m11 120 rfl) rfl
theorem q2676 : (Jvm.Cond.code ({ cls := "StruckCountsModel", name := "step", desc := "(II)V" } : Jvm.MethodName) prog_18_method_23_code (3 : Nat) (Option.none : Option Jvm.ClassFile.FieldType)) ∈ lw_all := lw_g (lw_at lw_m11 121 rfl) rfl
theorem q2677 : (Jvm.Cond.methodLink "StruckCountsModel" (213 : Nat) ({ cls := "StruckCountsModel", name := "someOf", desc := "()V" } : Jvm.MethodName)) ∈ lw_all := lw_g (lw_at lw_m11 122 rfl) rfl
theorem q2678 : (Jvm.Cond.privateMethod ({ cls := "StruckCountsModel", name := "someOf", desc := "()V" } : Jvm.MethodName)) ∈ lw_tbl := lw_at lw_m11 123 rfl
theorem q2679 : (Jvm.Cond.instanceMethod ({ cls := "StruckCountsModel", name := "someOf", desc := "()V" } : Jvm.MethodName)) ∈ lw_all := lw_g (lw_at lw_m11 124 rfl) rfl
theorem q2680 : (Jvm.Cond.code ({ cls := "StruckCountsModel", name := "someOf", desc := "()V" } : Jvm.MethodName) prog_18_method_29_code (4 : Nat) (Option.none : Option Jvm.ClassFile.FieldType)) ∈ lw_all := lw_g (lw_at lw_m11 125 rfl) rfl
theorem q2681 : (Jvm.Cond.methodLink "StruckCountsModel" (223 : Nat) ({ cls := "StruckCountsModel", name := "oneTooMany", desc := "()V" } : Jvm.MethodName)) ∈ lw_all := lw_g (lw_at lw_m11 126 rfl) rfl
theorem q2682 : (Jvm.Cond.privateMethod ({ cls := "StruckCountsModel", name := "oneTooMany", desc := "()V" } : Jvm.MethodName)) ∈ lw_tbl := lw_at lw_m11 127 rfl
theorem q2683 : (Jvm.Cond.instanceMethod ({ cls := "StruckCountsModel", name := "oneTooMany", desc := "()V" } : Jvm.MethodName)) ∈ lw_all := lw_g (lw_at lw_m11 128 rfl) rfl
theorem q2684 : (Jvm.Cond.code ({ cls := "StruckCountsModel", name := "oneTooMany", desc := "()V" } : Jvm.MethodName) prog_18_method_30_code (1 : Nat) (Option.none : Option Jvm.ClassFile.FieldType)) ∈ lw_all := lw_g (lw_at lw_m11 129 rfl) rfl
theorem q2685 : (Jvm.Cond.methodLink "StruckCountsModel" (182 : Nat) ({ cls := "StruckCountsModel", name := "here", desc := "(Z)I" } : Jvm.MethodName)) ∈ lw_all := lw_g (lw_at lw_m11 130 rfl) rfl
theorem q2686 : (Jvm.Cond.privateMethod ({ cls := "StruckCountsModel", name := "here", desc := "(Z)I" } : Jvm.MethodName)) ∈ lw_tbl := lw_at lw_m11 131 rfl
theorem q2687 : (Jvm.Cond.instanceMethod ({ cls := "StruckCountsModel", name := "here", desc := "(Z)I" } : Jvm.MethodName)) ∈ lw_all := lw_g (lw_at lw_m11 132 rfl) rfl
theorem q2688 : (Jvm.Cond.code ({ cls := "StruckCountsModel", name := "here", desc := "(Z)I" } : Jvm.MethodName) prog_18_method_20_code (3 : Nat) (Option.some Jvm.ClassFile.FieldType.int)) ∈ lw_all := lw_g (lw_at lw_m11 133 rfl) rfl
theorem q2689 : (Jvm.Cond.methodLink "StruckCountsModel" (216 : Nat) ({ cls := "StruckCountsModel", name := "known", desc := "(Z)I" } : Jvm.MethodName)) ∈ lw_all := lw_g (lw_at lw_m11 134 rfl) rfl
theorem q2690 : (Jvm.Cond.privateMethod ({ cls := "StruckCountsModel", name := "known", desc := "(Z)I" } : Jvm.MethodName)) ∈ lw_tbl := lw_at lw_m11 135 rfl
theorem q2691 : (Jvm.Cond.instanceMethod ({ cls := "StruckCountsModel", name := "known", desc := "(Z)I" } : Jvm.MethodName)) ∈ lw_all := lw_g (lw_at lw_m11 136 rfl) rfl
theorem q2692 : (Jvm.Cond.code ({ cls := "StruckCountsModel", name := "known", desc := "(Z)I" } : Jvm.MethodName) prog_18_method_21_code (3 : Nat) (Option.some Jvm.ClassFile.FieldType.int)) ∈ lw_all := lw_g (lw_at lw_m11 137 rfl) rfl
theorem q2693 : (Jvm.Cond.methodLink "StruckCountsModel" (253 : Nat) ({ cls := "StruckCountsModel", name := "readCount", desc := "()V" } : Jvm.MethodName)) ∈ lw_all := lw_g (lw_at lw_m11 138 rfl) rfl
theorem q2694 : (Jvm.Cond.privateMethod ({ cls := "StruckCountsModel", name := "readCount", desc := "()V" } : Jvm.MethodName)) ∈ lw_tbl := lw_at lw_m11 139 rfl
theorem q2695 : (Jvm.Cond.instanceMethod ({ cls := "StruckCountsModel", name := "readCount", desc := "()V" } : Jvm.MethodName)) ∈ lw_all := lw_g (lw_at lw_m11 140 rfl) rfl
theorem q2696 : (Jvm.Cond.code ({ cls := "StruckCountsModel", name := "readCount", desc := "()V" } : Jvm.MethodName) prog_18_method_33_code (6 : Nat) (Option.none : Option Jvm.ClassFile.FieldType)) ∈ lw_all := lw_g (lw_at lw_m11 141 rfl) rfl
theorem q2697 : (Jvm.Cond.methodLink "StruckCountsModel" (256 : Nat) ({ cls := "StruckCountsModel", name := "readPlea", desc := "()V" } : Jvm.MethodName)) ∈ lw_all := lw_g (lw_at lw_m11 142 rfl) rfl
theorem q2698 : (Jvm.Cond.privateMethod ({ cls := "StruckCountsModel", name := "readPlea", desc := "()V" } : Jvm.MethodName)) ∈ lw_tbl := lw_at lw_m11 143 rfl
theorem q2699 : (Jvm.Cond.instanceMethod ({ cls := "StruckCountsModel", name := "readPlea", desc := "()V" } : Jvm.MethodName)) ∈ lw_all := lw_g (lw_at lw_m11 144 rfl) rfl
theorem q2700 : (Jvm.Cond.code ({ cls := "StruckCountsModel", name := "readPlea", desc := "()V" } : Jvm.MethodName) prog_18_method_34_code (3 : Nat) (Option.none : Option Jvm.ClassFile.FieldType)) ∈ lw_all := lw_g (lw_at lw_m11 145 rfl) rfl
theorem q2701 : (Jvm.Cond.methodLink "StruckCountsModel" (259 : Nat) ({ cls := "StruckCountsModel", name := "readSays", desc := "()V" } : Jvm.MethodName)) ∈ lw_all := lw_g (lw_at lw_m11 146 rfl) rfl
theorem q2702 : (Jvm.Cond.privateMethod ({ cls := "StruckCountsModel", name := "readSays", desc := "()V" } : Jvm.MethodName)) ∈ lw_tbl := lw_at lw_m11 147 rfl
theorem q2703 : (Jvm.Cond.instanceMethod ({ cls := "StruckCountsModel", name := "readSays", desc := "()V" } : Jvm.MethodName)) ∈ lw_all := lw_g (lw_at lw_m11 148 rfl) rfl
theorem q2704 : (Jvm.Cond.code ({ cls := "StruckCountsModel", name := "readSays", desc := "()V" } : Jvm.MethodName) prog_18_method_35_code (4 : Nat) (Option.none : Option Jvm.ClassFile.FieldType)) ∈ lw_all := lw_g (lw_at lw_m11 149 rfl) rfl
theorem q2705 : (Jvm.Cond.methodLink "StruckCountsModel" (239 : Nat) ({ cls := "StruckCountsModel", name := "has", desc := "(II)Z" } : Jvm.MethodName)) ∈ lw_all := lw_g (lw_at lw_m11 150 rfl) rfl
theorem q2706 : (Jvm.Cond.static ({ cls := "StruckCountsModel", name := "has", desc := "(II)Z" } : Jvm.MethodName)) ∈ lw_all := lw_g (lw_at lw_m11 151 rfl) rfl
theorem q2707 : (Jvm.Cond.code ({ cls := "StruckCountsModel", name := "has", desc := "(II)Z" } : Jvm.MethodName) prog_18_method_3_code (2 : Nat) (Option.some Jvm.ClassFile.FieldType.boolean)) ∈ lw_all := lw_g (lw_at lw_m11 152 rfl) rfl
theorem q2708 : (Jvm.Cond.methodLink "StruckCountsModel" (262 : Nat) ({ cls := "StruckCountsModel", name := "readSame", desc := "()V" } : Jvm.MethodName)) ∈ lw_all := lw_g (lw_at lw_m11 153 rfl) rfl
theorem q2709 : (Jvm.Cond.privateMethod ({ cls := "StruckCountsModel", name := "readSame", desc := "()V" } : Jvm.MethodName)) ∈ lw_tbl := lw_at lw_m11 154 rfl
theorem q2710 : (Jvm.Cond.instanceMethod ({ cls := "StruckCountsModel", name := "readSame", desc := "()V" } : Jvm.MethodName)) ∈ lw_all := lw_g (lw_at lw_m11 155 rfl) rfl
theorem q2711 : (Jvm.Cond.code ({ cls := "StruckCountsModel", name := "readSame", desc := "()V" } : Jvm.MethodName) prog_18_method_36_code (3 : Nat) (Option.none : Option Jvm.ClassFile.FieldType)) ∈ lw_all := lw_g (lw_at lw_m11 156 rfl) rfl
theorem q2712 : (Jvm.Cond.methodLink "StruckCountsModel" (265 : Nat) ({ cls := "StruckCountsModel", name := "readLimit", desc := "()V" } : Jvm.MethodName)) ∈ lw_all := lw_g (lw_at lw_m11 157 rfl) rfl
theorem q2713 : (Jvm.Cond.privateMethod ({ cls := "StruckCountsModel", name := "readLimit", desc := "()V" } : Jvm.MethodName)) ∈ lw_tbl := lw_at lw_m11 158 rfl
theorem q2714 : (Jvm.Cond.instanceMethod ({ cls := "StruckCountsModel", name := "readLimit", desc := "()V" } : Jvm.MethodName)) ∈ lw_all := lw_g (lw_at lw_m11 159 rfl) rfl
theorem q2715 : (Jvm.Cond.code ({ cls := "StruckCountsModel", name := "readLimit", desc := "()V" } : Jvm.MethodName) prog_18_method_37_code (2 : Nat) (Option.none : Option Jvm.ClassFile.FieldType)) ∈ lw_all := lw_g (lw_at lw_m11 160 rfl) rfl
theorem q2716 : (Jvm.Cond.methodLink "StruckCountsModel" (277 : Nat) ({ cls := "StruckCountsModel", name := "isRead", desc := "()Z" } : Jvm.MethodName)) ∈ lw_all := lw_g (lw_at lw_m11 161 rfl) rfl
theorem q2717 : (Jvm.Cond.privateMethod ({ cls := "StruckCountsModel", name := "isRead", desc := "()Z" } : Jvm.MethodName)) ∈ lw_tbl := lw_at lw_m11 162 rfl
theorem q2718 : (Jvm.Cond.instanceMethod ({ cls := "StruckCountsModel", name := "isRead", desc := "()Z" } : Jvm.MethodName)) ∈ lw_all := lw_g (lw_at lw_m11 163 rfl) rfl
theorem q2719 : (Jvm.Cond.code ({ cls := "StruckCountsModel", name := "isRead", desc := "()Z" } : Jvm.MethodName) prog_18_method_40_code (1 : Nat) (Option.some Jvm.ClassFile.FieldType.boolean)) ∈ lw_all := lw_g (lw_at lw_m11 164 rfl) rfl
theorem q2720 : (Jvm.Cond.methodLink "StruckCountsModel" (280 : Nat) ({ cls := "StruckCountsModel", name := "begins", desc := "()V" } : Jvm.MethodName)) ∈ lw_all := lw_g (lw_at lw_m11 165 rfl) rfl
theorem q2721 : (Jvm.Cond.privateMethod ({ cls := "StruckCountsModel", name := "begins", desc := "()V" } : Jvm.MethodName)) ∈ lw_tbl := lw_at lw_m11 166 rfl
theorem q2722 : (Jvm.Cond.instanceMethod ({ cls := "StruckCountsModel", name := "begins", desc := "()V" } : Jvm.MethodName)) ∈ lw_all := lw_g (lw_at lw_m11 167 rfl) rfl
theorem q2723 : (Jvm.Cond.code ({ cls := "StruckCountsModel", name := "begins", desc := "()V" } : Jvm.MethodName) prog_18_method_43_code (2 : Nat) (Option.none : Option Jvm.ClassFile.FieldType)) ∈ lw_all := lw_g (lw_at lw_m11 168 rfl) rfl
theorem q2724 : (Jvm.Cond.methodLink "StruckCountsModel" (283 : Nat) ({ cls := "StruckCountsModel", name := "puts", desc := "(III)V" } : Jvm.MethodName)) ∈ lw_all := lw_g (lw_at lw_m11 169 rfl) rfl
theorem q2725 : (Jvm.Cond.privateMethod ({ cls := "StruckCountsModel", name := "puts", desc := "(III)V" } : Jvm.MethodName)) ∈ lw_tbl := lw_at lw_m11 170 rfl
theorem q2726 : (Jvm.Cond.instanceMethod ({ cls := "StruckCountsModel", name := "puts", desc := "(III)V" } : Jvm.MethodName)) ∈ lw_all := lw_g (lw_at lw_m11 171 rfl) rfl
theorem q2727 : (Jvm.Cond.code ({ cls := "StruckCountsModel", name := "puts", desc := "(III)V" } : Jvm.MethodName) prog_18_method_56_code (4 : Nat) (Option.none : Option Jvm.ClassFile.FieldType)) ∈ lw_all := lw_g (lw_at lw_m11 172 rfl) rfl
theorem q2729 : (Jvm.Cond.instanceMethod ({ cls := "StruckCountsModel", name := "fault", desc := "(I)I" } : Jvm.MethodName)) ∈ lw_all := lw_g (lw_at lw_m11 174 rfl) rfl
theorem q2730 : (Jvm.Cond.selects "StruckCountsModel" ({ cls := "StruckCountsModel", name := "fault", desc := "(I)I" } : Jvm.MethodName) ({ cls := "StruckCountsModel", name := "fault", desc := "(I)I" } : Jvm.MethodName)) ∈ lw_all := lw_g (lw_at lw_m11 175 rfl) rfl
theorem q2731 : (Jvm.Cond.code ({ cls := "StruckCountsModel", name := "fault", desc := "(I)I" } : Jvm.MethodName) prog_18_method_42_code (2 : Nat) (Option.some Jvm.ClassFile.FieldType.int)) ∈ lw_all := lw_g (lw_at lw_m11 176 rfl) rfl
theorem q2733 : (Jvm.Cond.instanceMethod ({ cls := "StruckCountsModel", name := "fact", desc := "(II)I" } : Jvm.MethodName)) ∈ lw_all := lw_g (lw_at lw_m11 178 rfl) rfl
theorem q2734 : (Jvm.Cond.selects "StruckCountsModel" ({ cls := "StruckCountsModel", name := "fact", desc := "(II)I" } : Jvm.MethodName) ({ cls := "StruckCountsModel", name := "fact", desc := "(II)I" } : Jvm.MethodName)) ∈ lw_all := lw_g (lw_at lw_m11 179 rfl) rfl
theorem q2735 : (Jvm.Cond.code ({ cls := "StruckCountsModel", name := "fact", desc := "(II)I" } : Jvm.MethodName) prog_18_method_75_code (3 : Nat) (Option.some Jvm.ClassFile.FieldType.int)) ∈ lw_all := lw_g (lw_at lw_m11 180 rfl) rfl
theorem q2736 : (Jvm.Cond.methodLink "StruckCountsModel" (374 : Nat) ({ cls := "StruckCountsModel", name := "isFact", desc := "(I)Z" } : Jvm.MethodName)) ∈ lw_all := lw_g (lw_at lw_m11 181 rfl) rfl
theorem q2737 : (Jvm.Cond.privateMethod ({ cls := "StruckCountsModel", name := "isFact", desc := "(I)Z" } : Jvm.MethodName)) ∈ lw_tbl := lw_at lw_m11 182 rfl
theorem q2738 : (Jvm.Cond.instanceMethod ({ cls := "StruckCountsModel", name := "isFact", desc := "(I)Z" } : Jvm.MethodName)) ∈ lw_all := lw_g (lw_at lw_m11 183 rfl) rfl
theorem q2739 : (Jvm.Cond.code ({ cls := "StruckCountsModel", name := "isFact", desc := "(I)Z" } : Jvm.MethodName) prog_18_method_57_code (2 : Nat) (Option.some Jvm.ClassFile.FieldType.boolean)) ∈ lw_all := lw_g (lw_at lw_m11 184 rfl) rfl
theorem q2740 : (Jvm.Cond.methodLink "StruckCountsModel" (377 : Nat) ({ cls := "StruckCountsModel", name := "sayers", desc := "(I)I" } : Jvm.MethodName)) ∈ lw_all := lw_g (lw_at lw_m11 185 rfl) rfl
theorem q2741 : (Jvm.Cond.privateMethod ({ cls := "StruckCountsModel", name := "sayers", desc := "(I)I" } : Jvm.MethodName)) ∈ lw_tbl := lw_at lw_m11 186 rfl
theorem q2742 : (Jvm.Cond.instanceMethod ({ cls := "StruckCountsModel", name := "sayers", desc := "(I)I" } : Jvm.MethodName)) ∈ lw_all := lw_g (lw_at lw_m11 187 rfl) rfl
theorem q2743 : (Jvm.Cond.code ({ cls := "StruckCountsModel", name := "sayers", desc := "(I)I" } : Jvm.MethodName) prog_18_method_76_code (4 : Nat) (Option.some Jvm.ClassFile.FieldType.int)) ∈ lw_all := lw_g (lw_at lw_m11 188 rfl) rfl
theorem q2744 : (Jvm.Cond.methodLink "StruckCountsModel" (339 : Nat) ({ cls := "StruckCountsModel", name := "its", desc := "(II)I" } : Jvm.MethodName)) ∈ lw_all := lw_g (lw_at lw_m11 189 rfl) rfl
theorem q2745 : (Jvm.Cond.privateMethod ({ cls := "StruckCountsModel", name := "its", desc := "(II)I" } : Jvm.MethodName)) ∈ lw_tbl := lw_at lw_m11 190 rfl
theorem q2746 : (Jvm.Cond.instanceMethod ({ cls := "StruckCountsModel", name := "its", desc := "(II)I" } : Jvm.MethodName)) ∈ lw_all := lw_g (lw_at lw_m11 191 rfl) rfl
theorem q2747 : (Jvm.Cond.code ({ cls := "StruckCountsModel", name := "its", desc := "(II)I" } : Jvm.MethodName) prog_18_method_55_code (3 : Nat) (Option.some Jvm.ClassFile.FieldType.int)) ∈ lw_all := lw_g (lw_at lw_m11 192 rfl) rfl
theorem q2749 : (Jvm.Cond.instanceMethod ({ cls := "StruckCountsModel", name := "of", desc := "(II)I" } : Jvm.MethodName)) ∈ lw_all := lw_g (lw_at lw_m11 194 rfl) rfl
theorem q2750 : (Jvm.Cond.selects "StruckCountsModel" ({ cls := "StruckCountsModel", name := "of", desc := "(II)I" } : Jvm.MethodName) ({ cls := "StruckCountsModel", name := "of", desc := "(II)I" } : Jvm.MethodName)) ∈ lw_all := lw_g (lw_at lw_m11 195 rfl) rfl
theorem q2751 : (Jvm.Cond.code ({ cls := "StruckCountsModel", name := "of", desc := "(II)I" } : Jvm.MethodName) prog_18_method_77_code (3 : Nat) (Option.some Jvm.ClassFile.FieldType.int)) ∈ lw_all := lw_g (lw_at lw_m11 196 rfl) rfl
theorem q2752 : (Jvm.Cond.methodLink "StruckCountsModel" (380 : Nat) ({ cls := "StruckCountsModel", name := "isCount", desc := "(I)Z" } : Jvm.MethodName)) ∈ lw_all := lw_g (lw_at lw_m11 197 rfl) rfl
theorem q2753 : (Jvm.Cond.privateMethod ({ cls := "StruckCountsModel", name := "isCount", desc := "(I)Z" } : Jvm.MethodName)) ∈ lw_tbl := lw_at lw_m11 198 rfl
theorem q2754 : (Jvm.Cond.instanceMethod ({ cls := "StruckCountsModel", name := "isCount", desc := "(I)Z" } : Jvm.MethodName)) ∈ lw_all := lw_g (lw_at lw_m11 199 rfl) rfl
theorem q2755 : (Jvm.Cond.code ({ cls := "StruckCountsModel", name := "isCount", desc := "(I)Z" } : Jvm.MethodName) prog_18_method_58_code (2 : Nat) (Option.some Jvm.ClassFile.FieldType.boolean)) ∈ lw_all := lw_g (lw_at lw_m11 200 rfl) rfl
theorem q2756 : (Jvm.Cond.methodLink "StruckCountsModel" (364 : Nat) ({ cls := "StruckCountsModel", name := "laysBacks", desc := "()V" } : Jvm.MethodName)) ∈ lw_all := lw_g (lw_at lw_m11 201 rfl) rfl
theorem q2757 : (Jvm.Cond.privateMethod ({ cls := "StruckCountsModel", name := "laysBacks", desc := "()V" } : Jvm.MethodName)) ∈ lw_tbl := lw_at lw_m11 202 rfl
theorem q2758 : (Jvm.Cond.instanceMethod ({ cls := "StruckCountsModel", name := "laysBacks", desc := "()V" } : Jvm.MethodName)) ∈ lw_all := lw_g (lw_at lw_m11 203 rfl) rfl
theorem q2759 : (Jvm.Cond.code ({ cls := "StruckCountsModel", name := "laysBacks", desc := "()V" } : Jvm.MethodName) prog_18_method_70_code (3 : Nat) (Option.none : Option Jvm.ClassFile.FieldType)) ∈ lw_all := lw_g (lw_at lw_m11 204 rfl) rfl
theorem q2760 : (Jvm.Cond.methodLink "StruckCountsModel" (350 : Nat) ({ cls := "StruckCountsModel", name := "backBy", desc := "(II)I" } : Jvm.MethodName)) ∈ lw_all := lw_g (lw_at lw_m11 205 rfl) rfl
theorem q2761 : (Jvm.Cond.privateMethod ({ cls := "StruckCountsModel", name := "backBy", desc := "(II)I" } : Jvm.MethodName)) ∈ lw_tbl := lw_at lw_m11 206 rfl
theorem q2762 : (Jvm.Cond.instanceMethod ({ cls := "StruckCountsModel", name := "backBy", desc := "(II)I" } : Jvm.MethodName)) ∈ lw_all := lw_g (lw_at lw_m11 207 rfl) rfl
theorem q2763 : (Jvm.Cond.code ({ cls := "StruckCountsModel", name := "backBy", desc := "(II)I" } : Jvm.MethodName) prog_18_method_69_code (6 : Nat) (Option.some Jvm.ClassFile.FieldType.int)) ∈ lw_all := lw_g (lw_at lw_m11 208 rfl) rfl
theorem q2764 : (Jvm.Cond.methodLink "StruckCountsModel" (315 : Nat) ({ cls := "StruckCountsModel", name := "bits", desc := "(I)I" } : Jvm.MethodName)) ∈ lw_all := lw_g (lw_at lw_m11 209 rfl) rfl
theorem q2765 : (Jvm.Cond.static ({ cls := "StruckCountsModel", name := "bits", desc := "(I)I" } : Jvm.MethodName)) ∈ lw_all := lw_g (lw_at lw_m11 210 rfl) rfl
theorem q2766 : (Jvm.Cond.code ({ cls := "StruckCountsModel", name := "bits", desc := "(I)I" } : Jvm.MethodName) prog_18_method_4_code (3 : Nat) (Option.some Jvm.ClassFile.FieldType.int)) ∈ lw_all := lw_g (lw_at lw_m11 211 rfl) rfl
theorem q2767 : (Jvm.Cond.methodLink "StruckCountsModel" (345 : Nat) ({ cls := "java/lang/Math", name := "min", desc := "(II)I" } : Jvm.MethodName)) ∈ lw_all := lw_g (lw_at lw_m11 212 rfl) rfl
theorem q2768 : (Jvm.Cond.methodLink "StruckCountsModel" (383 : Nat) ({ cls := "StruckCountsModel", name := "laysInjuries", desc := "()V" } : Jvm.MethodName)) ∈ lw_all := lw_g (lw_at lw_m11 213 rfl) rfl
theorem q2769 : (Jvm.Cond.privateMethod ({ cls := "StruckCountsModel", name := "laysInjuries", desc := "()V" } : Jvm.MethodName)) ∈ lw_tbl := lw_at lw_m11 214 rfl
theorem q2770 : (Jvm.Cond.instanceMethod ({ cls := "StruckCountsModel", name := "laysInjuries", desc := "()V" } : Jvm.MethodName)) ∈ lw_all := lw_g (lw_at lw_m11 215 rfl) rfl
theorem q2771 : (Jvm.Cond.code ({ cls := "StruckCountsModel", name := "laysInjuries", desc := "()V" } : Jvm.MethodName) prog_18_method_74_code (5 : Nat) (Option.none : Option Jvm.ClassFile.FieldType)) ∈ lw_all := lw_g (lw_at lw_m11 216 rfl) rfl
theorem q2772 : (Jvm.Cond.methodLink "StruckCountsModel" (353 : Nat) ({ cls := "StruckCountsModel", name := "needs", desc := "(I)I" } : Jvm.MethodName)) ∈ lw_all := lw_g (lw_at lw_m11 217 rfl) rfl
theorem q2773 : (Jvm.Cond.privateMethod ({ cls := "StruckCountsModel", name := "needs", desc := "(I)I" } : Jvm.MethodName)) ∈ lw_tbl := lw_at lw_m11 218 rfl
theorem q2774 : (Jvm.Cond.instanceMethod ({ cls := "StruckCountsModel", name := "needs", desc := "(I)I" } : Jvm.MethodName)) ∈ lw_all := lw_g (lw_at lw_m11 219 rfl) rfl
theorem q2775 : (Jvm.Cond.code ({ cls := "StruckCountsModel", name := "needs", desc := "(I)I" } : Jvm.MethodName) prog_18_method_64_code (2 : Nat) (Option.some Jvm.ClassFile.FieldType.int)) ∈ lw_all := lw_g (lw_at lw_m11 220 rfl) rfl
theorem q2776 : (Jvm.Cond.methodLink "StruckCountsModel" (361 : Nat) ({ cls := "StruckCountsModel", name := "bars", desc := "(I)I" } : Jvm.MethodName)) ∈ lw_all := lw_g (lw_at lw_m11 221 rfl) rfl
theorem q2777 : (Jvm.Cond.privateMethod ({ cls := "StruckCountsModel", name := "bars", desc := "(I)I" } : Jvm.MethodName)) ∈ lw_tbl := lw_at lw_m11 222 rfl
theorem q2778 : (Jvm.Cond.instanceMethod ({ cls := "StruckCountsModel", name := "bars", desc := "(I)I" } : Jvm.MethodName)) ∈ lw_all := lw_g (lw_at lw_m11 223 rfl) rfl
theorem q2779 : (Jvm.Cond.code ({ cls := "StruckCountsModel", name := "bars", desc := "(I)I" } : Jvm.MethodName) prog_18_method_67_code (3 : Nat) (Option.some Jvm.ClassFile.FieldType.int)) ∈ lw_all := lw_g (lw_at lw_m11 224 rfl) rfl
theorem q2780 : (Jvm.Cond.methodLink "StruckCountsModel" (342 : Nat) ({ cls := "StruckCountsModel", name := "barOf", desc := "(II)I" } : Jvm.MethodName)) ∈ lw_all := lw_g (lw_at lw_m11 225 rfl) rfl
theorem q2781 : (Jvm.Cond.privateMethod ({ cls := "StruckCountsModel", name := "barOf", desc := "(II)I" } : Jvm.MethodName)) ∈ lw_tbl := lw_at lw_m11 226 rfl
theorem q2782 : (Jvm.Cond.instanceMethod ({ cls := "StruckCountsModel", name := "barOf", desc := "(II)I" } : Jvm.MethodName)) ∈ lw_all := lw_g (lw_at lw_m11 227 rfl) rfl
theorem q2783 : (Jvm.Cond.code ({ cls := "StruckCountsModel", name := "barOf", desc := "(II)I" } : Jvm.MethodName) prog_18_method_66_code (5 : Nat) (Option.some Jvm.ClassFile.FieldType.int)) ∈ lw_all := lw_g (lw_at lw_m11 228 rfl) rfl
theorem q2784 : (Jvm.Cond.methodLink "StruckCountsModel" (371 : Nat) ({ cls := "StruckCountsModel", name := "failing", desc := "(I)I" } : Jvm.MethodName)) ∈ lw_all := lw_g (lw_at lw_m11 229 rfl) rfl
theorem q2785 : (Jvm.Cond.privateMethod ({ cls := "StruckCountsModel", name := "failing", desc := "(I)I" } : Jvm.MethodName)) ∈ lw_tbl := lw_at lw_m11 230 rfl
theorem q2786 : (Jvm.Cond.instanceMethod ({ cls := "StruckCountsModel", name := "failing", desc := "(I)I" } : Jvm.MethodName)) ∈ lw_all := lw_g (lw_at lw_m11 231 rfl) rfl
theorem q2787 : (Jvm.Cond.code ({ cls := "StruckCountsModel", name := "failing", desc := "(I)I" } : Jvm.MethodName) prog_18_method_72_code (2 : Nat) (Option.some Jvm.ClassFile.FieldType.int)) ∈ lw_all := lw_g (lw_at lw_m11 232 rfl) rfl
theorem q2788 : (Jvm.Cond.methodLink "StruckCountsModel" (367 : Nat) ({ cls := "StruckCountsModel", name := "failsBy", desc := "(III)I" } : Jvm.MethodName)) ∈ lw_all := lw_g (lw_at lw_m11 233 rfl) rfl
theorem q2789 : (Jvm.Cond.privateMethod ({ cls := "StruckCountsModel", name := "failsBy", desc := "(III)I" } : Jvm.MethodName)) ∈ lw_tbl := lw_at lw_m11 234 rfl
theorem q2790 : (Jvm.Cond.instanceMethod ({ cls := "StruckCountsModel", name := "failsBy", desc := "(III)I" } : Jvm.MethodName)) ∈ lw_all := lw_g (lw_at lw_m11 235 rfl) rfl
theorem q2791 : (Jvm.Cond.code ({ cls := "StruckCountsModel", name := "failsBy", desc := "(III)I" } : Jvm.MethodName) prog_18_method_71_code (7 : Nat) (Option.some Jvm.ClassFile.FieldType.int)) ∈ lw_all := lw_g (lw_at lw_m11 236 rfl) rfl
theorem q2792 : (Jvm.Cond.methodLink "StruckCountsModel" (322 : Nat) ({ cls := "StruckCountsModel", name := "many", desc := "([I)I" } : Jvm.MethodName)) ∈ lw_all := lw_g (lw_at lw_m11 237 rfl) rfl
theorem q2793 : (Jvm.Cond.static ({ cls := "StruckCountsModel", name := "many", desc := "([I)I" } : Jvm.MethodName)) ∈ lw_all := lw_g (lw_at lw_m11 238 rfl) rfl
theorem q2794 : (Jvm.Cond.code ({ cls := "StruckCountsModel", name := "many", desc := "([I)I" } : Jvm.MethodName) prog_18_method_52_code (3 : Nat) (Option.some Jvm.ClassFile.FieldType.int)) ∈ lw_all := lw_g (lw_at lw_m11 239 rfl) rfl
theorem q2795 : (Jvm.Cond.methodLink "StruckCountsModel" (355 : Nat) ({ cls := "StruckCountsModel", name := "need", desc := "(II)I" } : Jvm.MethodName)) ∈ lw_all := lw_g (lw_at lw_m12 0 rfl) rfl
theorem q2796 : (Jvm.Cond.privateMethod ({ cls := "StruckCountsModel", name := "need", desc := "(II)I" } : Jvm.MethodName)) ∈ lw_tbl := lw_at lw_m12 1 rfl
theorem q2797 : (Jvm.Cond.instanceMethod ({ cls := "StruckCountsModel", name := "need", desc := "(II)I" } : Jvm.MethodName)) ∈ lw_all := lw_g (lw_at lw_m12 2 rfl) rfl
theorem q2798 : (Jvm.Cond.code ({ cls := "StruckCountsModel", name := "need", desc := "(II)I" } : Jvm.MethodName) prog_18_method_65_code (3 : Nat) (Option.some Jvm.ClassFile.FieldType.int)) ∈ lw_all := lw_g (lw_at lw_m12 3 rfl) rfl
theorem q2799 : (Jvm.Cond.methodLink "StruckCountsModel" (358 : Nat) ({ cls := "StruckCountsModel", name := "isSure", desc := "([II)Z" } : Jvm.MethodName)) ∈ lw_all := lw_g (lw_at lw_m12 4 rfl) rfl
theorem q2800 : (Jvm.Cond.privateMethod ({ cls := "StruckCountsModel", name := "isSure", desc := "([II)Z" } : Jvm.MethodName)) ∈ lw_tbl := lw_at lw_m12 5 rfl
theorem q2801 : (Jvm.Cond.instanceMethod ({ cls := "StruckCountsModel", name := "isSure", desc := "([II)Z" } : Jvm.MethodName)) ∈ lw_all := lw_g (lw_at lw_m12 6 rfl) rfl
theorem q2802 : (Jvm.Cond.code ({ cls := "StruckCountsModel", name := "isSure", desc := "([II)Z" } : Jvm.MethodName) prog_18_method_54_code (3 : Nat) (Option.some Jvm.ClassFile.FieldType.boolean)) ∈ lw_all := lw_g (lw_at lw_m12 7 rfl) rfl
theorem q2803 : (Jvm.Cond.methodLink "StruckCountsModel" (318 : Nat) ({ cls := "StruckCountsModel", name := "holdsIn", desc := "([II)I" } : Jvm.MethodName)) ∈ lw_all := lw_g (lw_at lw_m12 8 rfl) rfl
theorem q2804 : (Jvm.Cond.privateMethod ({ cls := "StruckCountsModel", name := "holdsIn", desc := "([II)I" } : Jvm.MethodName)) ∈ lw_tbl := lw_at lw_m12 9 rfl
theorem q2805 : (Jvm.Cond.instanceMethod ({ cls := "StruckCountsModel", name := "holdsIn", desc := "([II)I" } : Jvm.MethodName)) ∈ lw_all := lw_g (lw_at lw_m12 10 rfl) rfl
theorem q2806 : (Jvm.Cond.code ({ cls := "StruckCountsModel", name := "holdsIn", desc := "([II)I" } : Jvm.MethodName) prog_18_method_53_code (5 : Nat) (Option.some Jvm.ClassFile.FieldType.int)) ∈ lw_all := lw_g (lw_at lw_m12 11 rfl) rfl
theorem q2808 : (Jvm.Cond.instanceMethod ({ cls := "StruckCountsModel", name := "element", desc := "(III)I" } : Jvm.MethodName)) ∈ lw_all := lw_g (lw_at lw_m12 13 rfl) rfl
theorem q2809 : (Jvm.Cond.selects "StruckCountsModel" ({ cls := "StruckCountsModel", name := "element", desc := "(III)I" } : Jvm.MethodName) ({ cls := "StruckCountsModel", name := "element", desc := "(III)I" } : Jvm.MethodName)) ∈ lw_all := lw_g (lw_at lw_m12 14 rfl) rfl
theorem q2810 : (Jvm.Cond.code ({ cls := "StruckCountsModel", name := "element", desc := "(III)I" } : Jvm.MethodName) prog_18_method_82_code (4 : Nat) (Option.some Jvm.ClassFile.FieldType.int)) ∈ lw_all := lw_g (lw_at lw_m12 15 rfl) rfl
theorem q2811 : (Jvm.Cond.methodLink "StruckCountsModel" (395 : Nat) ({ cls := "StruckCountsModel", name := "tellsOf", desc := "(III)I" } : Jvm.MethodName)) ∈ lw_all := lw_g (lw_at lw_m12 16 rfl) rfl
theorem q2812 : (Jvm.Cond.privateMethod ({ cls := "StruckCountsModel", name := "tellsOf", desc := "(III)I" } : Jvm.MethodName)) ∈ lw_tbl := lw_at lw_m12 17 rfl
theorem q2813 : (Jvm.Cond.instanceMethod ({ cls := "StruckCountsModel", name := "tellsOf", desc := "(III)I" } : Jvm.MethodName)) ∈ lw_all := lw_g (lw_at lw_m12 18 rfl) rfl
theorem q2814 : (Jvm.Cond.code ({ cls := "StruckCountsModel", name := "tellsOf", desc := "(III)I" } : Jvm.MethodName) prog_18_method_81_code (5 : Nat) (Option.some Jvm.ClassFile.FieldType.int)) ∈ lw_all := lw_g (lw_at lw_m12 19 rfl) rfl
theorem q2815 : (Jvm.Cond.methodLink "StruckCountsModel" (392 : Nat) ({ cls := "StruckCountsModel", name := "seen", desc := "(II)I" } : Jvm.MethodName)) ∈ lw_all := lw_g (lw_at lw_m12 20 rfl) rfl
theorem q2816 : (Jvm.Cond.privateMethod ({ cls := "StruckCountsModel", name := "seen", desc := "(II)I" } : Jvm.MethodName)) ∈ lw_tbl := lw_at lw_m12 21 rfl
theorem q2817 : (Jvm.Cond.instanceMethod ({ cls := "StruckCountsModel", name := "seen", desc := "(II)I" } : Jvm.MethodName)) ∈ lw_all := lw_g (lw_at lw_m12 22 rfl) rfl
theorem q2818 : (Jvm.Cond.code ({ cls := "StruckCountsModel", name := "seen", desc := "(II)I" } : Jvm.MethodName) prog_18_method_79_code (10 : Nat) (Option.some Jvm.ClassFile.FieldType.int)) ∈ lw_all := lw_g (lw_at lw_m12 23 rfl) rfl
theorem q2819 : (Jvm.Cond.methodLink "StruckCountsModel" (386 : Nat) ({ cls := "StruckCountsModel", name := "turned", desc := "(I)I" } : Jvm.MethodName)) ∈ lw_all := lw_g (lw_at lw_m12 24 rfl) rfl
theorem q2820 : (Jvm.Cond.static ({ cls := "StruckCountsModel", name := "turned", desc := "(I)I" } : Jvm.MethodName)) ∈ lw_all := lw_g (lw_at lw_m12 25 rfl) rfl
theorem q2821 : (Jvm.Cond.code ({ cls := "StruckCountsModel", name := "turned", desc := "(I)I" } : Jvm.MethodName) prog_18_method_80_code (1 : Nat) (Option.some Jvm.ClassFile.FieldType.int)) ∈ lw_all := lw_g (lw_at lw_m12 26 rfl) rfl
theorem q2822 : (Jvm.Cond.methodLink "StruckCountsModel" (389 : Nat) ({ cls := "StruckCountsModel", name := "andOf", desc := "(II)I" } : Jvm.MethodName)) ∈ lw_all := lw_g (lw_at lw_m12 27 rfl) rfl
theorem q2823 : (Jvm.Cond.static ({ cls := "StruckCountsModel", name := "andOf", desc := "(II)I" } : Jvm.MethodName)) ∈ lw_all := lw_g (lw_at lw_m12 28 rfl) rfl
theorem q2824 : (Jvm.Cond.code ({ cls := "StruckCountsModel", name := "andOf", desc := "(II)I" } : Jvm.MethodName) prog_18_method_78_code (2 : Nat) (Option.some Jvm.ClassFile.FieldType.int)) ∈ lw_all := lw_g (lw_at lw_m12 29 rfl) rfl
theorem q2826 : (Jvm.Cond.instanceMethod ({ cls := "StruckCountsModel", name := "bar", desc := "(III)I" } : Jvm.MethodName)) ∈ lw_all := lw_g (lw_at lw_m12 31 rfl) rfl
theorem q2827 : (Jvm.Cond.selects "StruckCountsModel" ({ cls := "StruckCountsModel", name := "bar", desc := "(III)I" } : Jvm.MethodName) ({ cls := "StruckCountsModel", name := "bar", desc := "(III)I" } : Jvm.MethodName)) ∈ lw_all := lw_g (lw_at lw_m12 32 rfl) rfl
theorem q2828 : (Jvm.Cond.code ({ cls := "StruckCountsModel", name := "bar", desc := "(III)I" } : Jvm.MethodName) prog_18_method_83_code (4 : Nat) (Option.some Jvm.ClassFile.FieldType.int)) ∈ lw_all := lw_g (lw_at lw_m12 33 rfl) rfl
theorem q2830 : (Jvm.Cond.instanceMethod ({ cls := "StruckCountsModel", name := "answer", desc := "(II)I" } : Jvm.MethodName)) ∈ lw_all := lw_g (lw_at lw_m12 35 rfl) rfl
theorem q2831 : (Jvm.Cond.selects "StruckCountsModel" ({ cls := "StruckCountsModel", name := "answer", desc := "(II)I" } : Jvm.MethodName) ({ cls := "StruckCountsModel", name := "answer", desc := "(II)I" } : Jvm.MethodName)) ∈ lw_all := lw_g (lw_at lw_m12 36 rfl) rfl
theorem q2832 : (Jvm.Cond.code ({ cls := "StruckCountsModel", name := "answer", desc := "(II)I" } : Jvm.MethodName) prog_18_method_88_code (3 : Nat) (Option.some Jvm.ClassFile.FieldType.int)) ∈ lw_all := lw_g (lw_at lw_m12 37 rfl) rfl
theorem q2833 : (Jvm.Cond.methodLink "StruckCountsModel" (401 : Nat) ({ cls := "StruckCountsModel", name := "isSomeBy", desc := "(II)Z" } : Jvm.MethodName)) ∈ lw_all := lw_g (lw_at lw_m12 38 rfl) rfl
theorem q2834 : (Jvm.Cond.privateMethod ({ cls := "StruckCountsModel", name := "isSomeBy", desc := "(II)Z" } : Jvm.MethodName)) ∈ lw_tbl := lw_at lw_m12 39 rfl
theorem q2835 : (Jvm.Cond.instanceMethod ({ cls := "StruckCountsModel", name := "isSomeBy", desc := "(II)Z" } : Jvm.MethodName)) ∈ lw_all := lw_g (lw_at lw_m12 40 rfl) rfl
theorem q2836 : (Jvm.Cond.code ({ cls := "StruckCountsModel", name := "isSomeBy", desc := "(II)Z" } : Jvm.MethodName) prog_18_method_86_code (4 : Nat) (Option.some Jvm.ClassFile.FieldType.boolean)) ∈ lw_all := lw_g (lw_at lw_m12 41 rfl) rfl
theorem q2837 : (Jvm.Cond.methodLink "StruckCountsModel" (398 : Nat) ({ cls := "StruckCountsModel", name := "isLeft", desc := "(I)Z" } : Jvm.MethodName)) ∈ lw_all := lw_g (lw_at lw_m12 42 rfl) rfl
theorem q2838 : (Jvm.Cond.privateMethod ({ cls := "StruckCountsModel", name := "isLeft", desc := "(I)Z" } : Jvm.MethodName)) ∈ lw_tbl := lw_at lw_m12 43 rfl
theorem q2839 : (Jvm.Cond.instanceMethod ({ cls := "StruckCountsModel", name := "isLeft", desc := "(I)Z" } : Jvm.MethodName)) ∈ lw_all := lw_g (lw_at lw_m12 44 rfl) rfl
theorem q2840 : (Jvm.Cond.code ({ cls := "StruckCountsModel", name := "isLeft", desc := "(I)Z" } : Jvm.MethodName) prog_18_method_63_code (2 : Nat) (Option.some Jvm.ClassFile.FieldType.boolean)) ∈ lw_all := lw_g (lw_at lw_m12 45 rfl) rfl
theorem q2841 : (Jvm.Cond.methodLink "StruckCountsModel" (404 : Nat) ({ cls := "StruckCountsModel", name := "keepsAct", desc := "()V" } : Jvm.MethodName)) ∈ lw_all := lw_g (lw_at lw_m12 46 rfl) rfl
theorem q2842 : (Jvm.Cond.privateMethod ({ cls := "StruckCountsModel", name := "keepsAct", desc := "()V" } : Jvm.MethodName)) ∈ lw_tbl := lw_at lw_m12 47 rfl
theorem q2843 : (Jvm.Cond.instanceMethod ({ cls := "StruckCountsModel", name := "keepsAct", desc := "()V" } : Jvm.MethodName)) ∈ lw_all := lw_g (lw_at lw_m12 48 rfl) rfl
theorem q2844 : (Jvm.Cond.code ({ cls := "StruckCountsModel", name := "keepsAct", desc := "()V" } : Jvm.MethodName) prog_18_method_84_code (2 : Nat) (Option.none : Option Jvm.ClassFile.FieldType)) ∈ lw_all := lw_g (lw_at lw_m12 49 rfl) rfl
theorem q2845 : (Jvm.Cond.methodLink "StruckCountsModel" (407 : Nat) ({ cls := "StruckCountsModel", name := "makes", desc := "(III)V" } : Jvm.MethodName)) ∈ lw_all := lw_g (lw_at lw_m12 50 rfl) rfl
theorem q2846 : (Jvm.Cond.privateMethod ({ cls := "StruckCountsModel", name := "makes", desc := "(III)V" } : Jvm.MethodName)) ∈ lw_tbl := lw_at lw_m12 51 rfl
theorem q2847 : (Jvm.Cond.instanceMethod ({ cls := "StruckCountsModel", name := "makes", desc := "(III)V" } : Jvm.MethodName)) ∈ lw_all := lw_g (lw_at lw_m12 52 rfl) rfl
theorem q2848 : (Jvm.Cond.code ({ cls := "StruckCountsModel", name := "makes", desc := "(III)V" } : Jvm.MethodName) prog_18_method_87_code (4 : Nat) (Option.none : Option Jvm.ClassFile.FieldType)) ∈ lw_all := lw_g (lw_at lw_m12 53 rfl) rfl
theorem q2849 : (Jvm.Cond.methodLink "StruckCountsModel" (410 : Nat) ({ cls := "StruckCountsModel", name := "answered", desc := "()I" } : Jvm.MethodName)) ∈ lw_all := lw_g (lw_at lw_m12 54 rfl) rfl
theorem q2850 : (Jvm.Cond.privateMethod ({ cls := "StruckCountsModel", name := "answered", desc := "()I" } : Jvm.MethodName)) ∈ lw_tbl := lw_at lw_m12 55 rfl
theorem q2851 : (Jvm.Cond.instanceMethod ({ cls := "StruckCountsModel", name := "answered", desc := "()I" } : Jvm.MethodName)) ∈ lw_all := lw_g (lw_at lw_m12 56 rfl) rfl
theorem q2852 : (Jvm.Cond.code ({ cls := "StruckCountsModel", name := "answered", desc := "()I" } : Jvm.MethodName) prog_18_method_85_code (3 : Nat) (Option.some Jvm.ClassFile.FieldType.int)) ∈ lw_all := lw_g (lw_at lw_m12 57 rfl) rfl
theorem q2854 : (Jvm.Cond.instanceMethod ({ cls := "StruckCountsModel", name := "withdraw", desc := "(I)I" } : Jvm.MethodName)) ∈ lw_all := lw_g (lw_at lw_m12 59 rfl) rfl
theorem q2855 : (Jvm.Cond.selects "StruckCountsModel" ({ cls := "StruckCountsModel", name := "withdraw", desc := "(I)I" } : Jvm.MethodName) ({ cls := "StruckCountsModel", name := "withdraw", desc := "(I)I" } : Jvm.MethodName)) ∈ lw_all := lw_g (lw_at lw_m12 60 rfl) rfl
theorem q2856 : (Jvm.Cond.code ({ cls := "StruckCountsModel", name := "withdraw", desc := "(I)I" } : Jvm.MethodName) prog_18_method_89_code (2 : Nat) (Option.some Jvm.ClassFile.FieldType.int)) ∈ lw_all := lw_g (lw_at lw_m12 61 rfl) rfl
theorem q2858 : (Jvm.Cond.instanceMethod ({ cls := "StruckCountsModel", name := "close", desc := "()I" } : Jvm.MethodName)) ∈ lw_all := lw_g (lw_at lw_m12 63 rfl) rfl
theorem q2859 : (Jvm.Cond.selects "StruckCountsModel" ({ cls := "StruckCountsModel", name := "close", desc := "()I" } : Jvm.MethodName) ({ cls := "StruckCountsModel", name := "close", desc := "()I" } : Jvm.MethodName)) ∈ lw_all := lw_g (lw_at lw_m12 64 rfl) rfl
theorem q2860 : (Jvm.Cond.code ({ cls := "StruckCountsModel", name := "close", desc := "()I" } : Jvm.MethodName) prog_18_method_91_code (6 : Nat) (Option.some Jvm.ClassFile.FieldType.int)) ∈ lw_all := lw_g (lw_at lw_m12 65 rfl) rfl
theorem q2861 : (Jvm.Cond.methodLink "StruckCountsModel" (413 : Nat) ({ cls := "StruckCountsModel", name := "firstSayer", desc := "(I)I" } : Jvm.MethodName)) ∈ lw_all := lw_g (lw_at lw_m12 66 rfl) rfl
theorem q2862 : (Jvm.Cond.privateMethod ({ cls := "StruckCountsModel", name := "firstSayer", desc := "(I)I" } : Jvm.MethodName)) ∈ lw_tbl := lw_at lw_m12 67 rfl
theorem q2863 : (Jvm.Cond.instanceMethod ({ cls := "StruckCountsModel", name := "firstSayer", desc := "(I)I" } : Jvm.MethodName)) ∈ lw_all := lw_g (lw_at lw_m12 68 rfl) rfl
theorem q2864 : (Jvm.Cond.code ({ cls := "StruckCountsModel", name := "firstSayer", desc := "(I)I" } : Jvm.MethodName) prog_18_method_90_code (3 : Nat) (Option.some Jvm.ClassFile.FieldType.int)) ∈ lw_all := lw_g (lw_at lw_m12 69 rfl) rfl
theorem q2866 : (Jvm.Cond.instanceMethod ({ cls := "StruckCountsModel", name := "find", desc := "(IZ)I" } : Jvm.MethodName)) ∈ lw_all := lw_g (lw_at lw_m12 71 rfl) rfl
theorem q2867 : (Jvm.Cond.selects "StruckCountsModel" ({ cls := "StruckCountsModel", name := "find", desc := "(IZ)I" } : Jvm.MethodName) ({ cls := "StruckCountsModel", name := "find", desc := "(IZ)I" } : Jvm.MethodName)) ∈ lw_all := lw_g (lw_at lw_m12 72 rfl) rfl
theorem q2868 : (Jvm.Cond.code ({ cls := "StruckCountsModel", name := "find", desc := "(IZ)I" } : Jvm.MethodName) prog_18_method_92_code (3 : Nat) (Option.some Jvm.ClassFile.FieldType.int)) ∈ lw_all := lw_g (lw_at lw_m12 73 rfl) rfl
theorem q2870 : (Jvm.Cond.instanceMethod ({ cls := "StruckCountsModel", name := "say", desc := "(III)I" } : Jvm.MethodName)) ∈ lw_all := lw_g (lw_at lw_m12 75 rfl) rfl
theorem q2871 : (Jvm.Cond.selects "StruckCountsModel" ({ cls := "StruckCountsModel", name := "say", desc := "(III)I" } : Jvm.MethodName) ({ cls := "StruckCountsModel", name := "say", desc := "(III)I" } : Jvm.MethodName)) ∈ lw_all := lw_g (lw_at lw_m12 76 rfl) rfl
theorem q2872 : (Jvm.Cond.code ({ cls := "StruckCountsModel", name := "say", desc := "(III)I" } : Jvm.MethodName) prog_18_method_93_code (6 : Nat) (Option.some Jvm.ClassFile.FieldType.int)) ∈ lw_all := lw_g (lw_at lw_m12 77 rfl) rfl
theorem q2874 : (Jvm.Cond.instanceMethod ({ cls := "StruckCountsModel", name := "add", desc := "(III)I" } : Jvm.MethodName)) ∈ lw_all := lw_g (lw_at lw_m12 79 rfl) rfl
theorem q2875 : (Jvm.Cond.selects "StruckCountsModel" ({ cls := "StruckCountsModel", name := "add", desc := "(III)I" } : Jvm.MethodName) ({ cls := "StruckCountsModel", name := "add", desc := "(III)I" } : Jvm.MethodName)) ∈ lw_all := lw_g (lw_at lw_m12 80 rfl) rfl
theorem q2876 : (Jvm.Cond.code ({ cls := "StruckCountsModel", name := "add", desc := "(III)I" } : Jvm.MethodName) prog_18_method_94_code (6 : Nat) (Option.some Jvm.ClassFile.FieldType.int)) ∈ lw_all := lw_g (lw_at lw_m12 81 rfl) rfl
theorem q2878 : (Jvm.Cond.instanceMethod ({ cls := "StruckCountsModel", name := "strike", desc := "(I)I" } : Jvm.MethodName)) ∈ lw_all := lw_g (lw_at lw_m12 83 rfl) rfl
theorem q2879 : (Jvm.Cond.selects "StruckCountsModel" ({ cls := "StruckCountsModel", name := "strike", desc := "(I)I" } : Jvm.MethodName) ({ cls := "StruckCountsModel", name := "strike", desc := "(I)I" } : Jvm.MethodName)) ∈ lw_all := lw_g (lw_at lw_m12 84 rfl) rfl
theorem q2880 : (Jvm.Cond.code ({ cls := "StruckCountsModel", name := "strike", desc := "(I)I" } : Jvm.MethodName) prog_18_method_95_code (4 : Nat) (Option.some Jvm.ClassFile.FieldType.int)) ∈ lw_all := lw_g (lw_at lw_m12 85 rfl) rfl
theorem q2882 : (Jvm.Cond.instanceMethod ({ cls := "StruckCountsModel", name := "days", desc := "(I)I" } : Jvm.MethodName)) ∈ lw_all := lw_g (lw_at lw_m12 87 rfl) rfl
theorem q2883 : (Jvm.Cond.selects "StruckCountsModel" ({ cls := "StruckCountsModel", name := "days", desc := "(I)I" } : Jvm.MethodName) ({ cls := "StruckCountsModel", name := "days", desc := "(I)I" } : Jvm.MethodName)) ∈ lw_all := lw_g (lw_at lw_m12 88 rfl) rfl
theorem q2884 : (Jvm.Cond.code ({ cls := "StruckCountsModel", name := "days", desc := "(I)I" } : Jvm.MethodName) prog_18_method_96_code (2 : Nat) (Option.some Jvm.ClassFile.FieldType.int)) ∈ lw_all := lw_g (lw_at lw_m12 89 rfl) rfl
theorem q2886 : (Jvm.Cond.instanceMethod ({ cls := "StruckCountsModel", name := "undo", desc := "()I" } : Jvm.MethodName)) ∈ lw_all := lw_g (lw_at lw_m12 91 rfl) rfl
theorem q2887 : (Jvm.Cond.selects "StruckCountsModel" ({ cls := "StruckCountsModel", name := "undo", desc := "()I" } : Jvm.MethodName) ({ cls := "StruckCountsModel", name := "undo", desc := "()I" } : Jvm.MethodName)) ∈ lw_all := lw_g (lw_at lw_m12 92 rfl) rfl
theorem q2888 : (Jvm.Cond.code ({ cls := "StruckCountsModel", name := "undo", desc := "()I" } : Jvm.MethodName) prog_18_method_97_code (2 : Nat) (Option.some Jvm.ClassFile.FieldType.int)) ∈ lw_all := lw_g (lw_at lw_m12 93 rfl) rfl
theorem q2890 : (Jvm.Cond.instanceMethod ({ cls := "StruckCountsModel", name := "keep", desc := "(I)Z" } : Jvm.MethodName)) ∈ lw_all := lw_g (lw_at lw_m12 95 rfl) rfl
theorem q2891 : (Jvm.Cond.selects "StruckCountsModel" ({ cls := "StruckCountsModel", name := "keep", desc := "(I)Z" } : Jvm.MethodName) ({ cls := "StruckCountsModel", name := "keep", desc := "(I)Z" } : Jvm.MethodName)) ∈ lw_all := lw_g (lw_at lw_m12 96 rfl) rfl
theorem q2892 : (Jvm.Cond.code ({ cls := "StruckCountsModel", name := "keep", desc := "(I)Z" } : Jvm.MethodName) prog_18_method_98_code (3 : Nat) (Option.some Jvm.ClassFile.FieldType.boolean)) ∈ lw_all := lw_g (lw_at lw_m12 97 rfl) rfl
theorem q2894 : (Jvm.Cond.instanceMethod ({ cls := "StruckCountsModel", name := "again", desc := "(I)Z" } : Jvm.MethodName)) ∈ lw_all := lw_g (lw_at lw_m12 99 rfl) rfl
theorem q2895 : (Jvm.Cond.selects "StruckCountsModel" ({ cls := "StruckCountsModel", name := "again", desc := "(I)Z" } : Jvm.MethodName) ({ cls := "StruckCountsModel", name := "again", desc := "(I)Z" } : Jvm.MethodName)) ∈ lw_all := lw_g (lw_at lw_m12 100 rfl) rfl
theorem q2896 : (Jvm.Cond.code ({ cls := "StruckCountsModel", name := "again", desc := "(I)Z" } : Jvm.MethodName) prog_18_method_99_code (3 : Nat) (Option.some Jvm.ClassFile.FieldType.boolean)) ∈ lw_all := lw_g (lw_at lw_m12 101 rfl) rfl
theorem q2898 : (Jvm.Cond.instanceMethod ({ cls := "StruckCountsModel", name := "worlds", desc := "(I)I" } : Jvm.MethodName)) ∈ lw_all := lw_g (lw_at lw_m12 103 rfl) rfl
theorem q2899 : (Jvm.Cond.selects "StruckCountsModel" ({ cls := "StruckCountsModel", name := "worlds", desc := "(I)I" } : Jvm.MethodName) ({ cls := "StruckCountsModel", name := "worlds", desc := "(I)I" } : Jvm.MethodName)) ∈ lw_all := lw_g (lw_at lw_m12 104 rfl) rfl
theorem q2900 : (Jvm.Cond.code ({ cls := "StruckCountsModel", name := "worlds", desc := "(I)I" } : Jvm.MethodName) prog_18_method_100_code (2 : Nat) (Option.some Jvm.ClassFile.FieldType.int)) ∈ lw_all := lw_g (lw_at lw_m12 105 rfl) rfl
theorem q2902 : (Jvm.Cond.instanceMethod ({ cls := "StruckCountsModel", name := "clash", desc := "(II)I" } : Jvm.MethodName)) ∈ lw_all := lw_g (lw_at lw_m12 107 rfl) rfl
theorem q2903 : (Jvm.Cond.selects "StruckCountsModel" ({ cls := "StruckCountsModel", name := "clash", desc := "(II)I" } : Jvm.MethodName) ({ cls := "StruckCountsModel", name := "clash", desc := "(II)I" } : Jvm.MethodName)) ∈ lw_all := lw_g (lw_at lw_m12 108 rfl) rfl
theorem q2904 : (Jvm.Cond.code ({ cls := "StruckCountsModel", name := "clash", desc := "(II)I" } : Jvm.MethodName) prog_18_method_101_code (4 : Nat) (Option.some Jvm.ClassFile.FieldType.int)) ∈ lw_all := lw_g (lw_at lw_m12 109 rfl) rfl
theorem q2906 : (Jvm.Cond.instanceMethod ({ cls := "StruckCountsModel", name := "implied", desc := "(II)I" } : Jvm.MethodName)) ∈ lw_all := lw_g (lw_at lw_m12 111 rfl) rfl
theorem q2907 : (Jvm.Cond.selects "StruckCountsModel" ({ cls := "StruckCountsModel", name := "implied", desc := "(II)I" } : Jvm.MethodName) ({ cls := "StruckCountsModel", name := "implied", desc := "(II)I" } : Jvm.MethodName)) ∈ lw_all := lw_g (lw_at lw_m12 112 rfl) rfl
theorem q2908 : (Jvm.Cond.code ({ cls := "StruckCountsModel", name := "implied", desc := "(II)I" } : Jvm.MethodName) prog_18_method_102_code (4 : Nat) (Option.some Jvm.ClassFile.FieldType.int)) ∈ lw_all := lw_g (lw_at lw_m12 113 rfl) rfl
theorem q2909 : (Jvm.Cond.methodLink "StruckCountsModel" (416 : Nat) ({ cls := "StruckCountsModel", name := "isWon", desc := "(II)Z" } : Jvm.MethodName)) ∈ lw_all := lw_g (lw_at lw_m12 114 rfl) rfl
theorem q2910 : (Jvm.Cond.privateMethod ({ cls := "StruckCountsModel", name := "isWon", desc := "(II)Z" } : Jvm.MethodName)) ∈ lw_tbl := lw_at lw_m12 115 rfl
theorem q2911 : (Jvm.Cond.instanceMethod ({ cls := "StruckCountsModel", name := "isWon", desc := "(II)Z" } : Jvm.MethodName)) ∈ lw_all := lw_g (lw_at lw_m12 116 rfl) rfl
theorem q2912 : (Jvm.Cond.code ({ cls := "StruckCountsModel", name := "isWon", desc := "(II)Z" } : Jvm.MethodName) prog_18_method_68_code (3 : Nat) (Option.some Jvm.ClassFile.FieldType.boolean)) ∈ lw_all := lw_g (lw_at lw_m12 117 rfl) rfl
theorem q2914 : (Jvm.Cond.instanceMethod ({ cls := "StruckCountsModel", name := "lacks", desc := "(II)I" } : Jvm.MethodName)) ∈ lw_all := lw_g (lw_at lw_m12 119 rfl) rfl
theorem q2915 : (Jvm.Cond.selects "StruckCountsModel" ({ cls := "StruckCountsModel", name := "lacks", desc := "(II)I" } : Jvm.MethodName) ({ cls := "StruckCountsModel", name := "lacks", desc := "(II)I" } : Jvm.MethodName)) ∈ lw_all := lw_g (lw_at lw_m12 120 rfl) rfl
theorem q2916 : (Jvm.Cond.code ({ cls := "StruckCountsModel", name := "lacks", desc := "(II)I" } : Jvm.MethodName) prog_18_method_104_code (4 : Nat) (Option.some Jvm.ClassFile.FieldType.int)) ∈ lw_all := lw_g (lw_at lw_m12 121 rfl) rfl
theorem q2917 : (Jvm.Cond.methodLink "StruckCountsModel" (425 : Nat) ({ cls := "StruckCountsModel", name := "lacksSo", desc := "(II)Z" } : Jvm.MethodName)) ∈ lw_all := lw_g (lw_at lw_m12 122 rfl) rfl
theorem q2918 : (Jvm.Cond.privateMethod ({ cls := "StruckCountsModel", name := "lacksSo", desc := "(II)Z" } : Jvm.MethodName)) ∈ lw_tbl := lw_at lw_m12 123 rfl
theorem q2919 : (Jvm.Cond.instanceMethod ({ cls := "StruckCountsModel", name := "lacksSo", desc := "(II)Z" } : Jvm.MethodName)) ∈ lw_all := lw_g (lw_at lw_m12 124 rfl) rfl
theorem q2920 : (Jvm.Cond.code ({ cls := "StruckCountsModel", name := "lacksSo", desc := "(II)Z" } : Jvm.MethodName) prog_18_method_103_code (7 : Nat) (Option.some Jvm.ClassFile.FieldType.boolean)) ∈ lw_all := lw_g (lw_at lw_m12 125 rfl) rfl
theorem q2922 : (Jvm.Cond.instanceMethod ({ cls := "StruckCountsModel", name := "grown", desc := "(II)I" } : Jvm.MethodName)) ∈ lw_all := lw_g (lw_at lw_m12 127 rfl) rfl
theorem q2923 : (Jvm.Cond.selects "StruckCountsModel" ({ cls := "StruckCountsModel", name := "grown", desc := "(II)I" } : Jvm.MethodName) ({ cls := "StruckCountsModel", name := "grown", desc := "(II)I" } : Jvm.MethodName)) ∈ lw_all := lw_g (lw_at lw_m12 128 rfl) rfl
theorem q2924 : (Jvm.Cond.code ({ cls := "StruckCountsModel", name := "grown", desc := "(II)I" } : Jvm.MethodName) prog_18_method_105_code (6 : Nat) (Option.some Jvm.ClassFile.FieldType.int)) ∈ lw_all := lw_g (lw_at lw_m12 129 rfl) rfl
theorem q2925 : (Jvm.Cond.constantLong "StruckCountsModel" (428 : Nat) (10 : Int64)) ∈ lw_all := lw_g (lw_at lw_m12 130 rfl) rfl
theorem q2926 : (Jvm.Cond.constantLong "StruckCountsModel" (430 : Nat) (2147483647 : Int64)) ∈ lw_all := lw_g (lw_at lw_m12 131 rfl) rfl
theorem q2928 : (Jvm.Cond.instanceMethod ({ cls := "StruckCountsModel", name := "issues", desc := "(I)I" } : Jvm.MethodName)) ∈ lw_all := lw_g (lw_at lw_m12 133 rfl) rfl
theorem q2929 : (Jvm.Cond.selects "StruckCountsModel" ({ cls := "StruckCountsModel", name := "issues", desc := "(I)I" } : Jvm.MethodName) ({ cls := "StruckCountsModel", name := "issues", desc := "(I)I" } : Jvm.MethodName)) ∈ lw_all := lw_g (lw_at lw_m12 134 rfl) rfl
theorem q2930 : (Jvm.Cond.code ({ cls := "StruckCountsModel", name := "issues", desc := "(I)I" } : Jvm.MethodName) prog_18_method_110_code (6 : Nat) (Option.some Jvm.ClassFile.FieldType.int)) ∈ lw_all := lw_g (lw_at lw_m12 135 rfl) rfl
theorem q2932 : (Jvm.Cond.instanceMethod ({ cls := "StruckCountsModel", name := "judged", desc := "(I)I" } : Jvm.MethodName)) ∈ lw_all := lw_g (lw_at lw_m12 137 rfl) rfl
theorem q2933 : (Jvm.Cond.selects "StruckCountsModel" ({ cls := "StruckCountsModel", name := "judged", desc := "(I)I" } : Jvm.MethodName) ({ cls := "StruckCountsModel", name := "judged", desc := "(I)I" } : Jvm.MethodName)) ∈ lw_all := lw_g (lw_at lw_m12 138 rfl) rfl
theorem q2934 : (Jvm.Cond.code ({ cls := "StruckCountsModel", name := "judged", desc := "(I)I" } : Jvm.MethodName) prog_18_method_111_code (2 : Nat) (Option.some Jvm.ClassFile.FieldType.int)) ∈ lw_all := lw_g (lw_at lw_m12 139 rfl) rfl
theorem q2935 : (Jvm.Cond.methodLink "StruckCountsModel" (441 : Nat) ({ cls := "StruckCountsModel", name := "laysWays", desc := "(I)V" } : Jvm.MethodName)) ∈ lw_all := lw_g (lw_at lw_m12 140 rfl) rfl
theorem q2936 : (Jvm.Cond.privateMethod ({ cls := "StruckCountsModel", name := "laysWays", desc := "(I)V" } : Jvm.MethodName)) ∈ lw_tbl := lw_at lw_m12 141 rfl
theorem q2937 : (Jvm.Cond.instanceMethod ({ cls := "StruckCountsModel", name := "laysWays", desc := "(I)V" } : Jvm.MethodName)) ∈ lw_all := lw_g (lw_at lw_m12 142 rfl) rfl
theorem q2938 : (Jvm.Cond.code ({ cls := "StruckCountsModel", name := "laysWays", desc := "(I)V" } : Jvm.MethodName) prog_18_method_108_code (6 : Nat) (Option.none : Option Jvm.ClassFile.FieldType)) ∈ lw_all := lw_g (lw_at lw_m12 143 rfl) rfl
theorem q2939 : (Jvm.Cond.fieldLink "StruckCountsModel" (432 : Nat) "StruckCountsModel" "THREES" "[I") ∈ lw_all := lw_g (lw_at lw_m12 144 rfl) rfl
theorem q2940 : (Jvm.Cond.laysStatic "StruckCountsModel" "THREES" "[I") ∈ lw_tbl := lw_at lw_m12 145 rfl
theorem q2941 : (Jvm.Cond.methodLink "StruckCountsModel" (438 : Nat) ({ cls := "StruckCountsModel", name := "untold", desc := "(II)I" } : Jvm.MethodName)) ∈ lw_all := lw_g (lw_at lw_m12 146 rfl) rfl
theorem q2942 : (Jvm.Cond.privateMethod ({ cls := "StruckCountsModel", name := "untold", desc := "(II)I" } : Jvm.MethodName)) ∈ lw_tbl := lw_at lw_m12 147 rfl
theorem q2943 : (Jvm.Cond.instanceMethod ({ cls := "StruckCountsModel", name := "untold", desc := "(II)I" } : Jvm.MethodName)) ∈ lw_all := lw_g (lw_at lw_m12 148 rfl) rfl
theorem q2944 : (Jvm.Cond.code ({ cls := "StruckCountsModel", name := "untold", desc := "(II)I" } : Jvm.MethodName) prog_18_method_107_code (4 : Nat) (Option.some Jvm.ClassFile.FieldType.int)) ∈ lw_all := lw_g (lw_at lw_m12 149 rfl) rfl
theorem q2945 : (Jvm.Cond.methodLink "StruckCountsModel" (435 : Nat) ({ cls := "StruckCountsModel", name := "tells", desc := "(II)I" } : Jvm.MethodName)) ∈ lw_all := lw_g (lw_at lw_m12 150 rfl) rfl
theorem q2946 : (Jvm.Cond.static ({ cls := "StruckCountsModel", name := "tells", desc := "(II)I" } : Jvm.MethodName)) ∈ lw_all := lw_g (lw_at lw_m12 151 rfl) rfl
theorem q2947 : (Jvm.Cond.code ({ cls := "StruckCountsModel", name := "tells", desc := "(II)I" } : Jvm.MethodName) prog_18_method_106_code (2 : Nat) (Option.some Jvm.ClassFile.FieldType.int)) ∈ lw_all := lw_g (lw_at lw_m12 152 rfl) rfl
theorem q2949 : (Jvm.Cond.instanceMethod ({ cls := "StruckCountsModel", name := "tries", desc := "(II)I" } : Jvm.MethodName)) ∈ lw_all := lw_g (lw_at lw_m12 154 rfl) rfl
theorem q2950 : (Jvm.Cond.selects "StruckCountsModel" ({ cls := "StruckCountsModel", name := "tries", desc := "(II)I" } : Jvm.MethodName) ({ cls := "StruckCountsModel", name := "tries", desc := "(II)I" } : Jvm.MethodName)) ∈ lw_all := lw_g (lw_at lw_m12 155 rfl) rfl
theorem q2951 : (Jvm.Cond.code ({ cls := "StruckCountsModel", name := "tries", desc := "(II)I" } : Jvm.MethodName) prog_18_method_114_code (4 : Nat) (Option.some Jvm.ClassFile.FieldType.int)) ∈ lw_all := lw_g (lw_at lw_m12 156 rfl) rfl
theorem q2952 : (Jvm.Cond.methodLink "StruckCountsModel" (450 : Nat) ({ cls := "StruckCountsModel", name := "laysTrials", desc := "()V" } : Jvm.MethodName)) ∈ lw_all := lw_g (lw_at lw_m12 157 rfl) rfl
theorem q2953 : (Jvm.Cond.privateMethod ({ cls := "StruckCountsModel", name := "laysTrials", desc := "()V" } : Jvm.MethodName)) ∈ lw_tbl := lw_at lw_m12 158 rfl
theorem q2954 : (Jvm.Cond.instanceMethod ({ cls := "StruckCountsModel", name := "laysTrials", desc := "()V" } : Jvm.MethodName)) ∈ lw_all := lw_g (lw_at lw_m12 159 rfl) rfl
theorem q2955 : (Jvm.Cond.code ({ cls := "StruckCountsModel", name := "laysTrials", desc := "()V" } : Jvm.MethodName) prog_18_method_113_code (3 : Nat) (Option.none : Option Jvm.ClassFile.FieldType)) ∈ lw_all := lw_g (lw_at lw_m12 160 rfl) rfl
theorem q2956 : (Jvm.Cond.methodLink "StruckCountsModel" (447 : Nat) ({ cls := "StruckCountsModel", name := "triedBy", desc := "(II)I" } : Jvm.MethodName)) ∈ lw_all := lw_g (lw_at lw_m12 161 rfl) rfl
theorem q2957 : (Jvm.Cond.privateMethod ({ cls := "StruckCountsModel", name := "triedBy", desc := "(II)I" } : Jvm.MethodName)) ∈ lw_tbl := lw_at lw_m12 162 rfl
theorem q2958 : (Jvm.Cond.instanceMethod ({ cls := "StruckCountsModel", name := "triedBy", desc := "(II)I" } : Jvm.MethodName)) ∈ lw_all := lw_g (lw_at lw_m12 163 rfl) rfl
theorem q2959 : (Jvm.Cond.code ({ cls := "StruckCountsModel", name := "triedBy", desc := "(II)I" } : Jvm.MethodName) prog_18_method_112_code (6 : Nat) (Option.some Jvm.ClassFile.FieldType.int)) ∈ lw_all := lw_g (lw_at lw_m12 164 rfl) rfl
theorem q2960 : (Jvm.Cond.methodLink "StruckCountsModel" (444 : Nat) ({ cls := "java/lang/Math", name := "max", desc := "(II)I" } : Jvm.MethodName)) ∈ lw_all := lw_g (lw_at lw_m12 165 rfl) rfl
theorem q2962 : (Jvm.Cond.instanceMethod ({ cls := "StruckCountsModel", name := "duel", desc := "(II)I" } : Jvm.MethodName)) ∈ lw_all := lw_g (lw_at lw_m12 167 rfl) rfl
theorem q2963 : (Jvm.Cond.selects "StruckCountsModel" ({ cls := "StruckCountsModel", name := "duel", desc := "(II)I" } : Jvm.MethodName) ({ cls := "StruckCountsModel", name := "duel", desc := "(II)I" } : Jvm.MethodName)) ∈ lw_all := lw_g (lw_at lw_m12 168 rfl) rfl
theorem q2964 : (Jvm.Cond.code ({ cls := "StruckCountsModel", name := "duel", desc := "(II)I" } : Jvm.MethodName) prog_18_method_116_code (3 : Nat) (Option.some Jvm.ClassFile.FieldType.int)) ∈ lw_all := lw_g (lw_at lw_m12 169 rfl) rfl
theorem q2965 : (Jvm.Cond.methodLink "StruckCountsModel" (453 : Nat) ({ cls := "StruckCountsModel", name := "laysDuel", desc := "(I)V" } : Jvm.MethodName)) ∈ lw_all := lw_g (lw_at lw_m12 170 rfl) rfl
theorem q2966 : (Jvm.Cond.privateMethod ({ cls := "StruckCountsModel", name := "laysDuel", desc := "(I)V" } : Jvm.MethodName)) ∈ lw_tbl := lw_at lw_m12 171 rfl
theorem q2967 : (Jvm.Cond.instanceMethod ({ cls := "StruckCountsModel", name := "laysDuel", desc := "(I)V" } : Jvm.MethodName)) ∈ lw_all := lw_g (lw_at lw_m12 172 rfl) rfl
theorem q2968 : (Jvm.Cond.code ({ cls := "StruckCountsModel", name := "laysDuel", desc := "(I)V" } : Jvm.MethodName) prog_18_method_115_code (8 : Nat) (Option.none : Option Jvm.ClassFile.FieldType)) ∈ lw_all := lw_g (lw_at lw_m12 173 rfl) rfl
theorem q2970 : (Jvm.Cond.instanceMethod ({ cls := "StruckCountsModel", name := "turn", desc := "(III)I" } : Jvm.MethodName)) ∈ lw_all := lw_g (lw_at lw_m12 175 rfl) rfl
theorem q2971 : (Jvm.Cond.selects "StruckCountsModel" ({ cls := "StruckCountsModel", name := "turn", desc := "(III)I" } : Jvm.MethodName) ({ cls := "StruckCountsModel", name := "turn", desc := "(III)I" } : Jvm.MethodName)) ∈ lw_all := lw_g (lw_at lw_m12 176 rfl) rfl
theorem q2972 : (Jvm.Cond.code ({ cls := "StruckCountsModel", name := "turn", desc := "(III)I" } : Jvm.MethodName) prog_18_method_117_code (7 : Nat) (Option.some Jvm.ClassFile.FieldType.int)) ∈ lw_all := lw_g (lw_at lw_m12 177 rfl) rfl
theorem q2974 : (Jvm.Cond.instanceMethod ({ cls := "StruckCountsModel", name := "proofs", desc := "(IZ)I" } : Jvm.MethodName)) ∈ lw_all := lw_g (lw_at lw_m12 179 rfl) rfl
theorem q2975 : (Jvm.Cond.selects "StruckCountsModel" ({ cls := "StruckCountsModel", name := "proofs", desc := "(IZ)I" } : Jvm.MethodName) ({ cls := "StruckCountsModel", name := "proofs", desc := "(IZ)I" } : Jvm.MethodName)) ∈ lw_all := lw_g (lw_at lw_m12 180 rfl) rfl
theorem q2976 : (Jvm.Cond.code ({ cls := "StruckCountsModel", name := "proofs", desc := "(IZ)I" } : Jvm.MethodName) prog_18_method_121_code (3 : Nat) (Option.some Jvm.ClassFile.FieldType.int)) ∈ lw_all := lw_g (lw_at lw_m12 181 rfl) rfl
theorem q2977 : (Jvm.Cond.methodLink "StruckCountsModel" (467 : Nat) ({ cls := "StruckCountsModel", name := "findsProofs", desc := "(IZI)I" } : Jvm.MethodName)) ∈ lw_all := lw_g (lw_at lw_m12 182 rfl) rfl
theorem q2978 : (Jvm.Cond.privateMethod ({ cls := "StruckCountsModel", name := "findsProofs", desc := "(IZI)I" } : Jvm.MethodName)) ∈ lw_tbl := lw_at lw_m12 183 rfl
theorem q2979 : (Jvm.Cond.instanceMethod ({ cls := "StruckCountsModel", name := "findsProofs", desc := "(IZI)I" } : Jvm.MethodName)) ∈ lw_all := lw_g (lw_at lw_m12 184 rfl) rfl
theorem q2980 : (Jvm.Cond.code ({ cls := "StruckCountsModel", name := "findsProofs", desc := "(IZI)I" } : Jvm.MethodName) prog_18_method_120_code (8 : Nat) (Option.some Jvm.ClassFile.FieldType.int)) ∈ lw_all := lw_g (lw_at lw_m12 185 rfl) rfl
theorem q2981 : (Jvm.Cond.methodLink "StruckCountsModel" (463 : Nat) ({ cls := "StruckCountsModel", name := "isProof", desc := "(IIZ)Z" } : Jvm.MethodName)) ∈ lw_all := lw_g (lw_at lw_m12 186 rfl) rfl
theorem q2982 : (Jvm.Cond.privateMethod ({ cls := "StruckCountsModel", name := "isProof", desc := "(IIZ)Z" } : Jvm.MethodName)) ∈ lw_tbl := lw_at lw_m12 187 rfl
theorem q2983 : (Jvm.Cond.instanceMethod ({ cls := "StruckCountsModel", name := "isProof", desc := "(IIZ)Z" } : Jvm.MethodName)) ∈ lw_all := lw_g (lw_at lw_m12 188 rfl) rfl
theorem q2984 : (Jvm.Cond.code ({ cls := "StruckCountsModel", name := "isProof", desc := "(IIZ)Z" } : Jvm.MethodName) prog_18_method_119_code (6 : Nat) (Option.some Jvm.ClassFile.FieldType.boolean)) ∈ lw_all := lw_g (lw_at lw_m12 189 rfl) rfl
theorem q2985 : (Jvm.Cond.methodLink "StruckCountsModel" (456 : Nat) ({ cls := "StruckCountsModel", name := "wayOf", desc := "(II)I" } : Jvm.MethodName)) ∈ lw_all := lw_g (lw_at lw_m12 190 rfl) rfl
theorem q2986 : (Jvm.Cond.static ({ cls := "StruckCountsModel", name := "wayOf", desc := "(II)I" } : Jvm.MethodName)) ∈ lw_all := lw_g (lw_at lw_m12 191 rfl) rfl
theorem q2987 : (Jvm.Cond.code ({ cls := "StruckCountsModel", name := "wayOf", desc := "(II)I" } : Jvm.MethodName) prog_18_method_109_code (4 : Nat) (Option.some Jvm.ClassFile.FieldType.int)) ∈ lw_all := lw_g (lw_at lw_m12 192 rfl) rfl
theorem q2988 : (Jvm.Cond.methodLink "StruckCountsModel" (459 : Nat) ({ cls := "StruckCountsModel", name := "isProved", desc := "(IZ)Z" } : Jvm.MethodName)) ∈ lw_all := lw_g (lw_at lw_m12 193 rfl) rfl
theorem q2989 : (Jvm.Cond.privateMethod ({ cls := "StruckCountsModel", name := "isProved", desc := "(IZ)Z" } : Jvm.MethodName)) ∈ lw_tbl := lw_at lw_m12 194 rfl
theorem q2990 : (Jvm.Cond.instanceMethod ({ cls := "StruckCountsModel", name := "isProved", desc := "(IZ)Z" } : Jvm.MethodName)) ∈ lw_all := lw_g (lw_at lw_m12 195 rfl) rfl
theorem q2991 : (Jvm.Cond.code ({ cls := "StruckCountsModel", name := "isProved", desc := "(IZ)Z" } : Jvm.MethodName) prog_18_method_118_code (3 : Nat) (Option.some Jvm.ClassFile.FieldType.boolean)) ∈ lw_all := lw_g (lw_at lw_m12 196 rfl) rfl
theorem q2993 : (Jvm.Cond.instanceMethod ({ cls := "StruckCountsModel", name := "proof", desc := "(IZII)I" } : Jvm.MethodName)) ∈ lw_all := lw_g (lw_at lw_m12 198 rfl) rfl
theorem q2994 : (Jvm.Cond.selects "StruckCountsModel" ({ cls := "StruckCountsModel", name := "proof", desc := "(IZII)I" } : Jvm.MethodName) ({ cls := "StruckCountsModel", name := "proof", desc := "(IZII)I" } : Jvm.MethodName)) ∈ lw_all := lw_g (lw_at lw_m12 199 rfl) rfl
theorem q2995 : (Jvm.Cond.code ({ cls := "StruckCountsModel", name := "proof", desc := "(IZII)I" } : Jvm.MethodName) prog_18_method_122_code (5 : Nat) (Option.some Jvm.ClassFile.FieldType.int)) ∈ lw_all := lw_g (lw_at lw_m12 200 rfl) rfl
theorem q2997 : (Jvm.Cond.instanceMethod ({ cls := "StruckCountsModel", name := "chance", desc := "(II)I" } : Jvm.MethodName)) ∈ lw_all := lw_g (lw_at lw_m12 202 rfl) rfl
theorem q2998 : (Jvm.Cond.selects "StruckCountsModel" ({ cls := "StruckCountsModel", name := "chance", desc := "(II)I" } : Jvm.MethodName) ({ cls := "StruckCountsModel", name := "chance", desc := "(II)I" } : Jvm.MethodName)) ∈ lw_all := lw_g (lw_at lw_m12 203 rfl) rfl
theorem q2999 : (Jvm.Cond.code ({ cls := "StruckCountsModel", name := "chance", desc := "(II)I" } : Jvm.MethodName) prog_18_method_125_code (8 : Nat) (Option.some Jvm.ClassFile.FieldType.int)) ∈ lw_all := lw_g (lw_at lw_m12 204 rfl) rfl
theorem q3000 : (Jvm.Cond.methodLink "StruckCountsModel" (477 : Nat) ({ cls := "StruckCountsModel", name := "weight", desc := "(I)J" } : Jvm.MethodName)) ∈ lw_all := lw_g (lw_at lw_m12 205 rfl) rfl
theorem q3001 : (Jvm.Cond.privateMethod ({ cls := "StruckCountsModel", name := "weight", desc := "(I)J" } : Jvm.MethodName)) ∈ lw_tbl := lw_at lw_m12 206 rfl
theorem q3002 : (Jvm.Cond.instanceMethod ({ cls := "StruckCountsModel", name := "weight", desc := "(I)J" } : Jvm.MethodName)) ∈ lw_all := lw_g (lw_at lw_m12 207 rfl) rfl
theorem q3003 : (Jvm.Cond.code ({ cls := "StruckCountsModel", name := "weight", desc := "(I)J" } : Jvm.MethodName) prog_18_method_124_code (5 : Nat) (Option.some Jvm.ClassFile.FieldType.long)) ∈ lw_all := lw_g (lw_at lw_m12 208 rfl) rfl
theorem q3004 : (Jvm.Cond.methodLink "StruckCountsModel" (481 : Nat) ({ cls := "StruckCountsModel", name := "tellsBy", desc := "(JJ)V" } : Jvm.MethodName)) ∈ lw_all := lw_g (lw_at lw_m12 209 rfl) rfl
theorem q3005 : (Jvm.Cond.privateMethod ({ cls := "StruckCountsModel", name := "tellsBy", desc := "(JJ)V" } : Jvm.MethodName)) ∈ lw_tbl := lw_at lw_m12 210 rfl
theorem q3006 : (Jvm.Cond.instanceMethod ({ cls := "StruckCountsModel", name := "tellsBy", desc := "(JJ)V" } : Jvm.MethodName)) ∈ lw_all := lw_g (lw_at lw_m12 211 rfl) rfl
theorem q3007 : (Jvm.Cond.code ({ cls := "StruckCountsModel", name := "tellsBy", desc := "(JJ)V" } : Jvm.MethodName) prog_18_method_123_code (11 : Nat) (Option.none : Option Jvm.ClassFile.FieldType)) ∈ lw_all := lw_g (lw_at lw_m12 212 rfl) rfl
theorem q3009 : (Jvm.Cond.instanceMethod ({ cls := "StruckCountsModel", name := "award", desc := "(I)I" } : Jvm.MethodName)) ∈ lw_all := lw_g (lw_at lw_m12 214 rfl) rfl
theorem q3010 : (Jvm.Cond.selects "StruckCountsModel" ({ cls := "StruckCountsModel", name := "award", desc := "(I)I" } : Jvm.MethodName) ({ cls := "StruckCountsModel", name := "award", desc := "(I)I" } : Jvm.MethodName)) ∈ lw_all := lw_g (lw_at lw_m12 215 rfl) rfl
theorem q3011 : (Jvm.Cond.code ({ cls := "StruckCountsModel", name := "award", desc := "(I)I" } : Jvm.MethodName) prog_18_method_128_code (7 : Nat) (Option.some Jvm.ClassFile.FieldType.int)) ∈ lw_all := lw_g (lw_at lw_m12 216 rfl) rfl
theorem q3012 : (Jvm.Cond.methodLink "StruckCountsModel" (488 : Nat) ({ cls := "StruckCountsModel", name := "laysWins", desc := "()V" } : Jvm.MethodName)) ∈ lw_all := lw_g (lw_at lw_m12 217 rfl) rfl
theorem q3013 : (Jvm.Cond.privateMethod ({ cls := "StruckCountsModel", name := "laysWins", desc := "()V" } : Jvm.MethodName)) ∈ lw_tbl := lw_at lw_m12 218 rfl
theorem q3014 : (Jvm.Cond.instanceMethod ({ cls := "StruckCountsModel", name := "laysWins", desc := "()V" } : Jvm.MethodName)) ∈ lw_all := lw_g (lw_at lw_m12 219 rfl) rfl
theorem q3015 : (Jvm.Cond.code ({ cls := "StruckCountsModel", name := "laysWins", desc := "()V" } : Jvm.MethodName) prog_18_method_126_code (4 : Nat) (Option.none : Option Jvm.ClassFile.FieldType)) ∈ lw_all := lw_g (lw_at lw_m12 220 rfl) rfl
theorem q3016 : (Jvm.Cond.methodLink "StruckCountsModel" (485 : Nat) ({ cls := "StruckCountsModel", name := "standing", desc := "()I" } : Jvm.MethodName)) ∈ lw_all := lw_g (lw_at lw_m12 221 rfl) rfl
theorem q3017 : (Jvm.Cond.privateMethod ({ cls := "StruckCountsModel", name := "standing", desc := "()I" } : Jvm.MethodName)) ∈ lw_tbl := lw_at lw_m12 222 rfl
theorem q3018 : (Jvm.Cond.instanceMethod ({ cls := "StruckCountsModel", name := "standing", desc := "()I" } : Jvm.MethodName)) ∈ lw_all := lw_g (lw_at lw_m12 223 rfl) rfl
theorem q3019 : (Jvm.Cond.code ({ cls := "StruckCountsModel", name := "standing", desc := "()I" } : Jvm.MethodName) prog_18_method_73_code (3 : Nat) (Option.some Jvm.ClassFile.FieldType.int)) ∈ lw_all := lw_g (lw_at lw_m12 224 rfl) rfl
theorem q3020 : (Jvm.Cond.methodLink "StruckCountsModel" (491 : Nat) ({ cls := "StruckCountsModel", name := "awardOf", desc := "(I)I" } : Jvm.MethodName)) ∈ lw_all := lw_g (lw_at lw_m12 225 rfl) rfl
theorem q3021 : (Jvm.Cond.privateMethod ({ cls := "StruckCountsModel", name := "awardOf", desc := "(I)I" } : Jvm.MethodName)) ∈ lw_tbl := lw_at lw_m12 226 rfl
theorem q3022 : (Jvm.Cond.instanceMethod ({ cls := "StruckCountsModel", name := "awardOf", desc := "(I)I" } : Jvm.MethodName)) ∈ lw_all := lw_g (lw_at lw_m12 227 rfl) rfl
theorem q3023 : (Jvm.Cond.code ({ cls := "StruckCountsModel", name := "awardOf", desc := "(I)I" } : Jvm.MethodName) prog_18_method_127_code (6 : Nat) (Option.some Jvm.ClassFile.FieldType.int)) ∈ lw_all := lw_g (lw_at lw_m12 228 rfl) rfl
theorem q3025 : (Jvm.Cond.instanceMethod ({ cls := "StruckCountsModel", name := "meant", desc := "(I)J" } : Jvm.MethodName)) ∈ lw_all := lw_g (lw_at lw_m12 230 rfl) rfl
theorem q3026 : (Jvm.Cond.selects "StruckCountsModel" ({ cls := "StruckCountsModel", name := "meant", desc := "(I)J" } : Jvm.MethodName) ({ cls := "StruckCountsModel", name := "meant", desc := "(I)J" } : Jvm.MethodName)) ∈ lw_all := lw_g (lw_at lw_m12 231 rfl) rfl
theorem q3027 : (Jvm.Cond.code ({ cls := "StruckCountsModel", name := "meant", desc := "(I)J" } : Jvm.MethodName) prog_18_method_129_code (7 : Nat) (Option.some Jvm.ClassFile.FieldType.long)) ∈ lw_all := lw_g (lw_at lw_m12 232 rfl) rfl
theorem q3028 : (Jvm.Cond.constantLong "StruckCountsModel" (494 : Nat) (-1 : Int64)) ∈ lw_all := lw_g (lw_at lw_m12 233 rfl) rfl
theorem q3030 : (Jvm.Cond.instanceMethod ({ cls := "StruckCountsModel", name := "outcomes", desc := "()I" } : Jvm.MethodName)) ∈ lw_all := lw_g (lw_at lw_m12 235 rfl) rfl
theorem q3031 : (Jvm.Cond.selects "StruckCountsModel" ({ cls := "StruckCountsModel", name := "outcomes", desc := "()I" } : Jvm.MethodName) ({ cls := "StruckCountsModel", name := "outcomes", desc := "()I" } : Jvm.MethodName)) ∈ lw_all := lw_g (lw_at lw_m12 236 rfl) rfl
theorem q3032 : (Jvm.Cond.code ({ cls := "StruckCountsModel", name := "outcomes", desc := "()I" } : Jvm.MethodName) prog_18_method_131_code (3 : Nat) (Option.some Jvm.ClassFile.FieldType.int)) ∈ lw_all := lw_g (lw_at lw_m12 237 rfl) rfl
theorem q3033 : (Jvm.Cond.methodLink "StruckCountsModel" (496 : Nat) ({ cls := "StruckCountsModel", name := "firstLike", desc := "(I)I" } : Jvm.MethodName)) ∈ lw_all := lw_g (lw_at lw_m12 238 rfl) rfl
theorem q3034 : (Jvm.Cond.privateMethod ({ cls := "StruckCountsModel", name := "firstLike", desc := "(I)I" } : Jvm.MethodName)) ∈ lw_tbl := lw_at lw_m12 239 rfl
theorem q3035 : (Jvm.Cond.instanceMethod ({ cls := "StruckCountsModel", name := "firstLike", desc := "(I)I" } : Jvm.MethodName)) ∈ lw_all := lw_g (lw_at lw_m13 0 rfl) rfl
theorem q3036 : (Jvm.Cond.code ({ cls := "StruckCountsModel", name := "firstLike", desc := "(I)I" } : Jvm.MethodName) prog_18_method_130_code (3 : Nat) (Option.some Jvm.ClassFile.FieldType.int)) ∈ lw_all := lw_g (lw_at lw_m13 1 rfl) rfl
theorem q3038 : (Jvm.Cond.instanceMethod ({ cls := "StruckCountsModel", name := "outcome", desc := "(II)I" } : Jvm.MethodName)) ∈ lw_all := lw_g (lw_at lw_m13 3 rfl) rfl
theorem q3039 : (Jvm.Cond.selects "StruckCountsModel" ({ cls := "StruckCountsModel", name := "outcome", desc := "(II)I" } : Jvm.MethodName) ({ cls := "StruckCountsModel", name := "outcome", desc := "(II)I" } : Jvm.MethodName)) ∈ lw_all := lw_g (lw_at lw_m13 4 rfl) rfl
theorem q3040 : (Jvm.Cond.code ({ cls := "StruckCountsModel", name := "outcome", desc := "(II)I" } : Jvm.MethodName) prog_18_method_132_code (6 : Nat) (Option.some Jvm.ClassFile.FieldType.int)) ∈ lw_all := lw_g (lw_at lw_m13 5 rfl) rfl
theorem q3041 : (Jvm.Cond.methodLink "StruckCountsModel" (499 : Nat) ({ cls := "StruckCountsModel", name := "outcomes", desc := "()I" } : Jvm.MethodName)) ∈ lw_all := lw_g (lw_at lw_m13 6 rfl) rfl
theorem q3043 : (Jvm.Cond.instanceMethod ({ cls := "StruckCountsModel", name := "together", desc := "(I)I" } : Jvm.MethodName)) ∈ lw_all := lw_g (lw_at lw_m13 8 rfl) rfl
theorem q3044 : (Jvm.Cond.selects "StruckCountsModel" ({ cls := "StruckCountsModel", name := "together", desc := "(I)I" } : Jvm.MethodName) ({ cls := "StruckCountsModel", name := "together", desc := "(I)I" } : Jvm.MethodName)) ∈ lw_all := lw_g (lw_at lw_m13 9 rfl) rfl
theorem q3045 : (Jvm.Cond.code ({ cls := "StruckCountsModel", name := "together", desc := "(I)I" } : Jvm.MethodName) prog_18_method_133_code (5 : Nat) (Option.some Jvm.ClassFile.FieldType.int)) ∈ lw_all := lw_g (lw_at lw_m13 10 rfl) rfl
theorem q3047 : (Jvm.Cond.instanceMethod ({ cls := "StruckCountsModel", name := "elect", desc := "(I)I" } : Jvm.MethodName)) ∈ lw_all := lw_g (lw_at lw_m13 12 rfl) rfl
theorem q3048 : (Jvm.Cond.selects "StruckCountsModel" ({ cls := "StruckCountsModel", name := "elect", desc := "(I)I" } : Jvm.MethodName) ({ cls := "StruckCountsModel", name := "elect", desc := "(I)I" } : Jvm.MethodName)) ∈ lw_all := lw_g (lw_at lw_m13 13 rfl) rfl
theorem q3049 : (Jvm.Cond.code ({ cls := "StruckCountsModel", name := "elect", desc := "(I)I" } : Jvm.MethodName) prog_18_method_134_code (5 : Nat) (Option.some Jvm.ClassFile.FieldType.int)) ∈ lw_all := lw_g (lw_at lw_m13 14 rfl) rfl
theorem q3051 : (Jvm.Cond.instanceMethod ({ cls := "StruckCountsModel", name := "ask", desc := "()I" } : Jvm.MethodName)) ∈ lw_all := lw_g (lw_at lw_m13 16 rfl) rfl
theorem q3052 : (Jvm.Cond.selects "StruckCountsModel" ({ cls := "StruckCountsModel", name := "ask", desc := "()I" } : Jvm.MethodName) ({ cls := "StruckCountsModel", name := "ask", desc := "()I" } : Jvm.MethodName)) ∈ lw_all := lw_g (lw_at lw_m13 17 rfl) rfl
theorem q3053 : (Jvm.Cond.code ({ cls := "StruckCountsModel", name := "ask", desc := "()I" } : Jvm.MethodName) prog_18_method_135_code (8 : Nat) (Option.some Jvm.ClassFile.FieldType.int)) ∈ lw_all := lw_g (lw_at lw_m13 18 rfl) rfl
theorem q3055 : (Jvm.Cond.instanceMethod ({ cls := "StruckCountsModel", name := "asked", desc := "(I)I" } : Jvm.MethodName)) ∈ lw_all := lw_g (lw_at lw_m13 20 rfl) rfl
theorem q3056 : (Jvm.Cond.selects "StruckCountsModel" ({ cls := "StruckCountsModel", name := "asked", desc := "(I)I" } : Jvm.MethodName) ({ cls := "StruckCountsModel", name := "asked", desc := "(I)I" } : Jvm.MethodName)) ∈ lw_all := lw_g (lw_at lw_m13 21 rfl) rfl
theorem q3057 : (Jvm.Cond.code ({ cls := "StruckCountsModel", name := "asked", desc := "(I)I" } : Jvm.MethodName) prog_18_method_136_code (2 : Nat) (Option.some Jvm.ClassFile.FieldType.int)) ∈ lw_all := lw_g (lw_at lw_m13 22 rfl) rfl
theorem q3059 : (Jvm.Cond.instanceMethod ({ cls := "StruckCountsModel", name := "count", desc := "(I)I" } : Jvm.MethodName)) ∈ lw_all := lw_g (lw_at lw_m13 24 rfl) rfl
theorem q3060 : (Jvm.Cond.selects "StruckCountsModel" ({ cls := "StruckCountsModel", name := "count", desc := "(I)I" } : Jvm.MethodName) ({ cls := "StruckCountsModel", name := "count", desc := "(I)I" } : Jvm.MethodName)) ∈ lw_all := lw_g (lw_at lw_m13 25 rfl) rfl
theorem q3061 : (Jvm.Cond.code ({ cls := "StruckCountsModel", name := "count", desc := "(I)I" } : Jvm.MethodName) prog_18_method_137_code (2 : Nat) (Option.some Jvm.ClassFile.FieldType.int)) ∈ lw_all := lw_g (lw_at lw_m13 26 rfl) rfl
theorem q3087 : (Jvm.Cond.castable "StruckCountsModel" "java/lang/Object") ∈ lw_tbl := lw_at lw_m13 52 rfl
theorem in_X3 : ∀ w ∈ wsX30, w ∈ lw_all := lw_in wsX30 [2456, 2458, 2460, 2462, 2464, 2466, 2468, 2470, 2472, 2474, 2476, 2478, 2480, 2482, 2484, 2486, 2488, 2490, 2492, 2494, 2496, 2498, 2500, 2502, 2504, 2506, 2508, 2510, 2512, 2514, 2516, 2518, 2520, 2522, 2524, 2526, 2528, 2530, 2532, 2534, 2536, 2538] (by decide +kernel) (by decide +kernel)
