/-! membership of the tables' words: tm_<place in tables_1>; ts_<place in lw_privs>: printed by gen_tm.py -/
theorem tmR1 {w : Cond} {i : Nat} (h : tables_1_1[i]? = some w) : w ∈ lw_tbl := List.mem_append_right _ (List.mem_append_left _ (List.mem_of_getElem? h))
theorem tmR2 {w : Cond} {i : Nat} (h : tables_1_2[i]? = some w) : w ∈ lw_tbl := List.mem_append_right _ (List.mem_append_right _ (List.mem_append_left _ (List.mem_of_getElem? h)))
theorem tmR3 {w : Cond} {i : Nat} (h : tables_1_3[i]? = some w) : w ∈ lw_tbl := List.mem_append_right _ (List.mem_append_right _ (List.mem_append_right _ (List.mem_append_left _ (List.mem_of_getElem? h))))
theorem tmR4 {w : Cond} {i : Nat} (h : tables_1_4[i]? = some w) : w ∈ lw_tbl := List.mem_append_right _ (List.mem_append_right _ (List.mem_append_right _ (List.mem_append_right _ (List.mem_of_getElem? h))))
theorem tsR {q : MethodName × Nat} {i : Nat} (h : lw_privs[i]? = some q) : Cond.selects q.1.cls q.1 q.1 ∈ lw_tbl := List.mem_append_left _ (List.mem_map.mpr ⟨q, List.mem_of_getElem? h, rfl⟩)
theorem tm_0 : (Jvm.Cond.initialized "RowCodeLaw") ∈ lw_tbl := tmR1 (i := 0) rfl
theorem tm_1 : (Jvm.Cond.initialized "RowCode") ∈ lw_tbl := tmR1 (i := 1) rfl
theorem tm_2 : (Jvm.Cond.initialized "RowCode$Code") ∈ lw_tbl := tmR1 (i := 2) rfl
theorem tm_3 : (Jvm.Cond.initialized "RowCode$Better") ∈ lw_tbl := tmR1 (i := 3) rfl
theorem tm_4 : (Jvm.Cond.initialized "RowCode$Generator") ∈ lw_tbl := tmR1 (i := 4) rfl
theorem tm_5 : (Jvm.Cond.initialized "RowCode$Row") ∈ lw_tbl := tmR1 (i := 5) rfl
theorem tm_6 : (Jvm.Cond.initialized "RowCode$Loader") ∈ lw_tbl := tmR1 (i := 6) rfl
theorem tm_7 : (Jvm.Cond.initialized "RowCodeModel") ∈ lw_tbl := tmR1 (i := 7) rfl
theorem tm_8 : (Jvm.Cond.initialized "java/lang/System") ∈ lw_tbl := tmR1 (i := 8) rfl
theorem tm_9 : (Jvm.Cond.initialized "java/lang/String") ∈ lw_tbl := tmR1 (i := 9) rfl
theorem tm_10 : (Jvm.Cond.initialized "java/lang/StringLatin1") ∈ lw_tbl := tmR1 (i := 10) rfl
theorem tm_11 : (Jvm.Cond.initialized "jdk/internal/util/Preconditions") ∈ lw_tbl := tmR1 (i := 11) rfl
theorem tm_12 : (Jvm.Cond.initialized "java/lang/StringUTF16") ∈ lw_tbl := tmR1 (i := 12) rfl
theorem tm_13 : (Jvm.Cond.initialized "java/lang/Math") ∈ lw_tbl := tmR1 (i := 13) rfl
theorem tm_14 : (Jvm.Cond.initialized "java/lang/Character") ∈ lw_tbl := tmR1 (i := 14) rfl
theorem tm_15 : (Jvm.Cond.initialized "java/lang/Throwable") ∈ lw_tbl := tmR1 (i := 15) rfl
theorem tm_16 : (Jvm.Cond.initialized "java/lang/Exception") ∈ lw_tbl := tmR1 (i := 16) rfl
theorem tm_17 : (Jvm.Cond.initialized "java/lang/RuntimeException") ∈ lw_tbl := tmR1 (i := 17) rfl
theorem tm_18 : (Jvm.Cond.initialized "RowCode$Ended") ∈ lw_tbl := tmR1 (i := 18) rfl
theorem tm_19 : (Jvm.Cond.initialized "java/util/NoSuchElementException") ∈ lw_tbl := tmR1 (i := 19) rfl
theorem tm_20 : (Jvm.Cond.classLink "RowCodeLaw" (8 : Nat) "RowCode") ∈ lw_tbl := tmR1 (i := 20) rfl
theorem tm_21 : (Jvm.Cond.instantiable "RowCode" (24 : Nat)) ∈ lw_tbl := tmR1 (i := 21) rfl
theorem tm_22 : (Jvm.Cond.methodLink "RowCodeLaw" (18 : Nat) ({ cls := "RowCode", name := "<init>", desc := "()V" } : Jvm.MethodName)) ∈ lw_tbl := tmR1 (i := 22) rfl
theorem tm_23 : (Jvm.Cond.instanceMethod ({ cls := "RowCode", name := "<init>", desc := "()V" } : Jvm.MethodName)) ∈ lw_tbl := tmR1 (i := 23) rfl
theorem tm_24 : (Jvm.Cond.code ({ cls := "RowCode", name := "<init>", desc := "()V" } : Jvm.MethodName) prog_1_method_4_code (1 : Nat) (Option.none : Option Jvm.ClassFile.FieldType)) ∈ lw_tbl := tmR1 (i := 24) rfl
theorem tm_25 : (Jvm.Cond.methodLink "RowCode" (7 : Nat) ({ cls := "java/lang/Object", name := "<init>", desc := "()V" } : Jvm.MethodName)) ∈ lw_tbl := tmR1 (i := 25) rfl
theorem tm_26 : (Jvm.Cond.instanceMethod ({ cls := "java/lang/Object", name := "<init>", desc := "()V" } : Jvm.MethodName)) ∈ lw_tbl := tmR1 (i := 26) rfl
theorem tm_27 : (Jvm.Cond.code ({ cls := "java/lang/Object", name := "<init>", desc := "()V" } : Jvm.MethodName) object_method_1_code (1 : Nat) (Option.none : Option Jvm.ClassFile.FieldType)) ∈ lw_tbl := tmR1 (i := 27) rfl
theorem tm_28 : (Jvm.Cond.classLink "RowCode" (20 : Nat) "RowCode$Code") ∈ lw_tbl := tmR1 (i := 28) rfl
theorem tm_29 : (Jvm.Cond.instantiable "RowCode$Code" (3 : Nat)) ∈ lw_tbl := tmR1 (i := 29) rfl
theorem tm_30 : (Jvm.Cond.methodLinkNest "RowCode" (22 : Nat) ({ cls := "RowCode$Code", name := "<init>", desc := "()V" } : Jvm.MethodName) "RowCode") ∈ lw_tbl := tmR1 (i := 30) rfl
theorem tm_31 : (Jvm.Cond.instanceMethod ({ cls := "RowCode$Code", name := "<init>", desc := "()V" } : Jvm.MethodName)) ∈ lw_tbl := tmR1 (i := 31) rfl
theorem tm_32 : (Jvm.Cond.code ({ cls := "RowCode$Code", name := "<init>", desc := "()V" } : Jvm.MethodName) prog_3_method_1_code (1 : Nat) (Option.none : Option Jvm.ClassFile.FieldType)) ∈ lw_tbl := tmR1 (i := 32) rfl
theorem tm_33 : (Jvm.Cond.methodLink "RowCode$Code" (1 : Nat) ({ cls := "java/lang/Object", name := "<init>", desc := "()V" } : Jvm.MethodName)) ∈ lw_tbl := tmR1 (i := 33) rfl
theorem tm_34 : (Jvm.Cond.fieldLink "RowCode$Code" (7 : Nat) "RowCode$Code" "code" "[I") ∈ lw_tbl := tmR1 (i := 34) rfl
theorem tm_35 : (Jvm.Cond.fieldLink "RowCode$Better" (37 : Nat) "RowCode$Code" "code" "[I") ∈ lw_tbl := tmR1 (i := 35) rfl
theorem tm_36 : (Jvm.Cond.fieldLink "RowCode$Generator" (127 : Nat) "RowCode$Code" "code" "[I") ∈ lw_tbl := tmR1 (i := 36) rfl
theorem tm_37 : (Jvm.Cond.fieldLink "RowCode$Code" (13 : Nat) "RowCode$Code" "many" "I") ∈ lw_tbl := tmR1 (i := 37) rfl
theorem tm_38 : (Jvm.Cond.fieldLink "RowCode$Better" (28 : Nat) "RowCode$Code" "many" "I") ∈ lw_tbl := tmR1 (i := 38) rfl
theorem tm_39 : (Jvm.Cond.fieldLink "RowCode$Generator" (121 : Nat) "RowCode$Code" "many" "I") ∈ lw_tbl := tmR1 (i := 39) rfl
theorem tm_40 : (Jvm.Cond.fieldLink "RowCode" (120 : Nat) "RowCode$Code" "many" "I") ∈ lw_tbl := tmR1 (i := 40) rfl
theorem tm_41 : (Jvm.Cond.fieldLink "RowCode$Better" (34 : Nat) "RowCode$Code" "labels" "I") ∈ lw_tbl := tmR1 (i := 41) rfl
theorem tm_42 : (Jvm.Cond.fieldLink "RowCode$Generator" (126 : Nat) "RowCode$Code" "labels" "I") ∈ lw_tbl := tmR1 (i := 42) rfl
theorem tm_43 : (Jvm.Cond.fieldLink "RowCode" (121 : Nat) "RowCode$Code" "labels" "I") ∈ lw_tbl := tmR1 (i := 43) rfl
theorem tm_44 : (Jvm.Cond.laysFinal "RowCode$Code" "RowCode$Code" "code" "[I") ∈ lw_tbl := tmR1 (i := 44) rfl
theorem tm_45 : (Jvm.Cond.soleField "RowCode$Code" "code") ∈ lw_tbl := tmR1 (i := 45) rfl
theorem tm_46 : (Jvm.Cond.lays "RowCode$Code" "RowCode$Code" "many" "I") ∈ lw_tbl := tmR1 (i := 46) rfl
theorem tm_47 : (Jvm.Cond.soleField "RowCode$Code" "many") ∈ lw_tbl := tmR1 (i := 47) rfl
theorem tm_48 : (Jvm.Cond.lays "RowCode$Code" "RowCode$Code" "labels" "I") ∈ lw_tbl := tmR1 (i := 48) rfl
theorem tm_49 : (Jvm.Cond.soleField "RowCode$Code" "labels") ∈ lw_tbl := tmR1 (i := 49) rfl
theorem tm_50 : (Jvm.Cond.superclass "RowCode$Code" "java/lang/Object") ∈ lw_tbl := tmR1 (i := 50) rfl
theorem tm_51 : (Jvm.Cond.arrayClass Jvm.ClassFile.FieldType.int) ∈ lw_tbl := tmR1 (i := 51) rfl
theorem tm_52 : (Jvm.Cond.classLink "RowCode" (27 : Nat) "RowCode$Better") ∈ lw_tbl := tmR1 (i := 52) rfl
theorem tm_53 : (Jvm.Cond.instantiable "RowCode$Better" (8 : Nat)) ∈ lw_tbl := tmR1 (i := 53) rfl
theorem tm_54 : (Jvm.Cond.methodLinkNest "RowCode" (29 : Nat) ({ cls := "RowCode$Better", name := "<init>", desc := "()V" } : Jvm.MethodName) "RowCode") ∈ lw_tbl := tmR1 (i := 54) rfl
theorem tm_55 : (Jvm.Cond.instanceMethod ({ cls := "RowCode$Better", name := "<init>", desc := "()V" } : Jvm.MethodName)) ∈ lw_tbl := tmR1 (i := 55) rfl
theorem tm_56 : (Jvm.Cond.code ({ cls := "RowCode$Better", name := "<init>", desc := "()V" } : Jvm.MethodName) prog_2_method_1_code (1 : Nat) (Option.none : Option Jvm.ClassFile.FieldType)) ∈ lw_tbl := tmR1 (i := 56) rfl
theorem tm_57 : (Jvm.Cond.methodLink "RowCode$Better" (3 : Nat) ({ cls := "java/lang/Object", name := "<init>", desc := "()V" } : Jvm.MethodName)) ∈ lw_tbl := tmR1 (i := 57) rfl
theorem tm_58 : (Jvm.Cond.fieldLink "RowCode$Better" (9 : Nat) "RowCode$Better" "from" "[I") ∈ lw_tbl := tmR1 (i := 58) rfl
theorem tm_59 : (Jvm.Cond.fieldLink "RowCode$Better" (15 : Nat) "RowCode$Better" "to" "[I") ∈ lw_tbl := tmR1 (i := 59) rfl
theorem tm_60 : (Jvm.Cond.fieldLink "RowCode$Better" (46 : Nat) "RowCode$Better" "n" "I") ∈ lw_tbl := tmR1 (i := 60) rfl
theorem tm_61 : (Jvm.Cond.fieldLink "RowCode$Better" (49 : Nat) "RowCode$Better" "many" "I") ∈ lw_tbl := tmR1 (i := 61) rfl
theorem tm_62 : (Jvm.Cond.fieldLink "RowCode$Better" (18 : Nat) "RowCode$Better" "live" "[Z") ∈ lw_tbl := tmR1 (i := 62) rfl
theorem tm_63 : (Jvm.Cond.fieldLink "RowCode$Better" (22 : Nat) "RowCode$Better" "where" "[I") ∈ lw_tbl := tmR1 (i := 63) rfl
theorem tm_64 : (Jvm.Cond.fieldLink "RowCode$Better" (25 : Nat) "RowCode$Better" "follow" "[I") ∈ lw_tbl := tmR1 (i := 64) rfl
theorem tm_65 : (Jvm.Cond.fieldLink "RowCode$Better" (56 : Nat) "RowCode$Better" "following" "I") ∈ lw_tbl := tmR1 (i := 65) rfl
theorem tm_66 : (Jvm.Cond.lays "RowCode$Better" "RowCode$Better" "from" "[I") ∈ lw_tbl := tmR1 (i := 66) rfl
theorem tm_67 : (Jvm.Cond.soleField "RowCode$Better" "from") ∈ lw_tbl := tmR1 (i := 67) rfl
theorem tm_68 : (Jvm.Cond.lays "RowCode$Better" "RowCode$Better" "to" "[I") ∈ lw_tbl := tmR1 (i := 68) rfl
theorem tm_69 : (Jvm.Cond.soleField "RowCode$Better" "to") ∈ lw_tbl := tmR1 (i := 69) rfl
theorem tm_70 : (Jvm.Cond.lays "RowCode$Better" "RowCode$Better" "n" "I") ∈ lw_tbl := tmR1 (i := 70) rfl
theorem tm_71 : (Jvm.Cond.soleField "RowCode$Better" "n") ∈ lw_tbl := tmR1 (i := 71) rfl
theorem tm_72 : (Jvm.Cond.lays "RowCode$Better" "RowCode$Better" "many" "I") ∈ lw_tbl := tmR1 (i := 72) rfl
theorem tm_73 : (Jvm.Cond.soleField "RowCode$Better" "many") ∈ lw_tbl := tmR1 (i := 73) rfl
theorem tm_74 : (Jvm.Cond.lays "RowCode$Better" "RowCode$Better" "live" "[Z") ∈ lw_tbl := tmR1 (i := 74) rfl
theorem tm_75 : (Jvm.Cond.soleField "RowCode$Better" "live") ∈ lw_tbl := tmR1 (i := 75) rfl
theorem tm_76 : (Jvm.Cond.lays "RowCode$Better" "RowCode$Better" "where" "[I") ∈ lw_tbl := tmR1 (i := 76) rfl
theorem tm_77 : (Jvm.Cond.soleField "RowCode$Better" "where") ∈ lw_tbl := tmR1 (i := 77) rfl
theorem tm_78 : (Jvm.Cond.lays "RowCode$Better" "RowCode$Better" "follow" "[I") ∈ lw_tbl := tmR1 (i := 78) rfl
theorem tm_79 : (Jvm.Cond.soleField "RowCode$Better" "follow") ∈ lw_tbl := tmR1 (i := 79) rfl
theorem tm_80 : (Jvm.Cond.lays "RowCode$Better" "RowCode$Better" "following" "I") ∈ lw_tbl := tmR1 (i := 80) rfl
theorem tm_81 : (Jvm.Cond.soleField "RowCode$Better" "following") ∈ lw_tbl := tmR1 (i := 81) rfl
theorem tm_82 : (Jvm.Cond.superclass "RowCode$Better" "java/lang/Object") ∈ lw_tbl := tmR1 (i := 82) rfl
theorem tm_83 : (Jvm.Cond.arrayClass Jvm.ClassFile.FieldType.boolean) ∈ lw_tbl := tmR1 (i := 83) rfl
theorem tm_84 : (Jvm.Cond.classLink "RowCode" (34 : Nat) "RowCode$Generator") ∈ lw_tbl := tmR1 (i := 84) rfl
theorem tm_85 : (Jvm.Cond.instantiable "RowCode$Generator" (16 : Nat)) ∈ lw_tbl := tmR1 (i := 85) rfl
theorem tm_86 : (Jvm.Cond.methodLinkNest "RowCode" (36 : Nat) ({ cls := "RowCode$Generator", name := "<init>", desc := "()V" } : Jvm.MethodName) "RowCode") ∈ lw_tbl := tmR1 (i := 86) rfl
theorem tm_87 : (Jvm.Cond.instanceMethod ({ cls := "RowCode$Generator", name := "<init>", desc := "()V" } : Jvm.MethodName)) ∈ lw_tbl := tmR1 (i := 87) rfl
theorem tm_88 : (Jvm.Cond.code ({ cls := "RowCode$Generator", name := "<init>", desc := "()V" } : Jvm.MethodName) prog_5_method_1_code (1 : Nat) (Option.none : Option Jvm.ClassFile.FieldType)) ∈ lw_tbl := tmR1 (i := 88) rfl
theorem tm_89 : (Jvm.Cond.methodLink "RowCode$Generator" (3 : Nat) ({ cls := "java/lang/Object", name := "<init>", desc := "()V" } : Jvm.MethodName)) ∈ lw_tbl := tmR1 (i := 89) rfl
theorem tm_90 : (Jvm.Cond.classLink "RowCode$Generator" (9 : Nat) "RowCode$Row") ∈ lw_tbl := tmR1 (i := 90) rfl
theorem tm_91 : (Jvm.Cond.instantiable "RowCode$Row" (2 : Nat)) ∈ lw_tbl := tmR1 (i := 91) rfl
theorem tm_92 : (Jvm.Cond.methodLinkNest "RowCode$Generator" (11 : Nat) ({ cls := "RowCode$Row", name := "<init>", desc := "()V" } : Jvm.MethodName) "RowCode") ∈ lw_tbl := tmR1 (i := 92) rfl
theorem tm_93 : (Jvm.Cond.instanceMethod ({ cls := "RowCode$Row", name := "<init>", desc := "()V" } : Jvm.MethodName)) ∈ lw_tbl := tmR1 (i := 93) rfl
theorem tm_94 : (Jvm.Cond.code ({ cls := "RowCode$Row", name := "<init>", desc := "()V" } : Jvm.MethodName) prog_7_method_1_code (1 : Nat) (Option.none : Option Jvm.ClassFile.FieldType)) ∈ lw_tbl := tmR1 (i := 94) rfl
theorem tm_95 : (Jvm.Cond.methodLink "RowCode$Row" (1 : Nat) ({ cls := "java/lang/Object", name := "<init>", desc := "()V" } : Jvm.MethodName)) ∈ lw_tbl := tmR1 (i := 95) rfl
theorem tm_96 : (Jvm.Cond.fieldLink "RowCode$Row" (7 : Nat) "RowCode$Row" "bytes" "[B") ∈ lw_tbl := tmR1 (i := 96) rfl
theorem tm_97 : (Jvm.Cond.fieldLink "RowCode$Loader" (35 : Nat) "RowCode$Row" "bytes" "[B") ∈ lw_tbl := tmR1 (i := 97) rfl
theorem tm_98 : (Jvm.Cond.fieldLink "RowCode$Row" (13 : Nat) "RowCode$Row" "many" "I") ∈ lw_tbl := tmR1 (i := 98) rfl
theorem tm_99 : (Jvm.Cond.fieldLink "RowCode$Loader" (48 : Nat) "RowCode$Row" "many" "I") ∈ lw_tbl := tmR1 (i := 99) rfl
theorem tm_100 : (Jvm.Cond.fieldLink "RowCode$Generator" (142 : Nat) "RowCode$Row" "many" "I") ∈ lw_tbl := tmR1 (i := 100) rfl
theorem tm_101 : (Jvm.Cond.lays "RowCode$Row" "RowCode$Row" "bytes" "[B") ∈ lw_tbl := tmR1 (i := 101) rfl
theorem tm_102 : (Jvm.Cond.soleField "RowCode$Row" "bytes") ∈ lw_tbl := tmR1 (i := 102) rfl
theorem tm_103 : (Jvm.Cond.lays "RowCode$Row" "RowCode$Row" "many" "I") ∈ lw_tbl := tmR1 (i := 103) rfl
theorem tm_104 : (Jvm.Cond.soleField "RowCode$Row" "many") ∈ lw_tbl := tmR1 (i := 104) rfl
theorem tm_105 : (Jvm.Cond.superclass "RowCode$Row" "java/lang/Object") ∈ lw_tbl := tmR1 (i := 105) rfl
theorem tm_106 : (Jvm.Cond.arrayClass Jvm.ClassFile.FieldType.byte) ∈ lw_tbl := tmR1 (i := 106) rfl
theorem tm_107 : (Jvm.Cond.fieldLink "RowCode$Generator" (12 : Nat) "RowCode$Generator" "out" "LRowCode$Row;") ∈ lw_tbl := tmR1 (i := 107) rfl
theorem tm_108 : (Jvm.Cond.fieldLink "RowCode" (139 : Nat) "RowCode$Generator" "out" "LRowCode$Row;") ∈ lw_tbl := tmR1 (i := 108) rfl
theorem tm_109 : (Jvm.Cond.fieldLink "RowCode$Generator" (18 : Nat) "RowCode$Generator" "kinds" "[I") ∈ lw_tbl := tmR1 (i := 109) rfl
theorem tm_110 : (Jvm.Cond.fieldLink "RowCode$Generator" (22 : Nat) "RowCode$Generator" "values" "[I") ∈ lw_tbl := tmR1 (i := 110) rfl
theorem tm_111 : (Jvm.Cond.fieldLink "RowCode$Generator" (44 : Nat) "RowCode$Generator" "depth" "I") ∈ lw_tbl := tmR1 (i := 111) rfl
theorem tm_112 : (Jvm.Cond.fieldLink "RowCode$Generator" (61 : Nat) "RowCode$Generator" "most" "I") ∈ lw_tbl := tmR1 (i := 112) rfl
theorem tm_113 : (Jvm.Cond.fieldLink "RowCode$Generator" (25 : Nat) "RowCode$Generator" "depths" "[I") ∈ lw_tbl := tmR1 (i := 113) rfl
theorem tm_114 : (Jvm.Cond.fieldLink "RowCode$Generator" (143 : Nat) "RowCode$Generator" "reached" "Z") ∈ lw_tbl := tmR1 (i := 114) rfl
theorem tm_115 : (Jvm.Cond.fieldLink "RowCode$Generator" (28 : Nat) "RowCode$Generator" "great" "[I") ∈ lw_tbl := tmR1 (i := 115) rfl
theorem tm_116 : (Jvm.Cond.fieldLink "RowCode$Generator" (88 : Nat) "RowCode$Generator" "greatMany" "I") ∈ lw_tbl := tmR1 (i := 116) rfl
theorem tm_117 : (Jvm.Cond.fieldLink "RowCode$Generator" (93 : Nat) "RowCode$Generator" "labels" "I") ∈ lw_tbl := tmR1 (i := 117) rfl
theorem tm_118 : (Jvm.Cond.fieldLink "RowCode$Generator" (31 : Nat) "RowCode$Generator" "ways" "[I") ∈ lw_tbl := tmR1 (i := 118) rfl
theorem tm_119 : (Jvm.Cond.fieldLink "RowCode$Generator" (34 : Nat) "RowCode$Generator" "deeps" "[I") ∈ lw_tbl := tmR1 (i := 119) rfl
theorem tm_120 : (Jvm.Cond.fieldLink "RowCode$Generator" (37 : Nat) "RowCode$Generator" "placeOf" "[I") ∈ lw_tbl := tmR1 (i := 120) rfl
theorem tm_121 : (Jvm.Cond.fieldLink "RowCode$Generator" (40 : Nat) "RowCode$Generator" "been" "[Z") ∈ lw_tbl := tmR1 (i := 121) rfl
theorem tm_122 : (Jvm.Cond.fieldLink "RowCode$Generator" (112 : Nat) "RowCode$Generator" "wayMany" "I") ∈ lw_tbl := tmR1 (i := 122) rfl
theorem tm_123 : (Jvm.Cond.fieldLink "RowCode$Generator" (189 : Nat) "RowCode$Generator" "same" "Z") ∈ lw_tbl := tmR1 (i := 123) rfl
theorem tm_124 : (Jvm.Cond.laysFinal "RowCode$Generator" "RowCode$Generator" "out" "LRowCode$Row;") ∈ lw_tbl := tmR1 (i := 124) rfl
theorem tm_125 : (Jvm.Cond.soleField "RowCode$Generator" "out") ∈ lw_tbl := tmR1 (i := 125) rfl
theorem tm_126 : (Jvm.Cond.lays "RowCode$Generator" "RowCode$Generator" "kinds" "[I") ∈ lw_tbl := tmR1 (i := 126) rfl
theorem tm_127 : (Jvm.Cond.soleField "RowCode$Generator" "kinds") ∈ lw_tbl := tmR1 (i := 127) rfl
theorem tm_128 : (Jvm.Cond.lays "RowCode$Generator" "RowCode$Generator" "values" "[I") ∈ lw_tbl := tmR1 (i := 128) rfl
theorem tm_129 : (Jvm.Cond.soleField "RowCode$Generator" "values") ∈ lw_tbl := tmR1 (i := 129) rfl
theorem tm_130 : (Jvm.Cond.lays "RowCode$Generator" "RowCode$Generator" "depth" "I") ∈ lw_tbl := tmR1 (i := 130) rfl
theorem tm_131 : (Jvm.Cond.soleField "RowCode$Generator" "depth") ∈ lw_tbl := tmR1 (i := 131) rfl
theorem tm_132 : (Jvm.Cond.lays "RowCode$Generator" "RowCode$Generator" "most" "I") ∈ lw_tbl := tmR1 (i := 132) rfl
theorem tm_133 : (Jvm.Cond.soleField "RowCode$Generator" "most") ∈ lw_tbl := tmR1 (i := 133) rfl
theorem tm_134 : (Jvm.Cond.lays "RowCode$Generator" "RowCode$Generator" "depths" "[I") ∈ lw_tbl := tmR1 (i := 134) rfl
theorem tm_135 : (Jvm.Cond.soleField "RowCode$Generator" "depths") ∈ lw_tbl := tmR1 (i := 135) rfl
theorem tm_136 : (Jvm.Cond.lays "RowCode$Generator" "RowCode$Generator" "reached" "Z") ∈ lw_tbl := tmR1 (i := 136) rfl
theorem tm_137 : (Jvm.Cond.soleField "RowCode$Generator" "reached") ∈ lw_tbl := tmR1 (i := 137) rfl
theorem tm_138 : (Jvm.Cond.lays "RowCode$Generator" "RowCode$Generator" "great" "[I") ∈ lw_tbl := tmR1 (i := 138) rfl
theorem tm_139 : (Jvm.Cond.soleField "RowCode$Generator" "great") ∈ lw_tbl := tmR1 (i := 139) rfl
theorem tm_140 : (Jvm.Cond.lays "RowCode$Generator" "RowCode$Generator" "greatMany" "I") ∈ lw_tbl := tmR1 (i := 140) rfl
theorem tm_141 : (Jvm.Cond.soleField "RowCode$Generator" "greatMany") ∈ lw_tbl := tmR1 (i := 141) rfl
theorem tm_142 : (Jvm.Cond.lays "RowCode$Generator" "RowCode$Generator" "labels" "I") ∈ lw_tbl := tmR1 (i := 142) rfl
theorem tm_143 : (Jvm.Cond.soleField "RowCode$Generator" "labels") ∈ lw_tbl := tmR1 (i := 143) rfl
theorem tm_144 : (Jvm.Cond.lays "RowCode$Generator" "RowCode$Generator" "ways" "[I") ∈ lw_tbl := tmR1 (i := 144) rfl
theorem tm_145 : (Jvm.Cond.soleField "RowCode$Generator" "ways") ∈ lw_tbl := tmR1 (i := 145) rfl
theorem tm_146 : (Jvm.Cond.lays "RowCode$Generator" "RowCode$Generator" "deeps" "[I") ∈ lw_tbl := tmR1 (i := 146) rfl
theorem tm_147 : (Jvm.Cond.soleField "RowCode$Generator" "deeps") ∈ lw_tbl := tmR1 (i := 147) rfl
theorem tm_148 : (Jvm.Cond.lays "RowCode$Generator" "RowCode$Generator" "placeOf" "[I") ∈ lw_tbl := tmR1 (i := 148) rfl
theorem tm_149 : (Jvm.Cond.soleField "RowCode$Generator" "placeOf") ∈ lw_tbl := tmR1 (i := 149) rfl
theorem tm_150 : (Jvm.Cond.lays "RowCode$Generator" "RowCode$Generator" "been" "[Z") ∈ lw_tbl := tmR1 (i := 150) rfl
theorem tm_151 : (Jvm.Cond.soleField "RowCode$Generator" "been") ∈ lw_tbl := tmR1 (i := 151) rfl
theorem tm_152 : (Jvm.Cond.lays "RowCode$Generator" "RowCode$Generator" "wayMany" "I") ∈ lw_tbl := tmR1 (i := 152) rfl
theorem tm_153 : (Jvm.Cond.soleField "RowCode$Generator" "wayMany") ∈ lw_tbl := tmR1 (i := 153) rfl
theorem tm_154 : (Jvm.Cond.lays "RowCode$Generator" "RowCode$Generator" "same" "Z") ∈ lw_tbl := tmR1 (i := 154) rfl
theorem tm_155 : (Jvm.Cond.soleField "RowCode$Generator" "same") ∈ lw_tbl := tmR1 (i := 155) rfl
theorem tm_156 : (Jvm.Cond.superclass "RowCode$Generator" "java/lang/Object") ∈ lw_tbl := tmR1 (i := 156) rfl
theorem tm_157 : (Jvm.Cond.classLink "RowCode" (41 : Nat) "RowCode$Loader") ∈ lw_tbl := tmR1 (i := 157) rfl
theorem tm_158 : (Jvm.Cond.instantiable "RowCode$Loader" (7 : Nat)) ∈ lw_tbl := tmR1 (i := 158) rfl
theorem tm_159 : (Jvm.Cond.methodLinkNest "RowCode" (43 : Nat) ({ cls := "RowCode$Loader", name := "<init>", desc := "()V" } : Jvm.MethodName) "RowCode") ∈ lw_tbl := tmR1 (i := 159) rfl
theorem tm_160 : (Jvm.Cond.instanceMethod ({ cls := "RowCode$Loader", name := "<init>", desc := "()V" } : Jvm.MethodName)) ∈ lw_tbl := tmR1 (i := 160) rfl
theorem tm_161 : (Jvm.Cond.code ({ cls := "RowCode$Loader", name := "<init>", desc := "()V" } : Jvm.MethodName) prog_6_method_1_code (1 : Nat) (Option.none : Option Jvm.ClassFile.FieldType)) ∈ lw_tbl := tmR1 (i := 161) rfl
theorem tm_162 : (Jvm.Cond.methodLink "RowCode$Loader" (3 : Nat) ({ cls := "java/lang/Object", name := "<init>", desc := "()V" } : Jvm.MethodName)) ∈ lw_tbl := tmR1 (i := 162) rfl
theorem tm_163 : (Jvm.Cond.fieldLink "RowCode$Loader" (9 : Nat) "RowCode$Loader" "words" "[I") ∈ lw_tbl := tmR1 (i := 163) rfl
theorem tm_164 : (Jvm.Cond.fieldLink "RowCode" (154 : Nat) "RowCode$Loader" "words" "[I") ∈ lw_tbl := tmR1 (i := 164) rfl
theorem tm_165 : (Jvm.Cond.fieldLink "RowCode$Loader" (21 : Nat) "RowCode$Loader" "many" "I") ∈ lw_tbl := tmR1 (i := 165) rfl
theorem tm_166 : (Jvm.Cond.fieldLink "RowCode" (134 : Nat) "RowCode$Loader" "many" "I") ∈ lw_tbl := tmR1 (i := 166) rfl
theorem tm_167 : (Jvm.Cond.fieldLink "RowCode$Loader" (15 : Nat) "RowCode$Loader" "labels" "[I") ∈ lw_tbl := tmR1 (i := 167) rfl
theorem tm_168 : (Jvm.Cond.fieldLink "RowCode$Loader" (18 : Nat) "RowCode$Loader" "waits" "[I") ∈ lw_tbl := tmR1 (i := 168) rfl
theorem tm_169 : (Jvm.Cond.fieldLink "RowCode$Loader" (44 : Nat) "RowCode$Loader" "waiting" "I") ∈ lw_tbl := tmR1 (i := 169) rfl
theorem tm_170 : (Jvm.Cond.fieldLink "RowCode$Loader" (41 : Nat) "RowCode$Loader" "at" "I") ∈ lw_tbl := tmR1 (i := 170) rfl
theorem tm_171 : (Jvm.Cond.fieldLink "RowCode$Loader" (31 : Nat) "RowCode$Loader" "text" "LRowCode$Row;") ∈ lw_tbl := tmR1 (i := 171) rfl
theorem tm_172 : (Jvm.Cond.lays "RowCode$Loader" "RowCode$Loader" "words" "[I") ∈ lw_tbl := tmR1 (i := 172) rfl
theorem tm_173 : (Jvm.Cond.soleField "RowCode$Loader" "words") ∈ lw_tbl := tmR1 (i := 173) rfl
theorem tm_174 : (Jvm.Cond.lays "RowCode$Loader" "RowCode$Loader" "many" "I") ∈ lw_tbl := tmR1 (i := 174) rfl
theorem tm_175 : (Jvm.Cond.soleField "RowCode$Loader" "many") ∈ lw_tbl := tmR1 (i := 175) rfl
theorem tm_176 : (Jvm.Cond.lays "RowCode$Loader" "RowCode$Loader" "labels" "[I") ∈ lw_tbl := tmR1 (i := 176) rfl
theorem tm_177 : (Jvm.Cond.soleField "RowCode$Loader" "labels") ∈ lw_tbl := tmR1 (i := 177) rfl
theorem tm_178 : (Jvm.Cond.lays "RowCode$Loader" "RowCode$Loader" "waits" "[I") ∈ lw_tbl := tmR1 (i := 178) rfl
theorem tm_179 : (Jvm.Cond.soleField "RowCode$Loader" "waits") ∈ lw_tbl := tmR1 (i := 179) rfl
theorem tm_180 : (Jvm.Cond.lays "RowCode$Loader" "RowCode$Loader" "waiting" "I") ∈ lw_tbl := tmR1 (i := 180) rfl
theorem tm_181 : (Jvm.Cond.soleField "RowCode$Loader" "waiting") ∈ lw_tbl := tmR1 (i := 181) rfl
theorem tm_182 : (Jvm.Cond.lays "RowCode$Loader" "RowCode$Loader" "at" "I") ∈ lw_tbl := tmR1 (i := 182) rfl
theorem tm_183 : (Jvm.Cond.soleField "RowCode$Loader" "at") ∈ lw_tbl := tmR1 (i := 183) rfl
theorem tm_184 : (Jvm.Cond.lays "RowCode$Loader" "RowCode$Loader" "text" "LRowCode$Row;") ∈ lw_tbl := tmR1 (i := 184) rfl
theorem tm_185 : (Jvm.Cond.soleField "RowCode$Loader" "text") ∈ lw_tbl := tmR1 (i := 185) rfl
theorem tm_186 : (Jvm.Cond.superclass "RowCode$Loader" "java/lang/Object") ∈ lw_tbl := tmR1 (i := 186) rfl
theorem tm_187 : (Jvm.Cond.fieldLink "RowCode" (13 : Nat) "RowCode" "numbers" "[I") ∈ lw_tbl := tmR1 (i := 187) rfl
theorem tm_188 : (Jvm.Cond.fieldLink "RowCode" (17 : Nat) "RowCode" "arguments" "[I") ∈ lw_tbl := tmR1 (i := 188) rfl
theorem tm_189 : (Jvm.Cond.fieldLink "RowCode" (75 : Nat) "RowCode" "many" "I") ∈ lw_tbl := tmR1 (i := 189) rfl
theorem tm_190 : (Jvm.Cond.fieldLink "RowCode" (79 : Nat) "RowCode" "right" "Z") ∈ lw_tbl := tmR1 (i := 190) rfl
theorem tm_191 : (Jvm.Cond.fieldLink "RowCode" (23 : Nat) "RowCode" "code" "LRowCode$Code;") ∈ lw_tbl := tmR1 (i := 191) rfl
theorem tm_192 : (Jvm.Cond.fieldLink "RowCode" (30 : Nat) "RowCode" "better" "LRowCode$Better;") ∈ lw_tbl := tmR1 (i := 192) rfl
theorem tm_193 : (Jvm.Cond.fieldLink "RowCode" (37 : Nat) "RowCode" "generator" "LRowCode$Generator;") ∈ lw_tbl := tmR1 (i := 193) rfl
theorem tm_194 : (Jvm.Cond.fieldLink "RowCode" (44 : Nat) "RowCode" "loader" "LRowCode$Loader;") ∈ lw_tbl := tmR1 (i := 194) rfl
theorem tm_195 : (Jvm.Cond.fieldLink "RowCode" (48 : Nat) "RowCode" "labelAt" "[I") ∈ lw_tbl := tmR1 (i := 195) rfl
theorem tm_196 : (Jvm.Cond.fieldLink "RowCode" (51 : Nat) "RowCode" "depths" "[I") ∈ lw_tbl := tmR1 (i := 196) rfl
theorem tm_197 : (Jvm.Cond.fieldLink "RowCode" (54 : Nat) "RowCode" "waits" "[I") ∈ lw_tbl := tmR1 (i := 197) rfl
theorem tm_198 : (Jvm.Cond.fieldLink "RowCode" (57 : Nat) "RowCode" "waitsDeep" "[I") ∈ lw_tbl := tmR1 (i := 198) rfl
theorem tm_199 : (Jvm.Cond.fieldLink "RowCode" (90 : Nat) "RowCode" "waiting" "I") ∈ lw_tbl := tmR1 (i := 199) rfl
theorem tm_200 : (Jvm.Cond.fieldLink "RowCode" (87 : Nat) "RowCode" "fails" "Z") ∈ lw_tbl := tmR1 (i := 200) rfl
theorem tm_201 : (Jvm.Cond.fieldLink "RowCode" (60 : Nat) "RowCode" "seen" "[I") ∈ lw_tbl := tmR1 (i := 201) rfl
theorem tm_202 : (Jvm.Cond.fieldLink "RowCode" (63 : Nat) "RowCode" "path" "[I") ∈ lw_tbl := tmR1 (i := 202) rfl
theorem tm_203 : (Jvm.Cond.fieldLink "RowCode" (66 : Nat) "RowCode" "next" "[I") ∈ lw_tbl := tmR1 (i := 203) rfl
theorem tm_204 : (Jvm.Cond.fieldLink "RowCode" (69 : Nat) "RowCode" "store" "[I") ∈ lw_tbl := tmR1 (i := 204) rfl
theorem tm_205 : (Jvm.Cond.fieldLink "RowCode" (163 : Nat) "RowCode" "a" "I") ∈ lw_tbl := tmR1 (i := 205) rfl
theorem tm_206 : (Jvm.Cond.fieldLink "RowCode" (166 : Nat) "RowCode" "b" "I") ∈ lw_tbl := tmR1 (i := 206) rfl
theorem tm_207 : (Jvm.Cond.fieldLink "RowCode" (157 : Nat) "RowCode" "c" "I") ∈ lw_tbl := tmR1 (i := 207) rfl
theorem tm_208 : (Jvm.Cond.fieldLink "RowCode" (181 : Nat) "RowCode" "left" "I") ∈ lw_tbl := tmR1 (i := 208) rfl
theorem tm_209 : (Jvm.Cond.fieldLink "RowCode" (198 : Nat) "RowCode" "told" "I") ∈ lw_tbl := tmR1 (i := 209) rfl
theorem tm_210 : (Jvm.Cond.fieldLink "RowCode" (72 : Nat) "RowCode" "row" "[I") ∈ lw_tbl := tmR1 (i := 210) rfl
theorem tm_211 : (Jvm.Cond.laysFinal "RowCode" "RowCode" "numbers" "[I") ∈ lw_tbl := tmR1 (i := 211) rfl
theorem tm_212 : (Jvm.Cond.soleField "RowCode" "numbers") ∈ lw_tbl := tmR1 (i := 212) rfl
theorem tm_213 : (Jvm.Cond.laysFinal "RowCode" "RowCode" "arguments" "[I") ∈ lw_tbl := tmR1 (i := 213) rfl
theorem tm_214 : (Jvm.Cond.soleField "RowCode" "arguments") ∈ lw_tbl := tmR1 (i := 214) rfl
theorem tm_215 : (Jvm.Cond.lays "RowCode" "RowCode" "many" "I") ∈ lw_tbl := tmR1 (i := 215) rfl
theorem tm_216 : (Jvm.Cond.soleField "RowCode" "many") ∈ lw_tbl := tmR1 (i := 216) rfl
theorem tm_217 : (Jvm.Cond.lays "RowCode" "RowCode" "right" "Z") ∈ lw_tbl := tmR1 (i := 217) rfl
theorem tm_218 : (Jvm.Cond.soleField "RowCode" "right") ∈ lw_tbl := tmR1 (i := 218) rfl
theorem tm_219 : (Jvm.Cond.laysFinal "RowCode" "RowCode" "code" "LRowCode$Code;") ∈ lw_tbl := tmR1 (i := 219) rfl
theorem tm_220 : (Jvm.Cond.soleField "RowCode" "code") ∈ lw_tbl := tmR1 (i := 220) rfl
theorem tm_221 : (Jvm.Cond.laysFinal "RowCode" "RowCode" "better" "LRowCode$Better;") ∈ lw_tbl := tmR1 (i := 221) rfl
theorem tm_222 : (Jvm.Cond.soleField "RowCode" "better") ∈ lw_tbl := tmR1 (i := 222) rfl
theorem tm_223 : (Jvm.Cond.laysFinal "RowCode" "RowCode" "generator" "LRowCode$Generator;") ∈ lw_tbl := tmR1 (i := 223) rfl
theorem tm_224 : (Jvm.Cond.soleField "RowCode" "generator") ∈ lw_tbl := tmR1 (i := 224) rfl
theorem tm_225 : (Jvm.Cond.laysFinal "RowCode" "RowCode" "loader" "LRowCode$Loader;") ∈ lw_tbl := tmR1 (i := 225) rfl
theorem tm_226 : (Jvm.Cond.soleField "RowCode" "loader") ∈ lw_tbl := tmR1 (i := 226) rfl
theorem tm_227 : (Jvm.Cond.laysFinal "RowCode" "RowCode" "labelAt" "[I") ∈ lw_tbl := tmR1 (i := 227) rfl
theorem tm_228 : (Jvm.Cond.soleField "RowCode" "labelAt") ∈ lw_tbl := tmR1 (i := 228) rfl
theorem tm_229 : (Jvm.Cond.laysFinal "RowCode" "RowCode" "depths" "[I") ∈ lw_tbl := tmR1 (i := 229) rfl
theorem tm_230 : (Jvm.Cond.soleField "RowCode" "depths") ∈ lw_tbl := tmR1 (i := 230) rfl
theorem tm_231 : (Jvm.Cond.laysFinal "RowCode" "RowCode" "waits" "[I") ∈ lw_tbl := tmR1 (i := 231) rfl
theorem tm_232 : (Jvm.Cond.soleField "RowCode" "waits") ∈ lw_tbl := tmR1 (i := 232) rfl
theorem tm_233 : (Jvm.Cond.laysFinal "RowCode" "RowCode" "waitsDeep" "[I") ∈ lw_tbl := tmR1 (i := 233) rfl
theorem tm_234 : (Jvm.Cond.soleField "RowCode" "waitsDeep") ∈ lw_tbl := tmR1 (i := 234) rfl
theorem tm_235 : (Jvm.Cond.lays "RowCode" "RowCode" "waiting" "I") ∈ lw_tbl := tmR1 (i := 235) rfl
theorem tm_236 : (Jvm.Cond.soleField "RowCode" "waiting") ∈ lw_tbl := tmR1 (i := 236) rfl
theorem tm_237 : (Jvm.Cond.lays "RowCode" "RowCode" "fails" "Z") ∈ lw_tbl := tmR1 (i := 237) rfl
theorem tm_238 : (Jvm.Cond.soleField "RowCode" "fails") ∈ lw_tbl := tmR1 (i := 238) rfl
theorem tm_239 : (Jvm.Cond.laysFinal "RowCode" "RowCode" "seen" "[I") ∈ lw_tbl := tmR1 (i := 239) rfl
theorem tm_240 : (Jvm.Cond.soleField "RowCode" "seen") ∈ lw_tbl := tmR2 (i := 0) rfl
theorem tm_241 : (Jvm.Cond.laysFinal "RowCode" "RowCode" "path" "[I") ∈ lw_tbl := tmR2 (i := 1) rfl
theorem tm_242 : (Jvm.Cond.soleField "RowCode" "path") ∈ lw_tbl := tmR2 (i := 2) rfl
theorem tm_243 : (Jvm.Cond.laysFinal "RowCode" "RowCode" "next" "[I") ∈ lw_tbl := tmR2 (i := 3) rfl
theorem tm_244 : (Jvm.Cond.soleField "RowCode" "next") ∈ lw_tbl := tmR2 (i := 4) rfl
theorem tm_245 : (Jvm.Cond.laysFinal "RowCode" "RowCode" "store" "[I") ∈ lw_tbl := tmR2 (i := 5) rfl
theorem tm_246 : (Jvm.Cond.soleField "RowCode" "store") ∈ lw_tbl := tmR2 (i := 6) rfl
theorem tm_247 : (Jvm.Cond.lays "RowCode" "RowCode" "a" "I") ∈ lw_tbl := tmR2 (i := 7) rfl
theorem tm_248 : (Jvm.Cond.soleField "RowCode" "a") ∈ lw_tbl := tmR2 (i := 8) rfl
theorem tm_249 : (Jvm.Cond.lays "RowCode" "RowCode" "b" "I") ∈ lw_tbl := tmR2 (i := 9) rfl
theorem tm_250 : (Jvm.Cond.soleField "RowCode" "b") ∈ lw_tbl := tmR2 (i := 10) rfl
theorem tm_251 : (Jvm.Cond.lays "RowCode" "RowCode" "c" "I") ∈ lw_tbl := tmR2 (i := 11) rfl
theorem tm_252 : (Jvm.Cond.soleField "RowCode" "c") ∈ lw_tbl := tmR2 (i := 12) rfl
theorem tm_253 : (Jvm.Cond.lays "RowCode" "RowCode" "left" "I") ∈ lw_tbl := tmR2 (i := 13) rfl
theorem tm_254 : (Jvm.Cond.soleField "RowCode" "left") ∈ lw_tbl := tmR2 (i := 14) rfl
theorem tm_255 : (Jvm.Cond.lays "RowCode" "RowCode" "told" "I") ∈ lw_tbl := tmR2 (i := 15) rfl
theorem tm_256 : (Jvm.Cond.soleField "RowCode" "told") ∈ lw_tbl := tmR2 (i := 16) rfl
theorem tm_257 : (Jvm.Cond.lays "RowCode" "RowCode" "row" "[I") ∈ lw_tbl := tmR2 (i := 17) rfl
theorem tm_258 : (Jvm.Cond.soleField "RowCode" "row") ∈ lw_tbl := tmR2 (i := 18) rfl
theorem tm_259 : (Jvm.Cond.superclass "RowCode" "java/lang/Object") ∈ lw_tbl := tmR2 (i := 19) rfl
theorem tm_260 : (Jvm.Cond.methodLink "RowCodeLaw" (22 : Nat) ({ cls := "RowCode", name := "add", desc := "(II)I" } : Jvm.MethodName)) ∈ lw_tbl := tmR2 (i := 20) rfl
theorem tm_261 : (Jvm.Cond.instanceMethod ({ cls := "RowCode", name := "add", desc := "(II)I" } : Jvm.MethodName)) ∈ lw_tbl := tmR2 (i := 21) rfl
theorem tm_262 : (Jvm.Cond.selects "RowCode" ({ cls := "RowCode", name := "add", desc := "(II)I" } : Jvm.MethodName) ({ cls := "RowCode", name := "add", desc := "(II)I" } : Jvm.MethodName)) ∈ lw_tbl := tmR2 (i := 22) rfl
theorem tm_263 : (Jvm.Cond.code ({ cls := "RowCode", name := "add", desc := "(II)I" } : Jvm.MethodName) prog_1_method_5_code (3 : Nat) (Option.some Jvm.ClassFile.FieldType.int)) ∈ lw_tbl := tmR2 (i := 23) rfl
theorem tm_264 : (Jvm.Cond.methodLink "RowCodeLaw" (27 : Nat) ({ cls := "RowCode", name := "clear", desc := "()V" } : Jvm.MethodName)) ∈ lw_tbl := tmR2 (i := 24) rfl
theorem tm_265 : (Jvm.Cond.instanceMethod ({ cls := "RowCode", name := "clear", desc := "()V" } : Jvm.MethodName)) ∈ lw_tbl := tmR2 (i := 25) rfl
theorem tm_266 : (Jvm.Cond.selects "RowCode" ({ cls := "RowCode", name := "clear", desc := "()V" } : Jvm.MethodName) ({ cls := "RowCode", name := "clear", desc := "()V" } : Jvm.MethodName)) ∈ lw_tbl := tmR2 (i := 26) rfl
theorem tm_267 : (Jvm.Cond.code ({ cls := "RowCode", name := "clear", desc := "()V" } : Jvm.MethodName) prog_1_method_6_code (1 : Nat) (Option.none : Option Jvm.ClassFile.FieldType)) ∈ lw_tbl := tmR2 (i := 27) rfl
theorem tm_268 : (Jvm.Cond.methodLink "RowCodeLaw" (31 : Nat) ({ cls := "RowCode", name := "build", desc := "()Z" } : Jvm.MethodName)) ∈ lw_tbl := tmR2 (i := 28) rfl
theorem tm_269 : (Jvm.Cond.instanceMethod ({ cls := "RowCode", name := "build", desc := "()Z" } : Jvm.MethodName)) ∈ lw_tbl := tmR2 (i := 29) rfl
theorem tm_270 : (Jvm.Cond.selects "RowCode" ({ cls := "RowCode", name := "build", desc := "()Z" } : Jvm.MethodName) ({ cls := "RowCode", name := "build", desc := "()Z" } : Jvm.MethodName)) ∈ lw_tbl := tmR2 (i := 30) rfl
theorem tm_271 : (Jvm.Cond.code ({ cls := "RowCode", name := "build", desc := "()Z" } : Jvm.MethodName) prog_1_method_14_code (2 : Nat) (Option.some Jvm.ClassFile.FieldType.boolean)) ∈ lw_tbl := tmR2 (i := 31) rfl
theorem tm_272 : (Jvm.Cond.methodLink "RowCode" (110 : Nat) ({ cls := "RowCode", name := "areLabels", desc := "()Z" } : Jvm.MethodName)) ∈ lw_tbl := tmR2 (i := 32) rfl
theorem tm_273 : (Jvm.Cond.privateMethod ({ cls := "RowCode", name := "areLabels", desc := "()Z" } : Jvm.MethodName)) ∈ lw_tbl := tmR2 (i := 33) rfl
theorem tm_274 : (Jvm.Cond.instanceMethod ({ cls := "RowCode", name := "areLabels", desc := "()Z" } : Jvm.MethodName)) ∈ lw_tbl := tmR2 (i := 34) rfl
theorem tm_275 : (Jvm.Cond.code ({ cls := "RowCode", name := "areLabels", desc := "()Z" } : Jvm.MethodName) prog_1_method_8_code (2 : Nat) (Option.some Jvm.ClassFile.FieldType.boolean)) ∈ lw_tbl := tmR2 (i := 35) rfl
theorem tm_276 : (Jvm.Cond.methodLink "RowCode" (83 : Nat) ({ cls := "RowCode", name := "isInstruction", desc := "(I)Z" } : Jvm.MethodName)) ∈ lw_tbl := tmR2 (i := 36) rfl
theorem tm_277 : (Jvm.Cond.privateMethod ({ cls := "RowCode", name := "isInstruction", desc := "(I)Z" } : Jvm.MethodName)) ∈ lw_tbl := tmR2 (i := 37) rfl
theorem tm_278 : (Jvm.Cond.instanceMethod ({ cls := "RowCode", name := "isInstruction", desc := "(I)Z" } : Jvm.MethodName)) ∈ lw_tbl := tmR2 (i := 38) rfl
theorem tm_279 : (Jvm.Cond.code ({ cls := "RowCode", name := "isInstruction", desc := "(I)Z" } : Jvm.MethodName) prog_1_method_7_code (4 : Nat) (Option.some Jvm.ClassFile.FieldType.boolean)) ∈ lw_tbl := tmR2 (i := 39) rfl
theorem tm_280 : (Jvm.Cond.methodLink "RowCode" (114 : Nat) ({ cls := "RowCode", name := "areWays", desc := "()Z" } : Jvm.MethodName)) ∈ lw_tbl := tmR2 (i := 40) rfl
theorem tm_281 : (Jvm.Cond.privateMethod ({ cls := "RowCode", name := "areWays", desc := "()Z" } : Jvm.MethodName)) ∈ lw_tbl := tmR2 (i := 41) rfl
theorem tm_282 : (Jvm.Cond.instanceMethod ({ cls := "RowCode", name := "areWays", desc := "()Z" } : Jvm.MethodName)) ∈ lw_tbl := tmR2 (i := 42) rfl
theorem tm_283 : (Jvm.Cond.code ({ cls := "RowCode", name := "areWays", desc := "()Z" } : Jvm.MethodName) prog_1_method_10_code (5 : Nat) (Option.some Jvm.ClassFile.FieldType.boolean)) ∈ lw_tbl := tmR2 (i := 43) rfl
theorem tm_284 : (Jvm.Cond.methodLink "RowCode" (93 : Nat) ({ cls := "RowCode", name := "comes", desc := "(II)V" } : Jvm.MethodName)) ∈ lw_tbl := tmR2 (i := 44) rfl
theorem tm_285 : (Jvm.Cond.privateMethod ({ cls := "RowCode", name := "comes", desc := "(II)V" } : Jvm.MethodName)) ∈ lw_tbl := tmR2 (i := 45) rfl
theorem tm_286 : (Jvm.Cond.instanceMethod ({ cls := "RowCode", name := "comes", desc := "(II)V" } : Jvm.MethodName)) ∈ lw_tbl := tmR2 (i := 46) rfl
theorem tm_287 : (Jvm.Cond.code ({ cls := "RowCode", name := "comes", desc := "(II)V" } : Jvm.MethodName) prog_1_method_9_code (3 : Nat) (Option.none : Option Jvm.ClassFile.FieldType)) ∈ lw_tbl := tmR2 (i := 47) rfl
theorem tm_288 : (Jvm.Cond.fieldLink "RowCode" (97 : Nat) "RowCode" "TAKES" "[I") ∈ lw_tbl := tmR2 (i := 48) rfl
theorem tm_289 : (Jvm.Cond.laysStatic "RowCode" "TAKES" "[I") ∈ lw_tbl := tmR2 (i := 49) rfl
theorem tm_290 : (Jvm.Cond.fieldLink "RowCode" (100 : Nat) "RowCode" "GROWS" "[I") ∈ lw_tbl := tmR2 (i := 50) rfl
theorem tm_291 : (Jvm.Cond.laysStatic "RowCode" "GROWS" "[I") ∈ lw_tbl := tmR2 (i := 51) rfl
theorem tm_292 : (Jvm.Cond.methodLink "RowCode" (117 : Nat) ({ cls := "RowCode", name := "areRounds", desc := "()Z" } : Jvm.MethodName)) ∈ lw_tbl := tmR2 (i := 52) rfl
theorem tm_293 : (Jvm.Cond.privateMethod ({ cls := "RowCode", name := "areRounds", desc := "()Z" } : Jvm.MethodName)) ∈ lw_tbl := tmR2 (i := 53) rfl
theorem tm_294 : (Jvm.Cond.instanceMethod ({ cls := "RowCode", name := "areRounds", desc := "()Z" } : Jvm.MethodName)) ∈ lw_tbl := tmR2 (i := 54) rfl
theorem tm_295 : (Jvm.Cond.code ({ cls := "RowCode", name := "areRounds", desc := "()Z" } : Jvm.MethodName) prog_1_method_12_code (2 : Nat) (Option.some Jvm.ClassFile.FieldType.boolean)) ∈ lw_tbl := tmR2 (i := 55) rfl
theorem tm_296 : (Jvm.Cond.methodLink "RowCode" (103 : Nat) ({ cls := "RowCode", name := "isClear", desc := "(I)Z" } : Jvm.MethodName)) ∈ lw_tbl := tmR2 (i := 56) rfl
theorem tm_297 : (Jvm.Cond.privateMethod ({ cls := "RowCode", name := "isClear", desc := "(I)Z" } : Jvm.MethodName)) ∈ lw_tbl := tmR2 (i := 57) rfl
theorem tm_298 : (Jvm.Cond.instanceMethod ({ cls := "RowCode", name := "isClear", desc := "(I)Z" } : Jvm.MethodName)) ∈ lw_tbl := tmR2 (i := 58) rfl
theorem tm_299 : (Jvm.Cond.code ({ cls := "RowCode", name := "isClear", desc := "(I)Z" } : Jvm.MethodName) prog_1_method_13_code (5 : Nat) (Option.some Jvm.ClassFile.FieldType.boolean)) ∈ lw_tbl := tmR2 (i := 59) rfl
theorem tm_300 : (Jvm.Cond.methodLink "RowCode" (106 : Nat) ({ cls := "RowCode", name := "follows", desc := "(II)I" } : Jvm.MethodName)) ∈ lw_tbl := tmR2 (i := 60) rfl
theorem tm_301 : (Jvm.Cond.privateMethod ({ cls := "RowCode", name := "follows", desc := "(II)I" } : Jvm.MethodName)) ∈ lw_tbl := tmR2 (i := 61) rfl
theorem tm_302 : (Jvm.Cond.instanceMethod ({ cls := "RowCode", name := "follows", desc := "(II)I" } : Jvm.MethodName)) ∈ lw_tbl := tmR2 (i := 62) rfl
theorem tm_303 : (Jvm.Cond.code ({ cls := "RowCode", name := "follows", desc := "(II)I" } : Jvm.MethodName) prog_1_method_11_code (4 : Nat) (Option.some Jvm.ClassFile.FieldType.int)) ∈ lw_tbl := tmR2 (i := 63) rfl
theorem tm_304 : (Jvm.Cond.fieldLink "RowCode" (124 : Nat) "RowCode" "OPS" "[I") ∈ lw_tbl := tmR2 (i := 64) rfl
theorem tm_305 : (Jvm.Cond.laysStatic "RowCode" "OPS" "[I") ∈ lw_tbl := tmR2 (i := 65) rfl
theorem tm_306 : (Jvm.Cond.methodLink "RowCode" (127 : Nat) ({ cls := "RowCode$Code", name := "emit", desc := "(II)V" } : Jvm.MethodName)) ∈ lw_tbl := tmR2 (i := 66) rfl
theorem tm_307 : (Jvm.Cond.instanceMethod ({ cls := "RowCode$Code", name := "emit", desc := "(II)V" } : Jvm.MethodName)) ∈ lw_tbl := tmR2 (i := 67) rfl
theorem tm_308 : (Jvm.Cond.selects "RowCode$Code" ({ cls := "RowCode$Code", name := "emit", desc := "(II)V" } : Jvm.MethodName) ({ cls := "RowCode$Code", name := "emit", desc := "(II)V" } : Jvm.MethodName)) ∈ lw_tbl := tmR2 (i := 68) rfl
theorem tm_309 : (Jvm.Cond.code ({ cls := "RowCode$Code", name := "emit", desc := "(II)V" } : Jvm.MethodName) prog_3_method_2_code (3 : Nat) (Option.none : Option Jvm.ClassFile.FieldType)) ∈ lw_tbl := tmR2 (i := 69) rfl
theorem tm_310 : (Jvm.Cond.methodLink "RowCode" (130 : Nat) ({ cls := "RowCode$Better", name := "all", desc := "(LRowCode$Code;)V" } : Jvm.MethodName)) ∈ lw_tbl := tmR2 (i := 70) rfl
theorem tm_311 : (Jvm.Cond.instanceMethod ({ cls := "RowCode$Better", name := "all", desc := "(LRowCode$Code;)V" } : Jvm.MethodName)) ∈ lw_tbl := tmR2 (i := 71) rfl
theorem tm_312 : (Jvm.Cond.selects "RowCode$Better" ({ cls := "RowCode$Better", name := "all", desc := "(LRowCode$Code;)V" } : Jvm.MethodName) ({ cls := "RowCode$Better", name := "all", desc := "(LRowCode$Code;)V" } : Jvm.MethodName)) ∈ lw_tbl := tmR2 (i := 72) rfl
theorem tm_313 : (Jvm.Cond.code ({ cls := "RowCode$Better", name := "all", desc := "(LRowCode$Code;)V" } : Jvm.MethodName) prog_2_method_2_code (4 : Nat) (Option.none : Option Jvm.ClassFile.FieldType)) ∈ lw_tbl := tmR2 (i := 73) rfl
theorem tm_314 : (Jvm.Cond.methodLink "RowCode$Better" (40 : Nat) ({ cls := "java/lang/System", name := "arraycopy", desc := "(Ljava/lang/Object;ILjava/lang/Object;II)V" } : Jvm.MethodName)) ∈ lw_tbl := tmR2 (i := 74) rfl
theorem tm_315 : (Jvm.Cond.static ({ cls := "java/lang/System", name := "arraycopy", desc := "(Ljava/lang/Object;ILjava/lang/Object;II)V" } : Jvm.MethodName)) ∈ lw_tbl := tmR2 (i := 75) rfl
theorem tm_316 : (Jvm.Cond.native ({ cls := "java/lang/System", name := "arraycopy", desc := "(Ljava/lang/Object;ILjava/lang/Object;II)V" } : Jvm.MethodName)) ∈ lw_tbl := tmR2 (i := 76) rfl
theorem tm_317 : (Jvm.Cond.methodLink "RowCode$Better" (50 : Nat) ({ cls := "RowCode$Better", name := "mark", desc := "()V" } : Jvm.MethodName)) ∈ lw_tbl := tmR2 (i := 77) rfl
theorem tm_318 : (Jvm.Cond.privateMethod ({ cls := "RowCode$Better", name := "mark", desc := "()V" } : Jvm.MethodName)) ∈ lw_tbl := tmR2 (i := 78) rfl
theorem tm_319 : (Jvm.Cond.instanceMethod ({ cls := "RowCode$Better", name := "mark", desc := "()V" } : Jvm.MethodName)) ∈ lw_tbl := tmR2 (i := 79) rfl
theorem tm_320 : (Jvm.Cond.code ({ cls := "RowCode$Better", name := "mark", desc := "()V" } : Jvm.MethodName) prog_2_method_5_code (2 : Nat) (Option.none : Option Jvm.ClassFile.FieldType)) ∈ lw_tbl := tmR2 (i := 80) rfl
theorem tm_321 : (Jvm.Cond.methodLink "RowCode$Better" (59 : Nat) ({ cls := "RowCode$Better", name := "walk", desc := "(I)V" } : Jvm.MethodName)) ∈ lw_tbl := tmR2 (i := 81) rfl
theorem tm_322 : (Jvm.Cond.privateMethod ({ cls := "RowCode$Better", name := "walk", desc := "(I)V" } : Jvm.MethodName)) ∈ lw_tbl := tmR2 (i := 82) rfl
theorem tm_323 : (Jvm.Cond.instanceMethod ({ cls := "RowCode$Better", name := "walk", desc := "(I)V" } : Jvm.MethodName)) ∈ lw_tbl := tmR2 (i := 83) rfl
theorem tm_324 : (Jvm.Cond.code ({ cls := "RowCode$Better", name := "walk", desc := "(I)V" } : Jvm.MethodName) prog_2_method_6_code (4 : Nat) (Option.none : Option Jvm.ClassFile.FieldType)) ∈ lw_tbl := tmR2 (i := 84) rfl
theorem tm_325 : (Jvm.Cond.methodLink "RowCode$Better" (53 : Nat) ({ cls := "RowCode$Better", name := "pass", desc := "()V" } : Jvm.MethodName)) ∈ lw_tbl := tmR2 (i := 85) rfl
theorem tm_326 : (Jvm.Cond.privateMethod ({ cls := "RowCode$Better", name := "pass", desc := "()V" } : Jvm.MethodName)) ∈ lw_tbl := tmR2 (i := 86) rfl
theorem tm_327 : (Jvm.Cond.instanceMethod ({ cls := "RowCode$Better", name := "pass", desc := "()V" } : Jvm.MethodName)) ∈ lw_tbl := tmR2 (i := 87) rfl
theorem tm_328 : (Jvm.Cond.code ({ cls := "RowCode$Better", name := "pass", desc := "()V" } : Jvm.MethodName) prog_2_method_7_code (4 : Nat) (Option.none : Option Jvm.ClassFile.FieldType)) ∈ lw_tbl := tmR2 (i := 88) rfl
theorem tm_329 : (Jvm.Cond.methodLink "RowCode$Better" (63 : Nat) ({ cls := "RowCode$Better", name := "folded", desc := "(II)Z" } : Jvm.MethodName)) ∈ lw_tbl := tmR2 (i := 89) rfl
theorem tm_330 : (Jvm.Cond.privateMethod ({ cls := "RowCode$Better", name := "folded", desc := "(II)Z" } : Jvm.MethodName)) ∈ lw_tbl := tmR2 (i := 90) rfl
theorem tm_331 : (Jvm.Cond.instanceMethod ({ cls := "RowCode$Better", name := "folded", desc := "(II)Z" } : Jvm.MethodName)) ∈ lw_tbl := tmR2 (i := 91) rfl
theorem tm_332 : (Jvm.Cond.code ({ cls := "RowCode$Better", name := "folded", desc := "(II)Z" } : Jvm.MethodName) prog_2_method_8_code (5 : Nat) (Option.some Jvm.ClassFile.FieldType.boolean)) ∈ lw_tbl := tmR2 (i := 92) rfl
theorem tm_333 : (Jvm.Cond.methodLink "RowCode$Better" (75 : Nat) ({ cls := "RowCode$Better", name := "isConstant", desc := "(I)Z" } : Jvm.MethodName)) ∈ lw_tbl := tmR2 (i := 93) rfl
theorem tm_334 : (Jvm.Cond.privateMethod ({ cls := "RowCode$Better", name := "isConstant", desc := "(I)Z" } : Jvm.MethodName)) ∈ lw_tbl := tmR2 (i := 94) rfl
theorem tm_335 : (Jvm.Cond.instanceMethod ({ cls := "RowCode$Better", name := "isConstant", desc := "(I)Z" } : Jvm.MethodName)) ∈ lw_tbl := tmR2 (i := 95) rfl
theorem tm_336 : (Jvm.Cond.code ({ cls := "RowCode$Better", name := "isConstant", desc := "(I)Z" } : Jvm.MethodName) prog_2_method_4_code (2 : Nat) (Option.some Jvm.ClassFile.FieldType.boolean)) ∈ lw_tbl := tmR2 (i := 96) rfl
theorem tm_337 : (Jvm.Cond.methodLinkNest "RowCode$Better" (79 : Nat) ({ cls := "RowCode", name := "operated", desc := "(III)I" } : Jvm.MethodName) "RowCode") ∈ lw_tbl := tmR2 (i := 97) rfl
theorem tm_338 : (Jvm.Cond.static ({ cls := "RowCode", name := "operated", desc := "(III)I" } : Jvm.MethodName)) ∈ lw_tbl := tmR2 (i := 98) rfl
theorem tm_339 : (Jvm.Cond.code ({ cls := "RowCode", name := "operated", desc := "(III)I" } : Jvm.MethodName) prog_1_method_2_code (3 : Nat) (Option.some Jvm.ClassFile.FieldType.int)) ∈ lw_tbl := tmR2 (i := 99) rfl
theorem tm_340 : (Jvm.Cond.methodLink "RowCode" (1 : Nat) ({ cls := "RowCode", name := "shifted", desc := "(IIZ)I" } : Jvm.MethodName)) ∈ lw_tbl := tmR2 (i := 100) rfl
theorem tm_341 : (Jvm.Cond.static ({ cls := "RowCode", name := "shifted", desc := "(IIZ)I" } : Jvm.MethodName)) ∈ lw_tbl := tmR2 (i := 101) rfl
theorem tm_342 : (Jvm.Cond.code ({ cls := "RowCode", name := "shifted", desc := "(IIZ)I" } : Jvm.MethodName) prog_1_method_1_code (3 : Nat) (Option.some Jvm.ClassFile.FieldType.int)) ∈ lw_tbl := tmR2 (i := 102) rfl
theorem tm_343 : (Jvm.Cond.methodLinkNest "RowCode$Better" (83 : Nat) ({ cls := "RowCode", name := "holds", desc := "(III)Z" } : Jvm.MethodName) "RowCode") ∈ lw_tbl := tmR2 (i := 103) rfl
theorem tm_344 : (Jvm.Cond.static ({ cls := "RowCode", name := "holds", desc := "(III)Z" } : Jvm.MethodName)) ∈ lw_tbl := tmR2 (i := 104) rfl
theorem tm_345 : (Jvm.Cond.code ({ cls := "RowCode", name := "holds", desc := "(III)Z" } : Jvm.MethodName) prog_1_method_3_code (3 : Nat) (Option.some Jvm.ClassFile.FieldType.boolean)) ∈ lw_tbl := tmR2 (i := 105) rfl
theorem tm_346 : (Jvm.Cond.methodLink "RowCode$Better" (71 : Nat) ({ cls := "RowCode$Better", name := "keep", desc := "(II)V" } : Jvm.MethodName)) ∈ lw_tbl := tmR2 (i := 106) rfl
theorem tm_347 : (Jvm.Cond.privateMethod ({ cls := "RowCode$Better", name := "keep", desc := "(II)V" } : Jvm.MethodName)) ∈ lw_tbl := tmR2 (i := 107) rfl
theorem tm_348 : (Jvm.Cond.instanceMethod ({ cls := "RowCode$Better", name := "keep", desc := "(II)V" } : Jvm.MethodName)) ∈ lw_tbl := tmR2 (i := 108) rfl
theorem tm_349 : (Jvm.Cond.code ({ cls := "RowCode$Better", name := "keep", desc := "(II)V" } : Jvm.MethodName) prog_2_method_3_code (3 : Nat) (Option.none : Option Jvm.ClassFile.FieldType)) ∈ lw_tbl := tmR2 (i := 109) rfl
theorem tm_350 : (Jvm.Cond.methodLink "RowCode$Better" (67 : Nat) ({ cls := "RowCode$Better", name := "next", desc := "(III)Z" } : Jvm.MethodName)) ∈ lw_tbl := tmR2 (i := 110) rfl
theorem tm_351 : (Jvm.Cond.privateMethod ({ cls := "RowCode$Better", name := "next", desc := "(III)Z" } : Jvm.MethodName)) ∈ lw_tbl := tmR2 (i := 111) rfl
theorem tm_352 : (Jvm.Cond.instanceMethod ({ cls := "RowCode$Better", name := "next", desc := "(III)Z" } : Jvm.MethodName)) ∈ lw_tbl := tmR2 (i := 112) rfl
theorem tm_353 : (Jvm.Cond.code ({ cls := "RowCode$Better", name := "next", desc := "(III)Z" } : Jvm.MethodName) prog_2_method_9_code (5 : Nat) (Option.some Jvm.ClassFile.FieldType.boolean)) ∈ lw_tbl := tmR2 (i := 113) rfl
theorem tm_354 : (Jvm.Cond.methodLink "RowCode" (135 : Nat) ({ cls := "RowCode$Generator", name := "make", desc := "(LRowCode$Code;)I" } : Jvm.MethodName)) ∈ lw_tbl := tmR2 (i := 114) rfl
theorem tm_355 : (Jvm.Cond.instanceMethod ({ cls := "RowCode$Generator", name := "make", desc := "(LRowCode$Code;)I" } : Jvm.MethodName)) ∈ lw_tbl := tmR2 (i := 115) rfl
theorem tm_356 : (Jvm.Cond.selects "RowCode$Generator" ({ cls := "RowCode$Generator", name := "make", desc := "(LRowCode$Code;)I" } : Jvm.MethodName) ({ cls := "RowCode$Generator", name := "make", desc := "(LRowCode$Code;)I" } : Jvm.MethodName)) ∈ lw_tbl := tmR2 (i := 116) rfl
theorem tm_357 : (Jvm.Cond.code ({ cls := "RowCode$Generator", name := "make", desc := "(LRowCode$Code;)I" } : Jvm.MethodName) prog_5_method_15_code (3 : Nat) (Option.some Jvm.ClassFile.FieldType.int)) ∈ lw_tbl := tmR2 (i := 117) rfl
theorem tm_358 : (Jvm.Cond.methodLink "RowCode$Generator" (147 : Nat) ({ cls := "RowCode$Generator", name := "reckon", desc := "(LRowCode$Code;)V" } : Jvm.MethodName)) ∈ lw_tbl := tmR2 (i := 118) rfl
theorem tm_359 : (Jvm.Cond.privateMethod ({ cls := "RowCode$Generator", name := "reckon", desc := "(LRowCode$Code;)V" } : Jvm.MethodName)) ∈ lw_tbl := tmR2 (i := 119) rfl
theorem tm_360 : (Jvm.Cond.instanceMethod ({ cls := "RowCode$Generator", name := "reckon", desc := "(LRowCode$Code;)V" } : Jvm.MethodName)) ∈ lw_tbl := tmR2 (i := 120) rfl
theorem tm_361 : (Jvm.Cond.code ({ cls := "RowCode$Generator", name := "reckon", desc := "(LRowCode$Code;)V" } : Jvm.MethodName) prog_5_method_12_code (3 : Nat) (Option.none : Option Jvm.ClassFile.FieldType)) ∈ lw_tbl := tmR2 (i := 121) rfl
theorem tm_362 : (Jvm.Cond.methodLink "RowCode$Generator" (130 : Nat) ({ cls := "RowCode$Generator", name := "way", desc := "(II)V" } : Jvm.MethodName)) ∈ lw_tbl := tmR2 (i := 122) rfl
theorem tm_363 : (Jvm.Cond.privateMethod ({ cls := "RowCode$Generator", name := "way", desc := "(II)V" } : Jvm.MethodName)) ∈ lw_tbl := tmR2 (i := 123) rfl
theorem tm_364 : (Jvm.Cond.instanceMethod ({ cls := "RowCode$Generator", name := "way", desc := "(II)V" } : Jvm.MethodName)) ∈ lw_tbl := tmR2 (i := 124) rfl
theorem tm_365 : (Jvm.Cond.code ({ cls := "RowCode$Generator", name := "way", desc := "(II)V" } : Jvm.MethodName) prog_5_method_11_code (3 : Nat) (Option.none : Option Jvm.ClassFile.FieldType)) ∈ lw_tbl := tmR2 (i := 125) rfl
theorem tm_366 : (Jvm.Cond.methodLinkNest "RowCode$Generator" (115 : Nat) ({ cls := "RowCode$Loader", name := "longer", desc := "([II)[I" } : Jvm.MethodName) "RowCode") ∈ lw_tbl := tmR2 (i := 126) rfl
theorem tm_367 : (Jvm.Cond.static ({ cls := "RowCode$Loader", name := "longer", desc := "([II)[I" } : Jvm.MethodName)) ∈ lw_tbl := tmR2 (i := 127) rfl
theorem tm_368 : (Jvm.Cond.code ({ cls := "RowCode$Loader", name := "longer", desc := "([II)[I" } : Jvm.MethodName) prog_6_method_4_code (3 : Nat) (Option.some (Jvm.ClassFile.FieldType.array Jvm.ClassFile.FieldType.int))) ∈ lw_tbl := tmR2 (i := 128) rfl
theorem tm_369 : (Jvm.Cond.methodLink "RowCode$Loader" (25 : Nat) ({ cls := "java/lang/System", name := "arraycopy", desc := "(Ljava/lang/Object;ILjava/lang/Object;II)V" } : Jvm.MethodName)) ∈ lw_tbl := tmR2 (i := 129) rfl
theorem tm_370 : (Jvm.Cond.methodLink "RowCode$Generator" (134 : Nat) ({ cls := "RowCode$Generator", name := "follow", desc := "(LRowCode$Code;II)V" } : Jvm.MethodName)) ∈ lw_tbl := tmR2 (i := 130) rfl
theorem tm_371 : (Jvm.Cond.privateMethod ({ cls := "RowCode$Generator", name := "follow", desc := "(LRowCode$Code;II)V" } : Jvm.MethodName)) ∈ lw_tbl := tmR2 (i := 131) rfl
theorem tm_372 : (Jvm.Cond.instanceMethod ({ cls := "RowCode$Generator", name := "follow", desc := "(LRowCode$Code;II)V" } : Jvm.MethodName)) ∈ lw_tbl := tmR2 (i := 132) rfl
theorem tm_373 : (Jvm.Cond.code ({ cls := "RowCode$Generator", name := "follow", desc := "(LRowCode$Code;II)V" } : Jvm.MethodName) prog_5_method_13_code (8 : Nat) (Option.none : Option Jvm.ClassFile.FieldType)) ∈ lw_tbl := tmR2 (i := 133) rfl
theorem tm_374 : (Jvm.Cond.methodLink "RowCode$Generator" (138 : Nat) ({ cls := "RowCode$Generator", name := "grows", desc := "(II)I" } : Jvm.MethodName)) ∈ lw_tbl := tmR2 (i := 134) rfl
theorem tm_375 : (Jvm.Cond.static ({ cls := "RowCode$Generator", name := "grows", desc := "(II)I" } : Jvm.MethodName)) ∈ lw_tbl := tmR2 (i := 135) rfl
theorem tm_376 : (Jvm.Cond.code ({ cls := "RowCode$Generator", name := "grows", desc := "(II)I" } : Jvm.MethodName) prog_5_method_14_code (2 : Nat) (Option.some Jvm.ClassFile.FieldType.int)) ∈ lw_tbl := tmR2 (i := 136) rfl
theorem tm_377 : (Jvm.Cond.constant "RowCode$Generator" (141 : Nat) (65536 : Int32)) ∈ lw_tbl := tmR2 (i := 137) rfl
theorem tm_378 : (Jvm.Cond.methodLink "RowCode$Generator" (151 : Nat) ({ cls := "RowCode$Generator", name := "one", desc := "(III)V" } : Jvm.MethodName)) ∈ lw_tbl := tmR2 (i := 138) rfl
theorem tm_379 : (Jvm.Cond.privateMethod ({ cls := "RowCode$Generator", name := "one", desc := "(III)V" } : Jvm.MethodName)) ∈ lw_tbl := tmR2 (i := 139) rfl
theorem tm_380 : (Jvm.Cond.instanceMethod ({ cls := "RowCode$Generator", name := "one", desc := "(III)V" } : Jvm.MethodName)) ∈ lw_tbl := tmR2 (i := 140) rfl
theorem tm_381 : (Jvm.Cond.code ({ cls := "RowCode$Generator", name := "one", desc := "(III)V" } : Jvm.MethodName) prog_5_method_16_code (4 : Nat) (Option.none : Option Jvm.ClassFile.FieldType)) ∈ lw_tbl := tmR2 (i := 141) rfl
theorem tm_382 : (Jvm.Cond.methodLink "RowCode$Generator" (158 : Nat) ({ cls := "RowCode$Generator", name := "push", desc := "(II)V" } : Jvm.MethodName)) ∈ lw_tbl := tmR2 (i := 142) rfl
theorem tm_383 : (Jvm.Cond.privateMethod ({ cls := "RowCode$Generator", name := "push", desc := "(II)V" } : Jvm.MethodName)) ∈ lw_tbl := tmR2 (i := 143) rfl
theorem tm_384 : (Jvm.Cond.instanceMethod ({ cls := "RowCode$Generator", name := "push", desc := "(II)V" } : Jvm.MethodName)) ∈ lw_tbl := tmR2 (i := 144) rfl
theorem tm_385 : (Jvm.Cond.code ({ cls := "RowCode$Generator", name := "push", desc := "(II)V" } : Jvm.MethodName) prog_5_method_3_code (3 : Nat) (Option.none : Option Jvm.ClassFile.FieldType)) ∈ lw_tbl := tmR2 (i := 145) rfl
theorem tm_386 : (Jvm.Cond.methodLink "RowCode$Generator" (54 : Nat) ({ cls := "RowCode$Generator", name := "keep", desc := "(I)V" } : Jvm.MethodName)) ∈ lw_tbl := tmR2 (i := 146) rfl
theorem tm_387 : (Jvm.Cond.privateMethod ({ cls := "RowCode$Generator", name := "keep", desc := "(I)V" } : Jvm.MethodName)) ∈ lw_tbl := tmR2 (i := 147) rfl
theorem tm_388 : (Jvm.Cond.instanceMethod ({ cls := "RowCode$Generator", name := "keep", desc := "(I)V" } : Jvm.MethodName)) ∈ lw_tbl := tmR2 (i := 148) rfl
theorem tm_389 : (Jvm.Cond.code ({ cls := "RowCode$Generator", name := "keep", desc := "(I)V" } : Jvm.MethodName) prog_5_method_7_code (2 : Nat) (Option.none : Option Jvm.ClassFile.FieldType)) ∈ lw_tbl := tmR2 (i := 149) rfl
theorem tm_390 : (Jvm.Cond.methodLink "RowCode$Generator" (107 : Nat) ({ cls := "RowCode$Generator", name := "load", desc := "(I)V" } : Jvm.MethodName)) ∈ lw_tbl := tmR2 (i := 150) rfl
theorem tm_391 : (Jvm.Cond.privateMethod ({ cls := "RowCode$Generator", name := "load", desc := "(I)V" } : Jvm.MethodName)) ∈ lw_tbl := tmR2 (i := 151) rfl
theorem tm_392 : (Jvm.Cond.instanceMethod ({ cls := "RowCode$Generator", name := "load", desc := "(I)V" } : Jvm.MethodName)) ∈ lw_tbl := tmR2 (i := 152) rfl
theorem tm_393 : (Jvm.Cond.code ({ cls := "RowCode$Generator", name := "load", desc := "(I)V" } : Jvm.MethodName) prog_5_method_6_code (2 : Nat) (Option.none : Option Jvm.ClassFile.FieldType)) ∈ lw_tbl := tmR2 (i := 153) rfl
theorem tm_394 : (Jvm.Cond.methodLink "RowCode$Generator" (96 : Nat) ({ cls := "RowCode$Generator", name := "constant", desc := "(I)V" } : Jvm.MethodName)) ∈ lw_tbl := tmR2 (i := 154) rfl
theorem tm_395 : (Jvm.Cond.privateMethod ({ cls := "RowCode$Generator", name := "constant", desc := "(I)V" } : Jvm.MethodName)) ∈ lw_tbl := tmR2 (i := 155) rfl
theorem tm_396 : (Jvm.Cond.instanceMethod ({ cls := "RowCode$Generator", name := "constant", desc := "(I)V" } : Jvm.MethodName)) ∈ lw_tbl := tmR2 (i := 156) rfl
theorem tm_397 : (Jvm.Cond.code ({ cls := "RowCode$Generator", name := "constant", desc := "(I)V" } : Jvm.MethodName) prog_5_method_5_code (4 : Nat) (Option.none : Option Jvm.ClassFile.FieldType)) ∈ lw_tbl := tmR2 (i := 157) rfl
theorem tm_398 : (Jvm.Cond.constant "RowCode$Generator" (80 : Nat) (-16000000 : Int32)) ∈ lw_tbl := tmR2 (i := 158) rfl
theorem tm_399 : (Jvm.Cond.constant "RowCode$Generator" (81 : Nat) (16000000 : Int32)) ∈ lw_tbl := tmR2 (i := 159) rfl
theorem tm_400 : (Jvm.Cond.stringRef "RowCode$Generator" (82 : Nat) "L") ∈ lw_tbl := tmR2 (i := 160) rfl
theorem tm_401 : (Jvm.Cond.methodLink "RowCode$Generator" (84 : Nat) ({ cls := "RowCode$Generator", name := "line", desc := "(Ljava/lang/String;I)V" } : Jvm.MethodName)) ∈ lw_tbl := tmR2 (i := 161) rfl
theorem tm_402 : (Jvm.Cond.privateMethod ({ cls := "RowCode$Generator", name := "line", desc := "(Ljava/lang/String;I)V" } : Jvm.MethodName)) ∈ lw_tbl := tmR2 (i := 162) rfl
theorem tm_403 : (Jvm.Cond.instanceMethod ({ cls := "RowCode$Generator", name := "line", desc := "(Ljava/lang/String;I)V" } : Jvm.MethodName)) ∈ lw_tbl := tmR2 (i := 163) rfl
theorem tm_404 : (Jvm.Cond.code ({ cls := "RowCode$Generator", name := "line", desc := "(Ljava/lang/String;I)V" } : Jvm.MethodName) prog_5_method_4_code (3 : Nat) (Option.none : Option Jvm.ClassFile.FieldType)) ∈ lw_tbl := tmR2 (i := 164) rfl
theorem tm_405 : (Jvm.Cond.methodLink "RowCode$Generator" (70 : Nat) ({ cls := "RowCode$Row", name := "letters", desc := "(Ljava/lang/String;)V" } : Jvm.MethodName)) ∈ lw_tbl := tmR2 (i := 165) rfl
theorem tm_406 : (Jvm.Cond.instanceMethod ({ cls := "RowCode$Row", name := "letters", desc := "(Ljava/lang/String;)V" } : Jvm.MethodName)) ∈ lw_tbl := tmR2 (i := 166) rfl
theorem tm_407 : (Jvm.Cond.selects "RowCode$Row" ({ cls := "RowCode$Row", name := "letters", desc := "(Ljava/lang/String;)V" } : Jvm.MethodName) ({ cls := "RowCode$Row", name := "letters", desc := "(Ljava/lang/String;)V" } : Jvm.MethodName)) ∈ lw_tbl := tmR2 (i := 167) rfl
theorem tm_408 : (Jvm.Cond.code ({ cls := "RowCode$Row", name := "letters", desc := "(Ljava/lang/String;)V" } : Jvm.MethodName) prog_7_method_3_code (3 : Nat) (Option.none : Option Jvm.ClassFile.FieldType)) ∈ lw_tbl := tmR2 (i := 168) rfl
theorem tm_409 : (Jvm.Cond.methodLink "RowCode$Row" (23 : Nat) ({ cls := "java/lang/String", name := "length", desc := "()I" } : Jvm.MethodName)) ∈ lw_tbl := tmR2 (i := 169) rfl
theorem tm_410 : (Jvm.Cond.instanceMethod ({ cls := "java/lang/String", name := "length", desc := "()I" } : Jvm.MethodName)) ∈ lw_tbl := tmR2 (i := 170) rfl
theorem tm_411 : (Jvm.Cond.selects "java/lang/String" ({ cls := "java/lang/String", name := "length", desc := "()I" } : Jvm.MethodName) ({ cls := "java/lang/String", name := "length", desc := "()I" } : Jvm.MethodName)) ∈ lw_tbl := tmR2 (i := 171) rfl
theorem tm_412 : (Jvm.Cond.code ({ cls := "java/lang/String", name := "length", desc := "()I" } : Jvm.MethodName) prog_14_method_54_code (1 : Nat) (Option.some Jvm.ClassFile.FieldType.int)) ∈ lw_tbl := tmR2 (i := 172) rfl
theorem tm_413 : (Jvm.Cond.methodLink "java/lang/String" (335 : Nat) ({ cls := "java/lang/String", name := "coder", desc := "()B" } : Jvm.MethodName)) ∈ lw_tbl := tmR2 (i := 173) rfl
theorem tm_414 : (Jvm.Cond.instanceMethod ({ cls := "java/lang/String", name := "coder", desc := "()B" } : Jvm.MethodName)) ∈ lw_tbl := tmR2 (i := 174) rfl
theorem tm_415 : (Jvm.Cond.selects "java/lang/String" ({ cls := "java/lang/String", name := "coder", desc := "()B" } : Jvm.MethodName) ({ cls := "java/lang/String", name := "coder", desc := "()B" } : Jvm.MethodName)) ∈ lw_tbl := tmR2 (i := 175) rfl
theorem tm_416 : (Jvm.Cond.code ({ cls := "java/lang/String", name := "coder", desc := "()B" } : Jvm.MethodName) prog_14_method_152_code (1 : Nat) (Option.some Jvm.ClassFile.FieldType.byte)) ∈ lw_tbl := tmR2 (i := 176) rfl
theorem tm_417 : (Jvm.Cond.fieldLink "java/lang/String" (38 : Nat) "java/lang/String" "COMPACT_STRINGS" "Z") ∈ lw_tbl := tmR2 (i := 177) rfl
theorem tm_418 : (Jvm.Cond.laysStatic "java/lang/String" "COMPACT_STRINGS" "Z") ∈ lw_tbl := tmR2 (i := 178) rfl
theorem tm_419 : (Jvm.Cond.methodLink "RowCode$Row" (29 : Nat) ({ cls := "java/lang/String", name := "charAt", desc := "(I)C" } : Jvm.MethodName)) ∈ lw_tbl := tmR2 (i := 179) rfl
theorem tm_420 : (Jvm.Cond.instanceMethod ({ cls := "java/lang/String", name := "charAt", desc := "(I)C" } : Jvm.MethodName)) ∈ lw_tbl := tmR2 (i := 180) rfl
theorem tm_421 : (Jvm.Cond.selects "java/lang/String" ({ cls := "java/lang/String", name := "charAt", desc := "(I)C" } : Jvm.MethodName) ({ cls := "java/lang/String", name := "charAt", desc := "(I)C" } : Jvm.MethodName)) ∈ lw_tbl := tmR2 (i := 181) rfl
theorem tm_422 : (Jvm.Cond.code ({ cls := "java/lang/String", name := "charAt", desc := "(I)C" } : Jvm.MethodName) prog_14_method_56_code (2 : Nat) (Option.some Jvm.ClassFile.FieldType.char)) ∈ lw_tbl := tmR2 (i := 182) rfl
theorem tm_423 : (Jvm.Cond.methodLink "java/lang/String" (492 : Nat) ({ cls := "java/lang/String", name := "isLatin1", desc := "()Z" } : Jvm.MethodName)) ∈ lw_tbl := tmR2 (i := 183) rfl
theorem tm_424 : (Jvm.Cond.instanceMethod ({ cls := "java/lang/String", name := "isLatin1", desc := "()Z" } : Jvm.MethodName)) ∈ lw_tbl := tmR2 (i := 184) rfl
theorem tm_425 : (Jvm.Cond.selects "java/lang/String" ({ cls := "java/lang/String", name := "isLatin1", desc := "()Z" } : Jvm.MethodName) ({ cls := "java/lang/String", name := "isLatin1", desc := "()Z" } : Jvm.MethodName)) ∈ lw_tbl := tmR2 (i := 185) rfl
theorem tm_426 : (Jvm.Cond.code ({ cls := "java/lang/String", name := "isLatin1", desc := "()Z" } : Jvm.MethodName) prog_14_method_154_code (1 : Nat) (Option.some Jvm.ClassFile.FieldType.boolean)) ∈ lw_tbl := tmR2 (i := 186) rfl
theorem tm_427 : (Jvm.Cond.methodLink "java/lang/String" (495 : Nat) ({ cls := "java/lang/StringLatin1", name := "charAt", desc := "([BI)C" } : Jvm.MethodName)) ∈ lw_tbl := tmR2 (i := 187) rfl
theorem tm_428 : (Jvm.Cond.static ({ cls := "java/lang/StringLatin1", name := "charAt", desc := "([BI)C" } : Jvm.MethodName)) ∈ lw_tbl := tmR2 (i := 188) rfl
theorem tm_429 : (Jvm.Cond.code ({ cls := "java/lang/StringLatin1", name := "charAt", desc := "([BI)C" } : Jvm.MethodName) prog_15_method_2_code (2 : Nat) (Option.some Jvm.ClassFile.FieldType.char)) ∈ lw_tbl := tmR2 (i := 189) rfl
theorem tm_430 : (Jvm.Cond.methodLink "java/lang/StringLatin1" (9 : Nat) ({ cls := "java/lang/String", name := "checkIndex", desc := "(II)V" } : Jvm.MethodName)) ∈ lw_tbl := tmR2 (i := 190) rfl
theorem tm_431 : (Jvm.Cond.static ({ cls := "java/lang/String", name := "checkIndex", desc := "(II)V" } : Jvm.MethodName)) ∈ lw_tbl := tmR2 (i := 191) rfl
theorem tm_432 : (Jvm.Cond.code ({ cls := "java/lang/String", name := "checkIndex", desc := "(II)V" } : Jvm.MethodName) prog_14_method_155_code (2 : Nat) (Option.none : Option Jvm.ClassFile.FieldType)) ∈ lw_tbl := tmR2 (i := 192) rfl
theorem tm_433 : (Jvm.Cond.fieldLink "java/lang/String" (1053 : Nat) "jdk/internal/util/Preconditions" "SIOOBE_FORMATTER" "Ljava/util/function/BiFunction;") ∈ lw_tbl := tmR2 (i := 193) rfl
theorem tm_434 : (Jvm.Cond.laysStatic "jdk/internal/util/Preconditions" "SIOOBE_FORMATTER" "Ljava/util/function/BiFunction;") ∈ lw_tbl := tmR2 (i := 194) rfl
theorem tm_435 : (Jvm.Cond.methodLink "java/lang/String" (1059 : Nat) ({ cls := "jdk/internal/util/Preconditions", name := "checkIndex", desc := "(IILjava/util/function/BiFunction;)I" } : Jvm.MethodName)) ∈ lw_tbl := tmR2 (i := 195) rfl
theorem tm_436 : (Jvm.Cond.static ({ cls := "jdk/internal/util/Preconditions", name := "checkIndex", desc := "(IILjava/util/function/BiFunction;)I" } : Jvm.MethodName)) ∈ lw_tbl := tmR2 (i := 196) rfl
theorem tm_437 : (Jvm.Cond.code ({ cls := "jdk/internal/util/Preconditions", name := "checkIndex", desc := "(IILjava/util/function/BiFunction;)I" } : Jvm.MethodName) prog_20_method_11_code (3 : Nat) (Option.some Jvm.ClassFile.FieldType.int)) ∈ lw_tbl := tmR2 (i := 197) rfl
theorem tm_438 : (Jvm.Cond.methodLink "java/lang/String" (498 : Nat) ({ cls := "java/lang/StringUTF16", name := "charAt", desc := "([BI)C" } : Jvm.MethodName)) ∈ lw_tbl := tmR2 (i := 198) rfl
theorem tm_439 : (Jvm.Cond.static ({ cls := "java/lang/StringUTF16", name := "charAt", desc := "([BI)C" } : Jvm.MethodName)) ∈ lw_tbl := tmR2 (i := 199) rfl
theorem tm_440 : (Jvm.Cond.code ({ cls := "java/lang/StringUTF16", name := "charAt", desc := "([BI)C" } : Jvm.MethodName) prog_16_method_83_code (2 : Nat) (Option.some Jvm.ClassFile.FieldType.char)) ∈ lw_tbl := tmR2 (i := 200) rfl
theorem tm_441 : (Jvm.Cond.methodLink "java/lang/StringUTF16" (67 : Nat) ({ cls := "java/lang/StringUTF16", name := "checkIndex", desc := "(I[B)V" } : Jvm.MethodName)) ∈ lw_tbl := tmR2 (i := 201) rfl
theorem tm_442 : (Jvm.Cond.static ({ cls := "java/lang/StringUTF16", name := "checkIndex", desc := "(I[B)V" } : Jvm.MethodName)) ∈ lw_tbl := tmR2 (i := 202) rfl
theorem tm_443 : (Jvm.Cond.code ({ cls := "java/lang/StringUTF16", name := "checkIndex", desc := "(I[B)V" } : Jvm.MethodName) prog_16_method_91_code (2 : Nat) (Option.none : Option Jvm.ClassFile.FieldType)) ∈ lw_tbl := tmR2 (i := 203) rfl
theorem tm_444 : (Jvm.Cond.methodLink "java/lang/StringUTF16" (48 : Nat) ({ cls := "java/lang/StringUTF16", name := "length", desc := "([B)I" } : Jvm.MethodName)) ∈ lw_tbl := tmR2 (i := 204) rfl
theorem tm_445 : (Jvm.Cond.static ({ cls := "java/lang/StringUTF16", name := "length", desc := "([B)I" } : Jvm.MethodName)) ∈ lw_tbl := tmR2 (i := 205) rfl
theorem tm_446 : (Jvm.Cond.code ({ cls := "java/lang/StringUTF16", name := "length", desc := "([B)I" } : Jvm.MethodName) prog_16_method_6_code (1 : Nat) (Option.some Jvm.ClassFile.FieldType.int)) ∈ lw_tbl := tmR2 (i := 206) rfl
theorem tm_447 : (Jvm.Cond.methodLink "java/lang/StringUTF16" (414 : Nat) ({ cls := "java/lang/String", name := "checkIndex", desc := "(II)V" } : Jvm.MethodName)) ∈ lw_tbl := tmR2 (i := 207) rfl
theorem tm_448 : (Jvm.Cond.methodLink "java/lang/StringUTF16" (71 : Nat) ({ cls := "java/lang/StringUTF16", name := "getChar", desc := "([BI)C" } : Jvm.MethodName)) ∈ lw_tbl := tmR2 (i := 208) rfl
theorem tm_449 : (Jvm.Cond.static ({ cls := "java/lang/StringUTF16", name := "getChar", desc := "([BI)C" } : Jvm.MethodName)) ∈ lw_tbl := tmR2 (i := 209) rfl
theorem tm_450 : (Jvm.Cond.code ({ cls := "java/lang/StringUTF16", name := "getChar", desc := "([BI)C" } : Jvm.MethodName) prog_16_method_5_code (2 : Nat) (Option.some Jvm.ClassFile.FieldType.char)) ∈ lw_tbl := tmR2 (i := 210) rfl
theorem tm_451 : (Jvm.Cond.fieldLink "java/lang/StringUTF16" (44 : Nat) "java/lang/StringUTF16" "$assertionsDisabled" "Z") ∈ lw_tbl := tmR2 (i := 211) rfl
theorem tm_452 : (Jvm.Cond.laysStatic "java/lang/StringUTF16" "$assertionsDisabled" "Z") ∈ lw_tbl := tmR2 (i := 212) rfl
theorem tm_453 : (Jvm.Cond.fieldLink "java/lang/StringUTF16" (59 : Nat) "java/lang/StringUTF16" "HI_BYTE_SHIFT" "I") ∈ lw_tbl := tmR2 (i := 213) rfl
theorem tm_454 : (Jvm.Cond.laysStatic "java/lang/StringUTF16" "HI_BYTE_SHIFT" "I") ∈ lw_tbl := tmR2 (i := 214) rfl
theorem tm_455 : (Jvm.Cond.fieldLink "java/lang/StringUTF16" (63 : Nat) "java/lang/StringUTF16" "LO_BYTE_SHIFT" "I") ∈ lw_tbl := tmR2 (i := 215) rfl
theorem tm_456 : (Jvm.Cond.laysStatic "java/lang/StringUTF16" "LO_BYTE_SHIFT" "I") ∈ lw_tbl := tmR2 (i := 216) rfl
theorem tm_457 : (Jvm.Cond.methodLink "RowCode$Row" (33 : Nat) ({ cls := "RowCode$Row", name := "one", desc := "(I)V" } : Jvm.MethodName)) ∈ lw_tbl := tmR2 (i := 217) rfl
theorem tm_458 : (Jvm.Cond.instanceMethod ({ cls := "RowCode$Row", name := "one", desc := "(I)V" } : Jvm.MethodName)) ∈ lw_tbl := tmR2 (i := 218) rfl
theorem tm_459 : (Jvm.Cond.selects "RowCode$Row" ({ cls := "RowCode$Row", name := "one", desc := "(I)V" } : Jvm.MethodName) ({ cls := "RowCode$Row", name := "one", desc := "(I)V" } : Jvm.MethodName)) ∈ lw_tbl := tmR2 (i := 219) rfl
theorem tm_460 : (Jvm.Cond.code ({ cls := "RowCode$Row", name := "one", desc := "(I)V" } : Jvm.MethodName) prog_7_method_2_code (3 : Nat) (Option.none : Option Jvm.ClassFile.FieldType)) ∈ lw_tbl := tmR2 (i := 220) rfl
theorem tm_461 : (Jvm.Cond.methodLink "RowCode$Row" (17 : Nat) ({ cls := "java/lang/System", name := "arraycopy", desc := "(Ljava/lang/Object;ILjava/lang/Object;II)V" } : Jvm.MethodName)) ∈ lw_tbl := tmR2 (i := 221) rfl
theorem tm_462 : (Jvm.Cond.methodLink "RowCode$Generator" (74 : Nat) ({ cls := "RowCode$Row", name := "number", desc := "(I)V" } : Jvm.MethodName)) ∈ lw_tbl := tmR2 (i := 222) rfl
theorem tm_463 : (Jvm.Cond.instanceMethod ({ cls := "RowCode$Row", name := "number", desc := "(I)V" } : Jvm.MethodName)) ∈ lw_tbl := tmR2 (i := 223) rfl
theorem tm_464 : (Jvm.Cond.selects "RowCode$Row" ({ cls := "RowCode$Row", name := "number", desc := "(I)V" } : Jvm.MethodName) ({ cls := "RowCode$Row", name := "number", desc := "(I)V" } : Jvm.MethodName)) ∈ lw_tbl := tmR2 (i := 224) rfl
theorem tm_465 : (Jvm.Cond.code ({ cls := "RowCode$Row", name := "number", desc := "(I)V" } : Jvm.MethodName) prog_7_method_4_code (3 : Nat) (Option.none : Option Jvm.ClassFile.FieldType)) ∈ lw_tbl := tmR2 (i := 225) rfl
theorem tm_466 : (Jvm.Cond.methodLink "RowCode$Row" (37 : Nat) ({ cls := "java/lang/Math", name := "abs", desc := "(I)I" } : Jvm.MethodName)) ∈ lw_tbl := tmR2 (i := 226) rfl
theorem tm_467 : (Jvm.Cond.static ({ cls := "java/lang/Math", name := "abs", desc := "(I)I" } : Jvm.MethodName)) ∈ lw_tbl := tmR2 (i := 227) rfl
theorem tm_468 : (Jvm.Cond.code ({ cls := "java/lang/Math", name := "abs", desc := "(I)I" } : Jvm.MethodName) prog_12_method_59_code (1 : Nat) (Option.some Jvm.ClassFile.FieldType.int)) ∈ lw_tbl := tmR2 (i := 228) rfl
theorem tm_469 : (Jvm.Cond.methodLink "RowCode$Generator" (77 : Nat) ({ cls := "RowCode$Row", name := "one", desc := "(I)V" } : Jvm.MethodName)) ∈ lw_tbl := tmR2 (i := 229) rfl
theorem tm_470 : (Jvm.Cond.methodLink "RowCode$Generator" (48 : Nat) ({ cls := "java/lang/System", name := "arraycopy", desc := "(Ljava/lang/Object;ILjava/lang/Object;II)V" } : Jvm.MethodName)) ∈ lw_tbl := tmR2 (i := 230) rfl
theorem tm_471 : (Jvm.Cond.stringRef "RowCode$Generator" (91 : Nat) "LIL") ∈ lw_tbl := tmR2 (i := 231) rfl
theorem tm_472 : (Jvm.Cond.stringRef "RowCode$Generator" (99 : Nat) "LIP") ∈ lw_tbl := tmR2 (i := 232) rfl
theorem tm_473 : (Jvm.Cond.stringRef "RowCode$Generator" (101 : Nat) "LI") ∈ lw_tbl := tmR2 (i := 233) rfl
theorem tm_474 : (Jvm.Cond.stringRef "RowCode$Generator" (103 : Nat) "LP") ∈ lw_tbl := tmR2 (i := 234) rfl
theorem tm_475 : (Jvm.Cond.stringRef "RowCode$Generator" (105 : Nat) "LIQ") ∈ lw_tbl := tmR2 (i := 235) rfl
theorem tm_476 : (Jvm.Cond.stringRef "RowCode$Generator" (110 : Nat) "SQ") ∈ lw_tbl := tmR2 (i := 236) rfl
theorem tm_477 : (Jvm.Cond.methodLink "RowCode$Generator" (58 : Nat) ({ cls := "RowCode$Generator", name := "grow", desc := "()V" } : Jvm.MethodName)) ∈ lw_tbl := tmR2 (i := 237) rfl
theorem tm_478 : (Jvm.Cond.privateMethod ({ cls := "RowCode$Generator", name := "grow", desc := "()V" } : Jvm.MethodName)) ∈ lw_tbl := tmR2 (i := 238) rfl
theorem tm_479 : (Jvm.Cond.instanceMethod ({ cls := "RowCode$Generator", name := "grow", desc := "()V" } : Jvm.MethodName)) ∈ lw_tbl := tmR2 (i := 239) rfl
theorem tm_480 : (Jvm.Cond.code ({ cls := "RowCode$Generator", name := "grow", desc := "()V" } : Jvm.MethodName) prog_5_method_2_code (3 : Nat) (Option.none : Option Jvm.ClassFile.FieldType)) ∈ lw_tbl := tmR3 (i := 0) rfl
theorem tm_481 : (Jvm.Cond.methodLink "RowCode$Generator" (64 : Nat) ({ cls := "java/lang/Math", name := "max", desc := "(II)I" } : Jvm.MethodName)) ∈ lw_tbl := tmR3 (i := 1) rfl
theorem tm_482 : (Jvm.Cond.static ({ cls := "java/lang/Math", name := "max", desc := "(II)I" } : Jvm.MethodName)) ∈ lw_tbl := tmR3 (i := 2) rfl
theorem tm_483 : (Jvm.Cond.code ({ cls := "java/lang/Math", name := "max", desc := "(II)I" } : Jvm.MethodName) prog_12_method_65_code (2 : Nat) (Option.some Jvm.ClassFile.FieldType.int)) ∈ lw_tbl := tmR3 (i := 3) rfl
theorem tm_484 : (Jvm.Cond.methodLink "RowCode$Generator" (161 : Nat) ({ cls := "RowCode$Generator", name := "stores", desc := "(II)V" } : Jvm.MethodName)) ∈ lw_tbl := tmR3 (i := 4) rfl
theorem tm_485 : (Jvm.Cond.privateMethod ({ cls := "RowCode$Generator", name := "stores", desc := "(II)V" } : Jvm.MethodName)) ∈ lw_tbl := tmR3 (i := 5) rfl
theorem tm_486 : (Jvm.Cond.instanceMethod ({ cls := "RowCode$Generator", name := "stores", desc := "(II)V" } : Jvm.MethodName)) ∈ lw_tbl := tmR3 (i := 6) rfl
theorem tm_487 : (Jvm.Cond.code ({ cls := "RowCode$Generator", name := "stores", desc := "(II)V" } : Jvm.MethodName) prog_5_method_22_code (3 : Nat) (Option.none : Option Jvm.ClassFile.FieldType)) ∈ lw_tbl := tmR3 (i := 7) rfl
theorem tm_488 : (Jvm.Cond.methodLink "RowCode$Generator" (205 : Nat) ({ cls := "RowCode$Generator", name := "keepBelow", desc := "()V" } : Jvm.MethodName)) ∈ lw_tbl := tmR3 (i := 8) rfl
theorem tm_489 : (Jvm.Cond.privateMethod ({ cls := "RowCode$Generator", name := "keepBelow", desc := "()V" } : Jvm.MethodName)) ∈ lw_tbl := tmR3 (i := 9) rfl
theorem tm_490 : (Jvm.Cond.instanceMethod ({ cls := "RowCode$Generator", name := "keepBelow", desc := "()V" } : Jvm.MethodName)) ∈ lw_tbl := tmR3 (i := 10) rfl
theorem tm_491 : (Jvm.Cond.code ({ cls := "RowCode$Generator", name := "keepBelow", desc := "()V" } : Jvm.MethodName) prog_5_method_21_code (2 : Nat) (Option.none : Option Jvm.ClassFile.FieldType)) ∈ lw_tbl := tmR3 (i := 11) rfl
theorem tm_492 : (Jvm.Cond.stringRef "RowCode$Generator" (208 : Nat) "SP") ∈ lw_tbl := tmR3 (i := 12) rfl
theorem tm_493 : (Jvm.Cond.stringRef "RowCode$Generator" (210 : Nat) "S") ∈ lw_tbl := tmR3 (i := 13) rfl
theorem tm_494 : (Jvm.Cond.methodLink "RowCode$Generator" (164 : Nat) ({ cls := "RowCode$Generator", name := "single", desc := "(I)V" } : Jvm.MethodName)) ∈ lw_tbl := tmR3 (i := 14) rfl
theorem tm_495 : (Jvm.Cond.privateMethod ({ cls := "RowCode$Generator", name := "single", desc := "(I)V" } : Jvm.MethodName)) ∈ lw_tbl := tmR3 (i := 15) rfl
theorem tm_496 : (Jvm.Cond.instanceMethod ({ cls := "RowCode$Generator", name := "single", desc := "(I)V" } : Jvm.MethodName)) ∈ lw_tbl := tmR3 (i := 16) rfl
theorem tm_497 : (Jvm.Cond.code ({ cls := "RowCode$Generator", name := "single", desc := "(I)V" } : Jvm.MethodName) prog_5_method_18_code (2 : Nat) (Option.none : Option Jvm.ClassFile.FieldType)) ∈ lw_tbl := tmR3 (i := 17) rfl
theorem tm_498 : (Jvm.Cond.stringRef "RowCode$Generator" (179 : Nat) "X") ∈ lw_tbl := tmR3 (i := 18) rfl
theorem tm_499 : (Jvm.Cond.methodLink "RowCode$Generator" (199 : Nat) ({ cls := "RowCode$Generator", name := "held", desc := "(I)V" } : Jvm.MethodName)) ∈ lw_tbl := tmR3 (i := 19) rfl
theorem tm_500 : (Jvm.Cond.privateMethod ({ cls := "RowCode$Generator", name := "held", desc := "(I)V" } : Jvm.MethodName)) ∈ lw_tbl := tmR3 (i := 20) rfl
theorem tm_501 : (Jvm.Cond.instanceMethod ({ cls := "RowCode$Generator", name := "held", desc := "(I)V" } : Jvm.MethodName)) ∈ lw_tbl := tmR3 (i := 21) rfl
theorem tm_502 : (Jvm.Cond.code ({ cls := "RowCode$Generator", name := "held", desc := "(I)V" } : Jvm.MethodName) prog_5_method_10_code (2 : Nat) (Option.none : Option Jvm.ClassFile.FieldType)) ∈ lw_tbl := tmR3 (i := 22) rfl
theorem tm_503 : (Jvm.Cond.methodLink "RowCode$Generator" (167 : Nat) ({ cls := "RowCode$Generator", name := "indirect", desc := "()V" } : Jvm.MethodName)) ∈ lw_tbl := tmR3 (i := 23) rfl
theorem tm_504 : (Jvm.Cond.privateMethod ({ cls := "RowCode$Generator", name := "indirect", desc := "()V" } : Jvm.MethodName)) ∈ lw_tbl := tmR3 (i := 24) rfl
theorem tm_505 : (Jvm.Cond.instanceMethod ({ cls := "RowCode$Generator", name := "indirect", desc := "()V" } : Jvm.MethodName)) ∈ lw_tbl := tmR3 (i := 25) rfl
theorem tm_506 : (Jvm.Cond.code ({ cls := "RowCode$Generator", name := "indirect", desc := "()V" } : Jvm.MethodName) prog_5_method_23_code (2 : Nat) (Option.none : Option Jvm.ClassFile.FieldType)) ∈ lw_tbl := tmR3 (i := 26) rfl
theorem tm_507 : (Jvm.Cond.methodLink "RowCode$Generator" (212 : Nat) ({ cls := "RowCode$Generator", name := "keep2", desc := "(I)V" } : Jvm.MethodName)) ∈ lw_tbl := tmR3 (i := 27) rfl
theorem tm_508 : (Jvm.Cond.privateMethod ({ cls := "RowCode$Generator", name := "keep2", desc := "(I)V" } : Jvm.MethodName)) ∈ lw_tbl := tmR3 (i := 28) rfl
theorem tm_509 : (Jvm.Cond.instanceMethod ({ cls := "RowCode$Generator", name := "keep2", desc := "(I)V" } : Jvm.MethodName)) ∈ lw_tbl := tmR3 (i := 29) rfl
theorem tm_510 : (Jvm.Cond.code ({ cls := "RowCode$Generator", name := "keep2", desc := "(I)V" } : Jvm.MethodName) prog_5_method_24_code (2 : Nat) (Option.none : Option Jvm.ClassFile.FieldType)) ∈ lw_tbl := tmR3 (i := 30) rfl
theorem tm_511 : (Jvm.Cond.methodLink "RowCode$Generator" (202 : Nat) ({ cls := "RowCode$Generator", name := "both", desc := "()V" } : Jvm.MethodName)) ∈ lw_tbl := tmR3 (i := 31) rfl
theorem tm_512 : (Jvm.Cond.privateMethod ({ cls := "RowCode$Generator", name := "both", desc := "()V" } : Jvm.MethodName)) ∈ lw_tbl := tmR3 (i := 32) rfl
theorem tm_513 : (Jvm.Cond.instanceMethod ({ cls := "RowCode$Generator", name := "both", desc := "()V" } : Jvm.MethodName)) ∈ lw_tbl := tmR3 (i := 33) rfl
theorem tm_514 : (Jvm.Cond.code ({ cls := "RowCode$Generator", name := "both", desc := "()V" } : Jvm.MethodName) prog_5_method_9_code (1 : Nat) (Option.none : Option Jvm.ClassFile.FieldType)) ∈ lw_tbl := tmR3 (i := 34) rfl
theorem tm_515 : (Jvm.Cond.methodLink "RowCode$Generator" (170 : Nat) ({ cls := "RowCode$Generator", name := "pair", desc := "(I)V" } : Jvm.MethodName)) ∈ lw_tbl := tmR3 (i := 35) rfl
theorem tm_516 : (Jvm.Cond.privateMethod ({ cls := "RowCode$Generator", name := "pair", desc := "(I)V" } : Jvm.MethodName)) ∈ lw_tbl := tmR3 (i := 36) rfl
theorem tm_517 : (Jvm.Cond.instanceMethod ({ cls := "RowCode$Generator", name := "pair", desc := "(I)V" } : Jvm.MethodName)) ∈ lw_tbl := tmR3 (i := 37) rfl
theorem tm_518 : (Jvm.Cond.code ({ cls := "RowCode$Generator", name := "pair", desc := "(I)V" } : Jvm.MethodName) prog_5_method_19_code (2 : Nat) (Option.none : Option Jvm.ClassFile.FieldType)) ∈ lw_tbl := tmR3 (i := 38) rfl
theorem tm_519 : (Jvm.Cond.methodLink "RowCode$Generator" (173 : Nat) ({ cls := "RowCode$Generator", name := "bytes", desc := "()V" } : Jvm.MethodName)) ∈ lw_tbl := tmR3 (i := 39) rfl
theorem tm_520 : (Jvm.Cond.privateMethod ({ cls := "RowCode$Generator", name := "bytes", desc := "()V" } : Jvm.MethodName)) ∈ lw_tbl := tmR3 (i := 40) rfl
theorem tm_521 : (Jvm.Cond.instanceMethod ({ cls := "RowCode$Generator", name := "bytes", desc := "()V" } : Jvm.MethodName)) ∈ lw_tbl := tmR3 (i := 41) rfl
theorem tm_522 : (Jvm.Cond.code ({ cls := "RowCode$Generator", name := "bytes", desc := "()V" } : Jvm.MethodName) prog_5_method_25_code (2 : Nat) (Option.none : Option Jvm.ClassFile.FieldType)) ∈ lw_tbl := tmR3 (i := 42) rfl
theorem tm_523 : (Jvm.Cond.methodLink "RowCode$Generator" (176 : Nat) ({ cls := "RowCode$Generator", name := "chain", desc := "(I)V" } : Jvm.MethodName)) ∈ lw_tbl := tmR3 (i := 43) rfl
theorem tm_524 : (Jvm.Cond.privateMethod ({ cls := "RowCode$Generator", name := "chain", desc := "(I)V" } : Jvm.MethodName)) ∈ lw_tbl := tmR3 (i := 44) rfl
theorem tm_525 : (Jvm.Cond.instanceMethod ({ cls := "RowCode$Generator", name := "chain", desc := "(I)V" } : Jvm.MethodName)) ∈ lw_tbl := tmR3 (i := 45) rfl
theorem tm_526 : (Jvm.Cond.code ({ cls := "RowCode$Generator", name := "chain", desc := "(I)V" } : Jvm.MethodName) prog_5_method_20_code (2 : Nat) (Option.none : Option Jvm.ClassFile.FieldType)) ∈ lw_tbl := tmR3 (i := 46) rfl
theorem tm_527 : (Jvm.Cond.methodLink "RowCode$Generator" (181 : Nat) ({ cls := "RowCode$Generator", name := "call", desc := "(II)V" } : Jvm.MethodName)) ∈ lw_tbl := tmR3 (i := 47) rfl
theorem tm_528 : (Jvm.Cond.privateMethod ({ cls := "RowCode$Generator", name := "call", desc := "(II)V" } : Jvm.MethodName)) ∈ lw_tbl := tmR3 (i := 48) rfl
theorem tm_529 : (Jvm.Cond.instanceMethod ({ cls := "RowCode$Generator", name := "call", desc := "(II)V" } : Jvm.MethodName)) ∈ lw_tbl := tmR3 (i := 49) rfl
theorem tm_530 : (Jvm.Cond.code ({ cls := "RowCode$Generator", name := "call", desc := "(II)V" } : Jvm.MethodName) prog_5_method_26_code (3 : Nat) (Option.none : Option Jvm.ClassFile.FieldType)) ∈ lw_tbl := tmR3 (i := 50) rfl
theorem tm_531 : (Jvm.Cond.methodLink "RowCode$Generator" (184 : Nat) ({ cls := "RowCode$Generator", name := "keepAll", desc := "()V" } : Jvm.MethodName)) ∈ lw_tbl := tmR3 (i := 51) rfl
theorem tm_532 : (Jvm.Cond.privateMethod ({ cls := "RowCode$Generator", name := "keepAll", desc := "()V" } : Jvm.MethodName)) ∈ lw_tbl := tmR3 (i := 52) rfl
theorem tm_533 : (Jvm.Cond.instanceMethod ({ cls := "RowCode$Generator", name := "keepAll", desc := "()V" } : Jvm.MethodName)) ∈ lw_tbl := tmR3 (i := 53) rfl
theorem tm_534 : (Jvm.Cond.code ({ cls := "RowCode$Generator", name := "keepAll", desc := "()V" } : Jvm.MethodName) prog_5_method_8_code (2 : Nat) (Option.none : Option Jvm.ClassFile.FieldType)) ∈ lw_tbl := tmR3 (i := 54) rfl
theorem tm_535 : (Jvm.Cond.stringRef "RowCode$Generator" (215 : Nat) "K") ∈ lw_tbl := tmR3 (i := 55) rfl
theorem tm_536 : (Jvm.Cond.stringRef "RowCode$Generator" (156 : Nat) "D") ∈ lw_tbl := tmR3 (i := 56) rfl
theorem tm_537 : (Jvm.Cond.stringRef "RowCode$Generator" (187 : Nat) "TL") ∈ lw_tbl := tmR3 (i := 57) rfl
theorem tm_538 : (Jvm.Cond.methodLink "RowCode$Generator" (192 : Nat) ({ cls := "RowCode$Generator", name := "goes", desc := "(II)V" } : Jvm.MethodName)) ∈ lw_tbl := tmR3 (i := 58) rfl
theorem tm_539 : (Jvm.Cond.privateMethod ({ cls := "RowCode$Generator", name := "goes", desc := "(II)V" } : Jvm.MethodName)) ∈ lw_tbl := tmR3 (i := 59) rfl
theorem tm_540 : (Jvm.Cond.instanceMethod ({ cls := "RowCode$Generator", name := "goes", desc := "(II)V" } : Jvm.MethodName)) ∈ lw_tbl := tmR3 (i := 60) rfl
theorem tm_541 : (Jvm.Cond.code ({ cls := "RowCode$Generator", name := "goes", desc := "(II)V" } : Jvm.MethodName) prog_5_method_17_code (4 : Nat) (Option.none : Option Jvm.ClassFile.FieldType)) ∈ lw_tbl := tmR3 (i := 61) rfl
theorem tm_542 : (Jvm.Cond.stringRef "RowCode$Generator" (195 : Nat) "JL") ∈ lw_tbl := tmR3 (i := 62) rfl
theorem tm_543 : (Jvm.Cond.stringRef "RowCode$Generator" (154 : Nat) "") ∈ lw_tbl := tmR3 (i := 63) rfl
theorem tm_544 : (Jvm.Cond.stringRef "RowCode$Generator" (197 : Nat) "FL") ∈ lw_tbl := tmR3 (i := 64) rfl
theorem tm_545 : (Jvm.Cond.methodLink "RowCode" (143 : Nat) ({ cls := "RowCode$Loader", name := "load", desc := "(LRowCode$Row;)I" } : Jvm.MethodName)) ∈ lw_tbl := tmR3 (i := 65) rfl
theorem tm_546 : (Jvm.Cond.instanceMethod ({ cls := "RowCode$Loader", name := "load", desc := "(LRowCode$Row;)I" } : Jvm.MethodName)) ∈ lw_tbl := tmR3 (i := 66) rfl
theorem tm_547 : (Jvm.Cond.selects "RowCode$Loader" ({ cls := "RowCode$Loader", name := "load", desc := "(LRowCode$Row;)I" } : Jvm.MethodName) ({ cls := "RowCode$Loader", name := "load", desc := "(LRowCode$Row;)I" } : Jvm.MethodName)) ∈ lw_tbl := tmR3 (i := 67) rfl
theorem tm_548 : (Jvm.Cond.code ({ cls := "RowCode$Loader", name := "load", desc := "(LRowCode$Row;)I" } : Jvm.MethodName) prog_6_method_5_code (5 : Nat) (Option.some Jvm.ClassFile.FieldType.int)) ∈ lw_tbl := tmR3 (i := 68) rfl
theorem tm_549 : (Jvm.Cond.constant "RowCode$Loader" (47 : Nat) (65536 : Int32)) ∈ lw_tbl := tmR3 (i := 69) rfl
theorem tm_550 : (Jvm.Cond.methodLink "RowCode$Loader" (49 : Nat) ({ cls := "RowCode$Loader", name := "number", desc := "()I" } : Jvm.MethodName)) ∈ lw_tbl := tmR3 (i := 70) rfl
theorem tm_551 : (Jvm.Cond.privateMethod ({ cls := "RowCode$Loader", name := "number", desc := "()I" } : Jvm.MethodName)) ∈ lw_tbl := tmR3 (i := 71) rfl
theorem tm_552 : (Jvm.Cond.instanceMethod ({ cls := "RowCode$Loader", name := "number", desc := "()I" } : Jvm.MethodName)) ∈ lw_tbl := tmR3 (i := 72) rfl
theorem tm_553 : (Jvm.Cond.code ({ cls := "RowCode$Loader", name := "number", desc := "()I" } : Jvm.MethodName) prog_6_method_3_code (3 : Nat) (Option.some Jvm.ClassFile.FieldType.int)) ∈ lw_tbl := tmR3 (i := 73) rfl
theorem tm_554 : (Jvm.Cond.methodLink "RowCode$Loader" (53 : Nat) ({ cls := "RowCode$Loader", name := "longer", desc := "([II)[I" } : Jvm.MethodName)) ∈ lw_tbl := tmR3 (i := 74) rfl
theorem tm_555 : (Jvm.Cond.methodLink "RowCode$Loader" (57 : Nat) ({ cls := "RowCode$Loader", name := "word", desc := "(I)V" } : Jvm.MethodName)) ∈ lw_tbl := tmR3 (i := 75) rfl
theorem tm_556 : (Jvm.Cond.privateMethod ({ cls := "RowCode$Loader", name := "word", desc := "(I)V" } : Jvm.MethodName)) ∈ lw_tbl := tmR3 (i := 76) rfl
theorem tm_557 : (Jvm.Cond.instanceMethod ({ cls := "RowCode$Loader", name := "word", desc := "(I)V" } : Jvm.MethodName)) ∈ lw_tbl := tmR3 (i := 77) rfl
theorem tm_558 : (Jvm.Cond.code ({ cls := "RowCode$Loader", name := "word", desc := "(I)V" } : Jvm.MethodName) prog_6_method_2_code (3 : Nat) (Option.none : Option Jvm.ClassFile.FieldType)) ∈ lw_tbl := tmR3 (i := 78) rfl
theorem tm_559 : (Jvm.Cond.methodLink "RowCode$Loader" (61 : Nat) ({ cls := "RowCode$Loader", name := "instruction", desc := "(I)V" } : Jvm.MethodName)) ∈ lw_tbl := tmR3 (i := 79) rfl
theorem tm_560 : (Jvm.Cond.privateMethod ({ cls := "RowCode$Loader", name := "instruction", desc := "(I)V" } : Jvm.MethodName)) ∈ lw_tbl := tmR3 (i := 80) rfl
theorem tm_561 : (Jvm.Cond.instanceMethod ({ cls := "RowCode$Loader", name := "instruction", desc := "(I)V" } : Jvm.MethodName)) ∈ lw_tbl := tmR3 (i := 81) rfl
theorem tm_562 : (Jvm.Cond.code ({ cls := "RowCode$Loader", name := "instruction", desc := "(I)V" } : Jvm.MethodName) prog_6_method_6_code (5 : Nat) (Option.none : Option Jvm.ClassFile.FieldType)) ∈ lw_tbl := tmR3 (i := 82) rfl
theorem tm_563 : (Jvm.Cond.stringRef "RowCode$Loader" (66 : Nat) " LSJTFKX") ∈ lw_tbl := tmR3 (i := 83) rfl
theorem tm_564 : (Jvm.Cond.methodLink "RowCode$Loader" (68 : Nat) ({ cls := "java/lang/String", name := "indexOf", desc := "(I)I" } : Jvm.MethodName)) ∈ lw_tbl := tmR3 (i := 84) rfl
theorem tm_565 : (Jvm.Cond.instanceMethod ({ cls := "java/lang/String", name := "indexOf", desc := "(I)I" } : Jvm.MethodName)) ∈ lw_tbl := tmR3 (i := 85) rfl
theorem tm_566 : (Jvm.Cond.selects "java/lang/String" ({ cls := "java/lang/String", name := "indexOf", desc := "(I)I" } : Jvm.MethodName) ({ cls := "java/lang/String", name := "indexOf", desc := "(I)I" } : Jvm.MethodName)) ∈ lw_tbl := tmR3 (i := 86) rfl
theorem tm_567 : (Jvm.Cond.code ({ cls := "java/lang/String", name := "indexOf", desc := "(I)I" } : Jvm.MethodName) prog_14_method_79_code (2 : Nat) (Option.some Jvm.ClassFile.FieldType.int)) ∈ lw_tbl := tmR3 (i := 87) rfl
theorem tm_568 : (Jvm.Cond.methodLink "java/lang/String" (633 : Nat) ({ cls := "java/lang/String", name := "indexOf", desc := "(II)I" } : Jvm.MethodName)) ∈ lw_tbl := tmR3 (i := 88) rfl
theorem tm_569 : (Jvm.Cond.instanceMethod ({ cls := "java/lang/String", name := "indexOf", desc := "(II)I" } : Jvm.MethodName)) ∈ lw_tbl := tmR3 (i := 89) rfl
theorem tm_570 : (Jvm.Cond.selects "java/lang/String" ({ cls := "java/lang/String", name := "indexOf", desc := "(II)I" } : Jvm.MethodName) ({ cls := "java/lang/String", name := "indexOf", desc := "(II)I" } : Jvm.MethodName)) ∈ lw_tbl := tmR3 (i := 90) rfl
theorem tm_571 : (Jvm.Cond.code ({ cls := "java/lang/String", name := "indexOf", desc := "(II)I" } : Jvm.MethodName) prog_14_method_80_code (3 : Nat) (Option.some Jvm.ClassFile.FieldType.int)) ∈ lw_tbl := tmR3 (i := 91) rfl
theorem tm_572 : (Jvm.Cond.methodLink "java/lang/String" (505 : Nat) ({ cls := "java/lang/String", name := "length", desc := "()I" } : Jvm.MethodName)) ∈ lw_tbl := tmR3 (i := 92) rfl
theorem tm_573 : (Jvm.Cond.methodLink "java/lang/String" (637 : Nat) ({ cls := "java/lang/StringLatin1", name := "indexOf", desc := "([BIII)I" } : Jvm.MethodName)) ∈ lw_tbl := tmR3 (i := 93) rfl
theorem tm_574 : (Jvm.Cond.static ({ cls := "java/lang/StringLatin1", name := "indexOf", desc := "([BIII)I" } : Jvm.MethodName)) ∈ lw_tbl := tmR3 (i := 94) rfl
theorem tm_575 : (Jvm.Cond.code ({ cls := "java/lang/StringLatin1", name := "indexOf", desc := "([BIII)I" } : Jvm.MethodName) prog_15_method_22_code (4 : Nat) (Option.some Jvm.ClassFile.FieldType.int)) ∈ lw_tbl := tmR3 (i := 95) rfl
theorem tm_576 : (Jvm.Cond.methodLink "java/lang/StringLatin1" (88 : Nat) ({ cls := "java/lang/StringLatin1", name := "canEncode", desc := "(I)Z" } : Jvm.MethodName)) ∈ lw_tbl := tmR3 (i := 96) rfl
theorem tm_577 : (Jvm.Cond.static ({ cls := "java/lang/StringLatin1", name := "canEncode", desc := "(I)Z" } : Jvm.MethodName)) ∈ lw_tbl := tmR3 (i := 97) rfl
theorem tm_578 : (Jvm.Cond.code ({ cls := "java/lang/StringLatin1", name := "canEncode", desc := "(I)Z" } : Jvm.MethodName) prog_15_method_4_code (1 : Nat) (Option.some Jvm.ClassFile.FieldType.boolean)) ∈ lw_tbl := tmR3 (i := 98) rfl
theorem tm_579 : (Jvm.Cond.methodLink "java/lang/StringLatin1" (92 : Nat) ({ cls := "java/lang/Math", name := "max", desc := "(II)I" } : Jvm.MethodName)) ∈ lw_tbl := tmR3 (i := 99) rfl
theorem tm_580 : (Jvm.Cond.methodLink "java/lang/StringLatin1" (38 : Nat) ({ cls := "java/lang/Math", name := "min", desc := "(II)I" } : Jvm.MethodName)) ∈ lw_tbl := tmR3 (i := 100) rfl
theorem tm_581 : (Jvm.Cond.static ({ cls := "java/lang/Math", name := "min", desc := "(II)I" } : Jvm.MethodName)) ∈ lw_tbl := tmR3 (i := 101) rfl
theorem tm_582 : (Jvm.Cond.code ({ cls := "java/lang/Math", name := "min", desc := "(II)I" } : Jvm.MethodName) prog_12_method_69_code (2 : Nat) (Option.some Jvm.ClassFile.FieldType.int)) ∈ lw_tbl := tmR3 (i := 102) rfl
theorem tm_583 : (Jvm.Cond.methodLink "java/lang/StringLatin1" (95 : Nat) ({ cls := "java/lang/StringLatin1", name := "indexOfChar", desc := "([BIII)I" } : Jvm.MethodName)) ∈ lw_tbl := tmR3 (i := 103) rfl
theorem tm_584 : (Jvm.Cond.static ({ cls := "java/lang/StringLatin1", name := "indexOfChar", desc := "([BIII)I" } : Jvm.MethodName)) ∈ lw_tbl := tmR3 (i := 104) rfl
theorem tm_585 : (Jvm.Cond.code ({ cls := "java/lang/StringLatin1", name := "indexOfChar", desc := "([BIII)I" } : Jvm.MethodName) prog_15_method_23_code (6 : Nat) (Option.some Jvm.ClassFile.FieldType.int)) ∈ lw_tbl := tmR3 (i := 105) rfl
theorem tm_586 : (Jvm.Cond.methodLink "java/lang/String" (640 : Nat) ({ cls := "java/lang/StringUTF16", name := "indexOf", desc := "([BIII)I" } : Jvm.MethodName)) ∈ lw_tbl := tmR3 (i := 106) rfl
theorem tm_587 : (Jvm.Cond.static ({ cls := "java/lang/StringUTF16", name := "indexOf", desc := "([BIII)I" } : Jvm.MethodName)) ∈ lw_tbl := tmR3 (i := 107) rfl
theorem tm_588 : (Jvm.Cond.code ({ cls := "java/lang/StringUTF16", name := "indexOf", desc := "([BIII)I" } : Jvm.MethodName) prog_16_method_40_code (4 : Nat) (Option.some Jvm.ClassFile.FieldType.int)) ∈ lw_tbl := tmR3 (i := 108) rfl
theorem tm_589 : (Jvm.Cond.methodLink "java/lang/StringUTF16" (224 : Nat) ({ cls := "java/lang/Math", name := "max", desc := "(II)I" } : Jvm.MethodName)) ∈ lw_tbl := tmR3 (i := 109) rfl
theorem tm_590 : (Jvm.Cond.methodLink "java/lang/StringUTF16" (183 : Nat) ({ cls := "java/lang/Math", name := "min", desc := "(II)I" } : Jvm.MethodName)) ∈ lw_tbl := tmR3 (i := 110) rfl
theorem tm_591 : (Jvm.Cond.constant "java/lang/StringUTF16" (227 : Nat) (65536 : Int32)) ∈ lw_tbl := tmR3 (i := 111) rfl
theorem tm_592 : (Jvm.Cond.methodLink "java/lang/StringUTF16" (228 : Nat) ({ cls := "java/lang/StringUTF16", name := "indexOfChar", desc := "([BIII)I" } : Jvm.MethodName)) ∈ lw_tbl := tmR3 (i := 112) rfl
theorem tm_593 : (Jvm.Cond.static ({ cls := "java/lang/StringUTF16", name := "indexOfChar", desc := "([BIII)I" } : Jvm.MethodName)) ∈ lw_tbl := tmR3 (i := 113) rfl
theorem tm_594 : (Jvm.Cond.code ({ cls := "java/lang/StringUTF16", name := "indexOfChar", desc := "([BIII)I" } : Jvm.MethodName) prog_16_method_47_code (4 : Nat) (Option.some Jvm.ClassFile.FieldType.int)) ∈ lw_tbl := tmR3 (i := 114) rfl
theorem tm_595 : (Jvm.Cond.methodLink "java/lang/StringUTF16" (96 : Nat) ({ cls := "java/lang/StringUTF16", name := "checkBoundsBeginEnd", desc := "(II[B)V" } : Jvm.MethodName)) ∈ lw_tbl := tmR3 (i := 115) rfl
theorem tm_596 : (Jvm.Cond.static ({ cls := "java/lang/StringUTF16", name := "checkBoundsBeginEnd", desc := "(II[B)V" } : Jvm.MethodName)) ∈ lw_tbl := tmR3 (i := 116) rfl
theorem tm_597 : (Jvm.Cond.code ({ cls := "java/lang/StringUTF16", name := "checkBoundsBeginEnd", desc := "(II[B)V" } : Jvm.MethodName) prog_16_method_93_code (3 : Nat) (Option.none : Option Jvm.ClassFile.FieldType)) ∈ lw_tbl := tmR3 (i := 117) rfl
theorem tm_598 : (Jvm.Cond.methodLink "java/lang/StringUTF16" (241 : Nat) ({ cls := "java/lang/String", name := "checkBoundsBeginEnd", desc := "(III)V" } : Jvm.MethodName)) ∈ lw_tbl := tmR3 (i := 118) rfl
theorem tm_599 : (Jvm.Cond.static ({ cls := "java/lang/String", name := "checkBoundsBeginEnd", desc := "(III)V" } : Jvm.MethodName)) ∈ lw_tbl := tmR3 (i := 119) rfl
theorem tm_600 : (Jvm.Cond.code ({ cls := "java/lang/String", name := "checkBoundsBeginEnd", desc := "(III)V" } : Jvm.MethodName) prog_14_method_158_code (3 : Nat) (Option.none : Option Jvm.ClassFile.FieldType)) ∈ lw_tbl := tmR3 (i := 120) rfl
theorem tm_601 : (Jvm.Cond.methodLink "java/lang/String" (1062 : Nat) ({ cls := "jdk/internal/util/Preconditions", name := "checkFromToIndex", desc := "(IIILjava/util/function/BiFunction;)I" } : Jvm.MethodName)) ∈ lw_tbl := tmR3 (i := 121) rfl
theorem tm_602 : (Jvm.Cond.static ({ cls := "jdk/internal/util/Preconditions", name := "checkFromToIndex", desc := "(IIILjava/util/function/BiFunction;)I" } : Jvm.MethodName)) ∈ lw_tbl := tmR3 (i := 122) rfl
theorem tm_603 : (Jvm.Cond.code ({ cls := "jdk/internal/util/Preconditions", name := "checkFromToIndex", desc := "(IIILjava/util/function/BiFunction;)I" } : Jvm.MethodName) prog_20_method_12_code (4 : Nat) (Option.some Jvm.ClassFile.FieldType.int)) ∈ lw_tbl := tmR3 (i := 123) rfl
theorem tm_604 : (Jvm.Cond.methodLink "java/lang/StringUTF16" (244 : Nat) ({ cls := "java/lang/StringUTF16", name := "indexOfCharUnsafe", desc := "([BIII)I" } : Jvm.MethodName)) ∈ lw_tbl := tmR3 (i := 124) rfl
theorem tm_605 : (Jvm.Cond.static ({ cls := "java/lang/StringUTF16", name := "indexOfCharUnsafe", desc := "([BIII)I" } : Jvm.MethodName)) ∈ lw_tbl := tmR3 (i := 125) rfl
theorem tm_606 : (Jvm.Cond.code ({ cls := "java/lang/StringUTF16", name := "indexOfCharUnsafe", desc := "([BIII)I" } : Jvm.MethodName) prog_16_method_48_code (5 : Nat) (Option.some Jvm.ClassFile.FieldType.int)) ∈ lw_tbl := tmR3 (i := 126) rfl
theorem tm_607 : (Jvm.Cond.methodLink "java/lang/StringUTF16" (232 : Nat) ({ cls := "java/lang/StringUTF16", name := "indexOfSupplementary", desc := "([BIII)I" } : Jvm.MethodName)) ∈ lw_tbl := tmR3 (i := 127) rfl
theorem tm_608 : (Jvm.Cond.static ({ cls := "java/lang/StringUTF16", name := "indexOfSupplementary", desc := "([BIII)I" } : Jvm.MethodName)) ∈ lw_tbl := tmR3 (i := 128) rfl
theorem tm_609 : (Jvm.Cond.code ({ cls := "java/lang/StringUTF16", name := "indexOfSupplementary", desc := "([BIII)I" } : Jvm.MethodName) prog_16_method_49_code (7 : Nat) (Option.some Jvm.ClassFile.FieldType.int)) ∈ lw_tbl := tmR3 (i := 129) rfl
theorem tm_610 : (Jvm.Cond.methodLink "java/lang/StringUTF16" (164 : Nat) ({ cls := "java/lang/Character", name := "isValidCodePoint", desc := "(I)Z" } : Jvm.MethodName)) ∈ lw_tbl := tmR3 (i := 130) rfl
theorem tm_611 : (Jvm.Cond.static ({ cls := "java/lang/Character", name := "isValidCodePoint", desc := "(I)Z" } : Jvm.MethodName)) ∈ lw_tbl := tmR3 (i := 131) rfl
theorem tm_612 : (Jvm.Cond.code ({ cls := "java/lang/Character", name := "isValidCodePoint", desc := "(I)Z" } : Jvm.MethodName) prog_10_method_11_code (2 : Nat) (Option.some Jvm.ClassFile.FieldType.boolean)) ∈ lw_tbl := tmR3 (i := 132) rfl
theorem tm_613 : (Jvm.Cond.methodLink "java/lang/StringUTF16" (157 : Nat) ({ cls := "java/lang/Character", name := "highSurrogate", desc := "(I)C" } : Jvm.MethodName)) ∈ lw_tbl := tmR3 (i := 133) rfl
theorem tm_614 : (Jvm.Cond.static ({ cls := "java/lang/Character", name := "highSurrogate", desc := "(I)C" } : Jvm.MethodName)) ∈ lw_tbl := tmR3 (i := 134) rfl
theorem tm_615 : (Jvm.Cond.code ({ cls := "java/lang/Character", name := "highSurrogate", desc := "(I)C" } : Jvm.MethodName) prog_10_method_28_code (1 : Nat) (Option.some Jvm.ClassFile.FieldType.char)) ∈ lw_tbl := tmR3 (i := 135) rfl
theorem tm_616 : (Jvm.Cond.constant "java/lang/Character" (110 : Nat) (55232 : Int32)) ∈ lw_tbl := tmR3 (i := 136) rfl
theorem tm_617 : (Jvm.Cond.methodLink "java/lang/StringUTF16" (161 : Nat) ({ cls := "java/lang/Character", name := "lowSurrogate", desc := "(I)C" } : Jvm.MethodName)) ∈ lw_tbl := tmR3 (i := 137) rfl
theorem tm_618 : (Jvm.Cond.static ({ cls := "java/lang/Character", name := "lowSurrogate", desc := "(I)C" } : Jvm.MethodName)) ∈ lw_tbl := tmR3 (i := 138) rfl
theorem tm_619 : (Jvm.Cond.code ({ cls := "java/lang/Character", name := "lowSurrogate", desc := "(I)C" } : Jvm.MethodName) prog_10_method_29_code (1 : Nat) (Option.some Jvm.ClassFile.FieldType.char)) ∈ lw_tbl := tmR3 (i := 139) rfl
theorem tm_620 : (Jvm.Cond.constant "java/lang/Character" (76 : Nat) (56320 : Int32)) ∈ lw_tbl := tmR3 (i := 140) rfl
theorem tm_621 : (Jvm.Cond.constant "RowCode$Loader" (74 : Nat) (134217728 : Int32)) ∈ lw_tbl := tmR3 (i := 141) rfl
theorem tm_622 : (Jvm.Cond.constant "RowCode$Loader" (75 : Nat) (67108864 : Int32)) ∈ lw_tbl := tmR3 (i := 142) rfl
theorem tm_623 : (Jvm.Cond.constant "RowCode$Loader" (76 : Nat) (33554432 : Int32)) ∈ lw_tbl := tmR3 (i := 143) rfl
theorem tm_624 : (Jvm.Cond.constant "RowCode$Loader" (65 : Nat) (33554431 : Int32)) ∈ lw_tbl := tmR3 (i := 144) rfl
theorem tm_625 : (Jvm.Cond.constant "RowCode$Loader" (64 : Nat) (-33554432 : Int32)) ∈ lw_tbl := tmR3 (i := 145) rfl
theorem tm_626 : (Jvm.Cond.methodLink "RowCodeLaw" (36 : Nat) ({ cls := "RowCode", name := "run", desc := "(I)I" } : Jvm.MethodName)) ∈ lw_tbl := tmR3 (i := 146) rfl
theorem tm_627 : (Jvm.Cond.instanceMethod ({ cls := "RowCode", name := "run", desc := "(I)I" } : Jvm.MethodName)) ∈ lw_tbl := tmR3 (i := 147) rfl
theorem tm_628 : (Jvm.Cond.selects "RowCode" ({ cls := "RowCode", name := "run", desc := "(I)I" } : Jvm.MethodName) ({ cls := "RowCode", name := "run", desc := "(I)I" } : Jvm.MethodName)) ∈ lw_tbl := tmR3 (i := 148) rfl
theorem tm_629 : (Jvm.Cond.codeWith ({ cls := "RowCode", name := "run", desc := "(I)I" } : Jvm.MethodName) prog_1_method_20_code (3 : Nat) (Option.some Jvm.ClassFile.FieldType.int) [((53 : Nat), (60 : Nat), (60 : Nat), (147 : Nat))]) ∈ lw_tbl := tmR3 (i := 149) rfl
theorem tm_630 : (Jvm.Cond.classLink "RowCode" (147 : Nat) "RowCode$Ended") ∈ lw_tbl := tmR3 (i := 150) rfl
theorem tm_631 : (Jvm.Cond.methodLink "RowCode" (195 : Nat) ({ cls := "RowCode", name := "build", desc := "()Z" } : Jvm.MethodName)) ∈ lw_tbl := tmR3 (i := 151) rfl
theorem tm_632 : (Jvm.Cond.constant "RowCode" (160 : Nat) (65536 : Int32)) ∈ lw_tbl := tmR3 (i := 152) rfl
theorem tm_633 : (Jvm.Cond.methodLink "RowCode" (201 : Nat) ({ cls := "RowCode", name := "step", desc := "()V" } : Jvm.MethodName)) ∈ lw_tbl := tmR3 (i := 153) rfl
theorem tm_634 : (Jvm.Cond.privateMethod ({ cls := "RowCode", name := "step", desc := "()V" } : Jvm.MethodName)) ∈ lw_tbl := tmR3 (i := 154) rfl
theorem tm_635 : (Jvm.Cond.instanceMethod ({ cls := "RowCode", name := "step", desc := "()V" } : Jvm.MethodName)) ∈ lw_tbl := tmR3 (i := 155) rfl
theorem tm_636 : (Jvm.Cond.code ({ cls := "RowCode", name := "step", desc := "()V" } : Jvm.MethodName) prog_1_method_17_code (4 : Nat) (Option.none : Option Jvm.ClassFile.FieldType)) ∈ lw_tbl := tmR3 (i := 156) rfl
theorem tm_637 : (Jvm.Cond.constant "RowCode" (161 : Nat) (33554432 : Int32)) ∈ lw_tbl := tmR3 (i := 157) rfl
theorem tm_638 : (Jvm.Cond.constant "RowCode" (162 : Nat) (67108864 : Int32)) ∈ lw_tbl := tmR3 (i := 158) rfl
theorem tm_639 : (Jvm.Cond.constant "RowCode" (169 : Nat) (134217728 : Int32)) ∈ lw_tbl := tmR3 (i := 159) rfl
theorem tm_640 : (Jvm.Cond.methodLink "RowCode" (170 : Nat) ({ cls := "RowCode", name := "does", desc := "(I)V" } : Jvm.MethodName)) ∈ lw_tbl := tmR3 (i := 160) rfl
theorem tm_641 : (Jvm.Cond.privateMethod ({ cls := "RowCode", name := "does", desc := "(I)V" } : Jvm.MethodName)) ∈ lw_tbl := tmR3 (i := 161) rfl
theorem tm_642 : (Jvm.Cond.instanceMethod ({ cls := "RowCode", name := "does", desc := "(I)V" } : Jvm.MethodName)) ∈ lw_tbl := tmR3 (i := 162) rfl
theorem tm_643 : (Jvm.Cond.code ({ cls := "RowCode", name := "does", desc := "(I)V" } : Jvm.MethodName) prog_1_method_18_code (4 : Nat) (Option.none : Option Jvm.ClassFile.FieldType)) ∈ lw_tbl := tmR3 (i := 163) rfl
theorem tm_644 : (Jvm.Cond.methodLink "RowCode" (173 : Nat) ({ cls := "RowCode", name := "isWord", desc := "(J)Z" } : Jvm.MethodName)) ∈ lw_tbl := tmR3 (i := 164) rfl
theorem tm_645 : (Jvm.Cond.static ({ cls := "RowCode", name := "isWord", desc := "(J)Z" } : Jvm.MethodName)) ∈ lw_tbl := tmR3 (i := 165) rfl
theorem tm_646 : (Jvm.Cond.code ({ cls := "RowCode", name := "isWord", desc := "(J)Z" } : Jvm.MethodName) prog_1_method_16_code (2 : Nat) (Option.some Jvm.ClassFile.FieldType.boolean)) ∈ lw_tbl := tmR3 (i := 166) rfl
theorem tm_647 : (Jvm.Cond.constantLong "RowCode" (152 : Nat) (64 : Int64)) ∈ lw_tbl := tmR3 (i := 167) rfl
theorem tm_648 : (Jvm.Cond.methodLink "RowCode" (177 : Nat) ({ cls := "RowCode", name := "must", desc := "(ZI)V" } : Jvm.MethodName)) ∈ lw_tbl := tmR3 (i := 168) rfl
theorem tm_649 : (Jvm.Cond.static ({ cls := "RowCode", name := "must", desc := "(ZI)V" } : Jvm.MethodName)) ∈ lw_tbl := tmR3 (i := 169) rfl
theorem tm_650 : (Jvm.Cond.code ({ cls := "RowCode", name := "must", desc := "(ZI)V" } : Jvm.MethodName) prog_1_method_15_code (2 : Nat) (Option.none : Option Jvm.ClassFile.FieldType)) ∈ lw_tbl := tmR3 (i := 170) rfl
theorem tm_651 : (Jvm.Cond.instantiable "RowCode$Ended" (7 : Nat)) ∈ lw_tbl := tmR3 (i := 171) rfl
theorem tm_652 : (Jvm.Cond.castable "RowCode$Ended" "RowCode$Ended") ∈ lw_tbl := tmR3 (i := 172) rfl
theorem tm_653 : (Jvm.Cond.declares ({ cls := "java/lang/RuntimeException", name := "<init>", desc := "()V" } : Jvm.MethodName)) ∈ lw_tbl := tmR3 (i := 173) rfl
theorem tm_654 : (Jvm.Cond.declares ({ cls := "java/lang/RuntimeException", name := "<init>", desc := "(Ljava/lang/String;)V" } : Jvm.MethodName)) ∈ lw_tbl := tmR3 (i := 174) rfl
theorem tm_655 : (Jvm.Cond.declares ({ cls := "java/lang/Exception", name := "<init>", desc := "()V" } : Jvm.MethodName)) ∈ lw_tbl := tmR3 (i := 175) rfl
theorem tm_656 : (Jvm.Cond.declares ({ cls := "java/lang/Exception", name := "<init>", desc := "(Ljava/lang/String;)V" } : Jvm.MethodName)) ∈ lw_tbl := tmR3 (i := 176) rfl
theorem tm_657 : (Jvm.Cond.declares ({ cls := "java/lang/Throwable", name := "<init>", desc := "()V" } : Jvm.MethodName)) ∈ lw_tbl := tmR3 (i := 177) rfl
theorem tm_658 : (Jvm.Cond.declares ({ cls := "java/lang/Throwable", name := "<init>", desc := "(Ljava/lang/String;)V" } : Jvm.MethodName)) ∈ lw_tbl := tmR3 (i := 178) rfl
theorem tm_659 : (Jvm.Cond.selects "RowCode$Ended" ({ cls := "java/lang/Throwable", name := "fillInStackTrace", desc := "(I)Ljava/lang/Throwable;" } : Jvm.MethodName) ({ cls := "java/lang/Throwable", name := "fillInStackTrace", desc := "(I)Ljava/lang/Throwable;" } : Jvm.MethodName)) ∈ lw_tbl := tmR3 (i := 179) rfl
theorem tm_660 : (Jvm.Cond.selects "RowCode$Ended" ({ cls := "java/lang/Throwable", name := "fillInStackTrace", desc := "()Ljava/lang/Throwable;" } : Jvm.MethodName) ({ cls := "java/lang/Throwable", name := "fillInStackTrace", desc := "()Ljava/lang/Throwable;" } : Jvm.MethodName)) ∈ lw_tbl := tmR3 (i := 180) rfl
theorem tm_661 : (Jvm.Cond.lays "RowCode$Ended" "java/lang/Throwable" "cause" "Ljava/lang/Throwable;") ∈ lw_tbl := tmR3 (i := 181) rfl
theorem tm_662 : (Jvm.Cond.lays "java/lang/Throwable" "java/lang/Throwable" "cause" "Ljava/lang/Throwable;") ∈ lw_tbl := tmR3 (i := 182) rfl
theorem tm_663 : (Jvm.Cond.lays "RowCode$Ended" "java/lang/Throwable" "stackTrace" "[Ljava/lang/StackTraceElement;") ∈ lw_tbl := tmR3 (i := 183) rfl
theorem tm_664 : (Jvm.Cond.lays "java/lang/Throwable" "java/lang/Throwable" "stackTrace" "[Ljava/lang/StackTraceElement;") ∈ lw_tbl := tmR3 (i := 184) rfl
theorem tm_665 : (Jvm.Cond.lays "RowCode$Ended" "java/lang/Throwable" "suppressedExceptions" "Ljava/util/List;") ∈ lw_tbl := tmR3 (i := 185) rfl
theorem tm_666 : (Jvm.Cond.lays "java/lang/Throwable" "java/lang/Throwable" "suppressedExceptions" "Ljava/util/List;") ∈ lw_tbl := tmR3 (i := 186) rfl
theorem tm_667 : (Jvm.Cond.lays "RowCode$Ended" "java/lang/Throwable" "detailMessage" "Ljava/lang/String;") ∈ lw_tbl := tmR3 (i := 187) rfl
theorem tm_668 : (Jvm.Cond.lays "java/lang/Throwable" "java/lang/Throwable" "detailMessage" "Ljava/lang/String;") ∈ lw_tbl := tmR3 (i := 188) rfl
theorem tm_669 : (Jvm.Cond.lays "RowCode$Ended" "java/lang/Throwable" "backtrace" "Ljava/lang/Object;") ∈ lw_tbl := tmR3 (i := 189) rfl
theorem tm_670 : (Jvm.Cond.lays "java/lang/Throwable" "java/lang/Throwable" "backtrace" "Ljava/lang/Object;") ∈ lw_tbl := tmR3 (i := 190) rfl
theorem tm_671 : (Jvm.Cond.fieldLink "java/lang/Throwable" (198 : Nat) "java/lang/Throwable" "backtrace" "Ljava/lang/Object;") ∈ lw_tbl := tmR3 (i := 191) rfl
theorem tm_672 : (Jvm.Cond.superclass "java/lang/Throwable" "java/lang/Object") ∈ lw_tbl := tmR3 (i := 192) rfl
theorem tm_673 : (Jvm.Cond.instanceMethod ({ cls := "java/lang/Throwable", name := "<init>", desc := "()V" } : Jvm.MethodName)) ∈ lw_tbl := tmR3 (i := 193) rfl
theorem tm_674 : (Jvm.Cond.code ({ cls := "java/lang/Throwable", name := "<init>", desc := "()V" } : Jvm.MethodName) prog_18_method_1_code (1 : Nat) (Option.none : Option Jvm.ClassFile.FieldType)) ∈ lw_tbl := tmR3 (i := 194) rfl
theorem tm_675 : (Jvm.Cond.methodLink "java/lang/Throwable" (1 : Nat) ({ cls := "java/lang/Object", name := "<init>", desc := "()V" } : Jvm.MethodName)) ∈ lw_tbl := tmR3 (i := 195) rfl
theorem tm_676 : (Jvm.Cond.fieldLink "java/lang/Throwable" (13 : Nat) "java/lang/Throwable" "UNASSIGNED_STACK" "[Ljava/lang/StackTraceElement;") ∈ lw_tbl := tmR3 (i := 196) rfl
theorem tm_677 : (Jvm.Cond.laysStatic "java/lang/Throwable" "UNASSIGNED_STACK" "[Ljava/lang/StackTraceElement;") ∈ lw_tbl := tmR3 (i := 197) rfl
theorem tm_678 : (Jvm.Cond.fieldLink "java/lang/Throwable" (20 : Nat) "java/lang/Throwable" "SUPPRESSED_SENTINEL" "Ljava/util/List;") ∈ lw_tbl := tmR3 (i := 198) rfl
theorem tm_679 : (Jvm.Cond.laysStatic "java/lang/Throwable" "SUPPRESSED_SENTINEL" "Ljava/util/List;") ∈ lw_tbl := tmR3 (i := 199) rfl
theorem tm_680 : (Jvm.Cond.methodLink "java/lang/Throwable" (27 : Nat) ({ cls := "java/lang/Throwable", name := "fillInStackTrace", desc := "()Ljava/lang/Throwable;" } : Jvm.MethodName)) ∈ lw_tbl := tmR3 (i := 200) rfl
theorem tm_681 : (Jvm.Cond.instanceMethod ({ cls := "java/lang/Throwable", name := "fillInStackTrace", desc := "()Ljava/lang/Throwable;" } : Jvm.MethodName)) ∈ lw_tbl := tmR3 (i := 201) rfl
theorem tm_682 : (Jvm.Cond.sameMethod "java/lang/Throwable" "java/lang/Throwable" "fillInStackTrace" "()Ljava/lang/Throwable;") ∈ lw_tbl := tmR3 (i := 202) rfl
theorem tm_683 : (Jvm.Cond.selects "java/util/NoSuchElementException" ({ cls := "java/lang/Throwable", name := "fillInStackTrace", desc := "()Ljava/lang/Throwable;" } : Jvm.MethodName) ({ cls := "java/lang/Throwable", name := "fillInStackTrace", desc := "()Ljava/lang/Throwable;" } : Jvm.MethodName)) ∈ lw_tbl := tmR3 (i := 203) rfl
theorem tm_684 : (Jvm.Cond.codeSync ({ cls := "java/lang/Throwable", name := "fillInStackTrace", desc := "()Ljava/lang/Throwable;" } : Jvm.MethodName) prog_18_method_18_code (1 : Nat) (Option.some (Jvm.ClassFile.FieldType.object "java/lang/Throwable"))) ∈ lw_tbl := tmR3 (i := 204) rfl
theorem tm_685 : (Jvm.Cond.methodLink "java/lang/Throwable" (202 : Nat) ({ cls := "java/lang/Throwable", name := "fillInStackTrace", desc := "(I)Ljava/lang/Throwable;" } : Jvm.MethodName)) ∈ lw_tbl := tmR3 (i := 205) rfl
theorem tm_686 : (Jvm.Cond.privateMethod ({ cls := "java/lang/Throwable", name := "fillInStackTrace", desc := "(I)Ljava/lang/Throwable;" } : Jvm.MethodName)) ∈ lw_tbl := tmR3 (i := 206) rfl
theorem tm_687 : (Jvm.Cond.instanceMethod ({ cls := "java/lang/Throwable", name := "fillInStackTrace", desc := "(I)Ljava/lang/Throwable;" } : Jvm.MethodName)) ∈ lw_tbl := tmR3 (i := 207) rfl
theorem tm_688 : (Jvm.Cond.instantiable "java/lang/Throwable" (6 : Nat)) ∈ lw_tbl := tmR3 (i := 208) rfl
theorem tm_689 : (Jvm.Cond.native ({ cls := "java/lang/Throwable", name := "fillInStackTrace", desc := "(I)Ljava/lang/Throwable;" } : Jvm.MethodName)) ∈ lw_tbl := tmR3 (i := 209) rfl
theorem tm_690 : (Jvm.Cond.methodLink "RowCode" (149 : Nat) ({ cls := "RowCode$Ended", name := "<init>", desc := "(I)V" } : Jvm.MethodName)) ∈ lw_tbl := tmR3 (i := 210) rfl
theorem tm_691 : (Jvm.Cond.instanceMethod ({ cls := "RowCode$Ended", name := "<init>", desc := "(I)V" } : Jvm.MethodName)) ∈ lw_tbl := tmR3 (i := 211) rfl
theorem tm_692 : (Jvm.Cond.code ({ cls := "RowCode$Ended", name := "<init>", desc := "(I)V" } : Jvm.MethodName) prog_4_method_1_code (2 : Nat) (Option.none : Option Jvm.ClassFile.FieldType)) ∈ lw_tbl := tmR3 (i := 212) rfl
theorem tm_693 : (Jvm.Cond.methodLink "RowCode$Ended" (1 : Nat) ({ cls := "java/lang/RuntimeException", name := "<init>", desc := "()V" } : Jvm.MethodName)) ∈ lw_tbl := tmR3 (i := 213) rfl
theorem tm_694 : (Jvm.Cond.instanceMethod ({ cls := "java/lang/RuntimeException", name := "<init>", desc := "()V" } : Jvm.MethodName)) ∈ lw_tbl := tmR3 (i := 214) rfl
theorem tm_695 : (Jvm.Cond.code ({ cls := "java/lang/RuntimeException", name := "<init>", desc := "()V" } : Jvm.MethodName) prog_13_method_1_code (1 : Nat) (Option.none : Option Jvm.ClassFile.FieldType)) ∈ lw_tbl := tmR3 (i := 215) rfl
theorem tm_696 : (Jvm.Cond.methodLink "java/lang/RuntimeException" (1 : Nat) ({ cls := "java/lang/Exception", name := "<init>", desc := "()V" } : Jvm.MethodName)) ∈ lw_tbl := tmR3 (i := 216) rfl
theorem tm_697 : (Jvm.Cond.instanceMethod ({ cls := "java/lang/Exception", name := "<init>", desc := "()V" } : Jvm.MethodName)) ∈ lw_tbl := tmR3 (i := 217) rfl
theorem tm_698 : (Jvm.Cond.code ({ cls := "java/lang/Exception", name := "<init>", desc := "()V" } : Jvm.MethodName) prog_11_method_1_code (1 : Nat) (Option.none : Option Jvm.ClassFile.FieldType)) ∈ lw_tbl := tmR3 (i := 218) rfl
theorem tm_699 : (Jvm.Cond.methodLink "java/lang/Exception" (1 : Nat) ({ cls := "java/lang/Throwable", name := "<init>", desc := "()V" } : Jvm.MethodName)) ∈ lw_tbl := tmR3 (i := 219) rfl
theorem tm_700 : (Jvm.Cond.fieldLink "RowCode$Ended" (7 : Nat) "RowCode$Ended" "how" "I") ∈ lw_tbl := tmR3 (i := 220) rfl
theorem tm_701 : (Jvm.Cond.fieldLink "RowCode" (204 : Nat) "RowCode$Ended" "how" "I") ∈ lw_tbl := tmR3 (i := 221) rfl
theorem tm_702 : (Jvm.Cond.fieldLink "java/lang/Throwable" (198 : Nat) "java/lang/Throwable" "backtrace" "Ljava/lang/Object;") ∈ lw_tbl := tmR3 (i := 222) rfl
theorem tm_703 : (Jvm.Cond.fieldLink "java/lang/Throwable" (7 : Nat) "java/lang/Throwable" "cause" "Ljava/lang/Throwable;") ∈ lw_tbl := tmR3 (i := 223) rfl
theorem tm_704 : (Jvm.Cond.fieldLink "java/lang/Throwable" (17 : Nat) "java/lang/Throwable" "stackTrace" "[Ljava/lang/StackTraceElement;") ∈ lw_tbl := tmR3 (i := 224) rfl
theorem tm_705 : (Jvm.Cond.fieldLink "java/lang/Throwable" (24 : Nat) "java/lang/Throwable" "suppressedExceptions" "Ljava/util/List;") ∈ lw_tbl := tmR3 (i := 225) rfl
theorem tm_706 : (Jvm.Cond.laysFinal "RowCode$Ended" "RowCode$Ended" "how" "I") ∈ lw_tbl := tmR3 (i := 226) rfl
theorem tm_707 : (Jvm.Cond.soleField "RowCode$Ended" "how") ∈ lw_tbl := tmR3 (i := 227) rfl
theorem tm_708 : (Jvm.Cond.soleField "java/lang/Throwable" "backtrace") ∈ lw_tbl := tmR3 (i := 228) rfl
theorem tm_709 : (Jvm.Cond.soleField "java/lang/Throwable" "detailMessage") ∈ lw_tbl := tmR3 (i := 229) rfl
theorem tm_710 : (Jvm.Cond.soleField "java/lang/Throwable" "cause") ∈ lw_tbl := tmR3 (i := 230) rfl
theorem tm_711 : (Jvm.Cond.soleField "java/lang/Throwable" "stackTrace") ∈ lw_tbl := tmR3 (i := 231) rfl
theorem tm_712 : (Jvm.Cond.lays "RowCode$Ended" "java/lang/Throwable" "depth" "I") ∈ lw_tbl := tmR3 (i := 232) rfl
theorem tm_713 : (Jvm.Cond.soleField "java/lang/Throwable" "depth") ∈ lw_tbl := tmR3 (i := 233) rfl
theorem tm_714 : (Jvm.Cond.soleField "java/lang/Throwable" "suppressedExceptions") ∈ lw_tbl := tmR3 (i := 234) rfl
theorem tm_715 : (Jvm.Cond.superclass "RowCode$Ended" "java/lang/RuntimeException") ∈ lw_tbl := tmR3 (i := 235) rfl
theorem tm_716 : (Jvm.Cond.methodLink "RowCode" (184 : Nat) ({ cls := "RowCode", name := "reckons", desc := "(I)V" } : Jvm.MethodName)) ∈ lw_tbl := tmR3 (i := 236) rfl
theorem tm_717 : (Jvm.Cond.privateMethod ({ cls := "RowCode", name := "reckons", desc := "(I)V" } : Jvm.MethodName)) ∈ lw_tbl := tmR3 (i := 237) rfl
theorem tm_718 : (Jvm.Cond.instanceMethod ({ cls := "RowCode", name := "reckons", desc := "(I)V" } : Jvm.MethodName)) ∈ lw_tbl := tmR3 (i := 238) rfl
theorem tm_719 : (Jvm.Cond.code ({ cls := "RowCode", name := "reckons", desc := "(I)V" } : Jvm.MethodName) prog_1_method_19_code (3 : Nat) (Option.none : Option Jvm.ClassFile.FieldType)) ∈ lw_tbl := tmR3 (i := 239) rfl
theorem tm_720 : (Jvm.Cond.methodLink "RowCode" (187 : Nat) ({ cls := "RowCode", name := "holds", desc := "(III)Z" } : Jvm.MethodName)) ∈ lw_tbl := tmR4 (i := 0) rfl
theorem tm_721 : (Jvm.Cond.methodLink "RowCode" (191 : Nat) ({ cls := "RowCode", name := "operated", desc := "(III)I" } : Jvm.MethodName)) ∈ lw_tbl := tmR4 (i := 1) rfl
theorem tm_722 : (Jvm.Cond.methodLink "RowCodeLaw" (40 : Nat) ({ cls := "RowCode", name := "value", desc := "()I" } : Jvm.MethodName)) ∈ lw_tbl := tmR4 (i := 2) rfl
theorem tm_723 : (Jvm.Cond.instanceMethod ({ cls := "RowCode", name := "value", desc := "()I" } : Jvm.MethodName)) ∈ lw_tbl := tmR4 (i := 3) rfl
theorem tm_724 : (Jvm.Cond.selects "RowCode" ({ cls := "RowCode", name := "value", desc := "()I" } : Jvm.MethodName) ({ cls := "RowCode", name := "value", desc := "()I" } : Jvm.MethodName)) ∈ lw_tbl := tmR4 (i := 4) rfl
theorem tm_725 : (Jvm.Cond.code ({ cls := "RowCode", name := "value", desc := "()I" } : Jvm.MethodName) prog_1_method_21_code (1 : Nat) (Option.some Jvm.ClassFile.FieldType.int)) ∈ lw_tbl := tmR4 (i := 5) rfl
theorem tm_726 : (Jvm.Cond.methodLink "RowCodeLaw" (45 : Nat) ({ cls := "RowCode", name := "fuel", desc := "()I" } : Jvm.MethodName)) ∈ lw_tbl := tmR4 (i := 6) rfl
theorem tm_727 : (Jvm.Cond.instanceMethod ({ cls := "RowCode", name := "fuel", desc := "()I" } : Jvm.MethodName)) ∈ lw_tbl := tmR4 (i := 7) rfl
theorem tm_728 : (Jvm.Cond.selects "RowCode" ({ cls := "RowCode", name := "fuel", desc := "()I" } : Jvm.MethodName) ({ cls := "RowCode", name := "fuel", desc := "()I" } : Jvm.MethodName)) ∈ lw_tbl := tmR4 (i := 8) rfl
theorem tm_729 : (Jvm.Cond.code ({ cls := "RowCode", name := "fuel", desc := "()I" } : Jvm.MethodName) prog_1_method_22_code (1 : Nat) (Option.some Jvm.ClassFile.FieldType.int)) ∈ lw_tbl := tmR4 (i := 9) rfl
theorem tm_730 : (Jvm.Cond.methodLink "RowCodeLaw" (49 : Nat) ({ cls := "RowCode", name := "set", desc := "(II)I" } : Jvm.MethodName)) ∈ lw_tbl := tmR4 (i := 10) rfl
theorem tm_731 : (Jvm.Cond.instanceMethod ({ cls := "RowCode", name := "set", desc := "(II)I" } : Jvm.MethodName)) ∈ lw_tbl := tmR4 (i := 11) rfl
theorem tm_732 : (Jvm.Cond.selects "RowCode" ({ cls := "RowCode", name := "set", desc := "(II)I" } : Jvm.MethodName) ({ cls := "RowCode", name := "set", desc := "(II)I" } : Jvm.MethodName)) ∈ lw_tbl := tmR4 (i := 12) rfl
theorem tm_733 : (Jvm.Cond.code ({ cls := "RowCode", name := "set", desc := "(II)I" } : Jvm.MethodName) prog_1_method_23_code (4 : Nat) (Option.some Jvm.ClassFile.FieldType.int)) ∈ lw_tbl := tmR4 (i := 13) rfl
theorem tm_734 : (Jvm.Cond.methodLink "RowCodeLaw" (62 : Nat) ({ cls := "RowCode", name := "put", desc := "(II)I" } : Jvm.MethodName)) ∈ lw_tbl := tmR4 (i := 14) rfl
theorem tm_735 : (Jvm.Cond.instanceMethod ({ cls := "RowCode", name := "put", desc := "(II)I" } : Jvm.MethodName)) ∈ lw_tbl := tmR4 (i := 15) rfl
theorem tm_736 : (Jvm.Cond.selects "RowCode" ({ cls := "RowCode", name := "put", desc := "(II)I" } : Jvm.MethodName) ({ cls := "RowCode", name := "put", desc := "(II)I" } : Jvm.MethodName)) ∈ lw_tbl := tmR4 (i := 16) rfl
theorem tm_737 : (Jvm.Cond.code ({ cls := "RowCode", name := "put", desc := "(II)I" } : Jvm.MethodName) prog_1_method_25_code (4 : Nat) (Option.some Jvm.ClassFile.FieldType.int)) ∈ lw_tbl := tmR4 (i := 17) rfl
theorem tm_738 : (Jvm.Cond.methodLink "RowCodeLaw" (53 : Nat) ({ cls := "RowCodeLaw", name := "local", desc := "(LRowCode;I[J)I" } : Jvm.MethodName)) ∈ lw_tbl := tmR4 (i := 18) rfl
theorem tm_739 : (Jvm.Cond.static ({ cls := "RowCodeLaw", name := "local", desc := "(LRowCode;I[J)I" } : Jvm.MethodName)) ∈ lw_tbl := tmR4 (i := 19) rfl
theorem tm_740 : (Jvm.Cond.codeWith ({ cls := "RowCodeLaw", name := "local", desc := "(LRowCode;I[J)I" } : Jvm.MethodName) method_3_code (4 : Nat) (Option.some Jvm.ClassFile.FieldType.int) [((0 : Nat), (9 : Nat), (12 : Nat), (13 : Nat))]) ∈ lw_tbl := tmR4 (i := 20) rfl
theorem tm_741 : (Jvm.Cond.classLink "RowCodeLaw" (13 : Nat) "java/util/NoSuchElementException") ∈ lw_tbl := tmR4 (i := 21) rfl
theorem tm_742 : (Jvm.Cond.methodLink "RowCodeLaw" (7 : Nat) ({ cls := "RowCode", name := "local", desc := "(I)I" } : Jvm.MethodName)) ∈ lw_tbl := tmR4 (i := 22) rfl
theorem tm_743 : (Jvm.Cond.instanceMethod ({ cls := "RowCode", name := "local", desc := "(I)I" } : Jvm.MethodName)) ∈ lw_tbl := tmR4 (i := 23) rfl
theorem tm_744 : (Jvm.Cond.selects "RowCode" ({ cls := "RowCode", name := "local", desc := "(I)I" } : Jvm.MethodName) ({ cls := "RowCode", name := "local", desc := "(I)I" } : Jvm.MethodName)) ∈ lw_tbl := tmR4 (i := 24) rfl
theorem tm_745 : (Jvm.Cond.code ({ cls := "RowCode", name := "local", desc := "(I)I" } : Jvm.MethodName) prog_1_method_24_code (2 : Nat) (Option.some Jvm.ClassFile.FieldType.int)) ∈ lw_tbl := tmR4 (i := 25) rfl
theorem tm_746 : (Jvm.Cond.classLink "RowCode" (207 : Nat) "java/util/NoSuchElementException") ∈ lw_tbl := tmR4 (i := 26) rfl
theorem tm_747 : (Jvm.Cond.instantiable "java/util/NoSuchElementException" (6 : Nat)) ∈ lw_tbl := tmR4 (i := 27) rfl
theorem tm_748 : (Jvm.Cond.castable "java/util/NoSuchElementException" "java/util/NoSuchElementException") ∈ lw_tbl := tmR4 (i := 28) rfl
theorem tm_749 : (Jvm.Cond.selects "java/util/NoSuchElementException" ({ cls := "java/lang/Throwable", name := "fillInStackTrace", desc := "(I)Ljava/lang/Throwable;" } : Jvm.MethodName) ({ cls := "java/lang/Throwable", name := "fillInStackTrace", desc := "(I)Ljava/lang/Throwable;" } : Jvm.MethodName)) ∈ lw_tbl := tmR4 (i := 29) rfl
theorem tm_750 : (Jvm.Cond.lays "java/util/NoSuchElementException" "java/lang/Throwable" "cause" "Ljava/lang/Throwable;") ∈ lw_tbl := tmR4 (i := 30) rfl
theorem tm_751 : (Jvm.Cond.lays "java/util/NoSuchElementException" "java/lang/Throwable" "stackTrace" "[Ljava/lang/StackTraceElement;") ∈ lw_tbl := tmR4 (i := 31) rfl
theorem tm_752 : (Jvm.Cond.lays "java/util/NoSuchElementException" "java/lang/Throwable" "suppressedExceptions" "Ljava/util/List;") ∈ lw_tbl := tmR4 (i := 32) rfl
theorem tm_753 : (Jvm.Cond.lays "java/util/NoSuchElementException" "java/lang/Throwable" "detailMessage" "Ljava/lang/String;") ∈ lw_tbl := tmR4 (i := 33) rfl
theorem tm_754 : (Jvm.Cond.lays "java/util/NoSuchElementException" "java/lang/Throwable" "backtrace" "Ljava/lang/Object;") ∈ lw_tbl := tmR4 (i := 34) rfl
theorem tm_755 : (Jvm.Cond.methodLink "RowCode" (209 : Nat) ({ cls := "java/util/NoSuchElementException", name := "<init>", desc := "()V" } : Jvm.MethodName)) ∈ lw_tbl := tmR4 (i := 35) rfl
theorem tm_756 : (Jvm.Cond.instanceMethod ({ cls := "java/util/NoSuchElementException", name := "<init>", desc := "()V" } : Jvm.MethodName)) ∈ lw_tbl := tmR4 (i := 36) rfl
theorem tm_757 : (Jvm.Cond.code ({ cls := "java/util/NoSuchElementException", name := "<init>", desc := "()V" } : Jvm.MethodName) prog_19_method_1_code (1 : Nat) (Option.none : Option Jvm.ClassFile.FieldType)) ∈ lw_tbl := tmR4 (i := 37) rfl
theorem tm_758 : (Jvm.Cond.methodLink "java/util/NoSuchElementException" (1 : Nat) ({ cls := "java/lang/RuntimeException", name := "<init>", desc := "()V" } : Jvm.MethodName)) ∈ lw_tbl := tmR4 (i := 38) rfl
theorem tm_759 : (Jvm.Cond.lays "java/util/NoSuchElementException" "java/lang/Throwable" "depth" "I") ∈ lw_tbl := tmR4 (i := 39) rfl
theorem tm_760 : (Jvm.Cond.superclass "java/util/NoSuchElementException" "java/lang/RuntimeException") ∈ lw_tbl := tmR4 (i := 40) rfl
theorem tm_761 : (Jvm.Cond.methodLink "RowCodeLaw" (66 : Nat) ({ cls := "RowCodeLaw", name := "word", desc := "(LRowCode;I[J)I" } : Jvm.MethodName)) ∈ lw_tbl := tmR4 (i := 41) rfl
theorem tm_762 : (Jvm.Cond.static ({ cls := "RowCodeLaw", name := "word", desc := "(LRowCode;I[J)I" } : Jvm.MethodName)) ∈ lw_tbl := tmR4 (i := 42) rfl
theorem tm_763 : (Jvm.Cond.codeWith ({ cls := "RowCodeLaw", name := "word", desc := "(LRowCode;I[J)I" } : Jvm.MethodName) method_4_code (4 : Nat) (Option.some Jvm.ClassFile.FieldType.int) [((0 : Nat), (9 : Nat), (12 : Nat), (13 : Nat))]) ∈ lw_tbl := tmR4 (i := 43) rfl
theorem tm_764 : (Jvm.Cond.methodLink "RowCodeLaw" (15 : Nat) ({ cls := "RowCode", name := "word", desc := "(I)I" } : Jvm.MethodName)) ∈ lw_tbl := tmR4 (i := 44) rfl
theorem tm_765 : (Jvm.Cond.instanceMethod ({ cls := "RowCode", name := "word", desc := "(I)I" } : Jvm.MethodName)) ∈ lw_tbl := tmR4 (i := 45) rfl
theorem tm_766 : (Jvm.Cond.selects "RowCode" ({ cls := "RowCode", name := "word", desc := "(I)I" } : Jvm.MethodName) ({ cls := "RowCode", name := "word", desc := "(I)I" } : Jvm.MethodName)) ∈ lw_tbl := tmR4 (i := 46) rfl
theorem tm_767 : (Jvm.Cond.code ({ cls := "RowCode", name := "word", desc := "(I)I" } : Jvm.MethodName) prog_1_method_26_code (2 : Nat) (Option.some Jvm.ClassFile.FieldType.int)) ∈ lw_tbl := tmR4 (i := 47) rfl
theorem tm_768 : (Jvm.Cond.classLink "RowCodeLaw" (19 : Nat) "RowCodeModel") ∈ lw_tbl := tmR4 (i := 48) rfl
theorem tm_769 : (Jvm.Cond.instantiable "RowCodeModel" (12 : Nat)) ∈ lw_tbl := tmR4 (i := 49) rfl
theorem tm_770 : (Jvm.Cond.methodLink "RowCodeLaw" (21 : Nat) ({ cls := "RowCodeModel", name := "<init>", desc := "()V" } : Jvm.MethodName)) ∈ lw_tbl := tmR4 (i := 50) rfl
theorem tm_771 : (Jvm.Cond.instanceMethod ({ cls := "RowCodeModel", name := "<init>", desc := "()V" } : Jvm.MethodName)) ∈ lw_tbl := tmR4 (i := 51) rfl
theorem tm_772 : (Jvm.Cond.code ({ cls := "RowCodeModel", name := "<init>", desc := "()V" } : Jvm.MethodName) prog_9_method_1_code (1 : Nat) (Option.none : Option Jvm.ClassFile.FieldType)) ∈ lw_tbl := tmR4 (i := 52) rfl
theorem tm_773 : (Jvm.Cond.methodLink "RowCodeModel" (1 : Nat) ({ cls := "java/lang/Object", name := "<init>", desc := "()V" } : Jvm.MethodName)) ∈ lw_tbl := tmR4 (i := 53) rfl
theorem tm_774 : (Jvm.Cond.fieldLink "RowCodeModel" (32 : Nat) "RowCodeModel" "thrown" "I") ∈ lw_tbl := tmR4 (i := 54) rfl
theorem tm_775 : (Jvm.Cond.fieldLink "RowCodeModel" (36 : Nat) "RowCodeModel" "size" "I") ∈ lw_tbl := tmR4 (i := 55) rfl
theorem tm_776 : (Jvm.Cond.fieldLink "RowCodeModel" (7 : Nat) "RowCodeModel" "numbers" "[I") ∈ lw_tbl := tmR4 (i := 56) rfl
theorem tm_777 : (Jvm.Cond.fieldLink "RowCodeModel" (13 : Nat) "RowCodeModel" "args" "[I") ∈ lw_tbl := tmR4 (i := 57) rfl
theorem tm_778 : (Jvm.Cond.fieldLink "RowCodeModel" (16 : Nat) "RowCodeModel" "locals" "[I") ∈ lw_tbl := tmR4 (i := 58) rfl
theorem tm_779 : (Jvm.Cond.fieldLink "RowCodeModel" (19 : Nat) "RowCodeModel" "words" "[I") ∈ lw_tbl := tmR4 (i := 59) rfl
theorem tm_780 : (Jvm.Cond.fieldLink "RowCodeModel" (106 : Nat) "RowCodeModel" "value" "I") ∈ lw_tbl := tmR4 (i := 60) rfl
theorem tm_781 : (Jvm.Cond.fieldLink "RowCodeModel" (103 : Nat) "RowCodeModel" "fuel" "I") ∈ lw_tbl := tmR4 (i := 61) rfl
theorem tm_782 : (Jvm.Cond.fieldLink "RowCodeModel" (22 : Nat) "RowCodeModel" "heights" "[I") ∈ lw_tbl := tmR4 (i := 62) rfl
theorem tm_783 : (Jvm.Cond.fieldLink "RowCodeModel" (25 : Nat) "RowCodeModel" "gone" "[Z") ∈ lw_tbl := tmR4 (i := 63) rfl
theorem tm_784 : (Jvm.Cond.fieldLink "RowCodeModel" (29 : Nat) "RowCodeModel" "row" "[I") ∈ lw_tbl := tmR4 (i := 64) rfl
theorem tm_785 : (Jvm.Cond.fieldLink "RowCodeModel" (74 : Nat) "RowCodeModel" "high" "I") ∈ lw_tbl := tmR4 (i := 65) rfl
theorem tm_786 : (Jvm.Cond.lays "RowCodeModel" "RowCodeModel" "thrown" "I") ∈ lw_tbl := tmR4 (i := 66) rfl
theorem tm_787 : (Jvm.Cond.soleField "RowCodeModel" "thrown") ∈ lw_tbl := tmR4 (i := 67) rfl
theorem tm_788 : (Jvm.Cond.lays "RowCodeModel" "RowCodeModel" "size" "I") ∈ lw_tbl := tmR4 (i := 68) rfl
theorem tm_789 : (Jvm.Cond.soleField "RowCodeModel" "size") ∈ lw_tbl := tmR4 (i := 69) rfl
theorem tm_790 : (Jvm.Cond.laysFinal "RowCodeModel" "RowCodeModel" "numbers" "[I") ∈ lw_tbl := tmR4 (i := 70) rfl
theorem tm_791 : (Jvm.Cond.soleField "RowCodeModel" "numbers") ∈ lw_tbl := tmR4 (i := 71) rfl
theorem tm_792 : (Jvm.Cond.laysFinal "RowCodeModel" "RowCodeModel" "args" "[I") ∈ lw_tbl := tmR4 (i := 72) rfl
theorem tm_793 : (Jvm.Cond.soleField "RowCodeModel" "args") ∈ lw_tbl := tmR4 (i := 73) rfl
theorem tm_794 : (Jvm.Cond.laysFinal "RowCodeModel" "RowCodeModel" "locals" "[I") ∈ lw_tbl := tmR4 (i := 74) rfl
theorem tm_795 : (Jvm.Cond.soleField "RowCodeModel" "locals") ∈ lw_tbl := tmR4 (i := 75) rfl
theorem tm_796 : (Jvm.Cond.laysFinal "RowCodeModel" "RowCodeModel" "words" "[I") ∈ lw_tbl := tmR4 (i := 76) rfl
theorem tm_797 : (Jvm.Cond.soleField "RowCodeModel" "words") ∈ lw_tbl := tmR4 (i := 77) rfl
theorem tm_798 : (Jvm.Cond.lays "RowCodeModel" "RowCodeModel" "value" "I") ∈ lw_tbl := tmR4 (i := 78) rfl
theorem tm_799 : (Jvm.Cond.soleField "RowCodeModel" "value") ∈ lw_tbl := tmR4 (i := 79) rfl
theorem tm_800 : (Jvm.Cond.lays "RowCodeModel" "RowCodeModel" "fuel" "I") ∈ lw_tbl := tmR4 (i := 80) rfl
theorem tm_801 : (Jvm.Cond.soleField "RowCodeModel" "fuel") ∈ lw_tbl := tmR4 (i := 81) rfl
theorem tm_802 : (Jvm.Cond.laysFinal "RowCodeModel" "RowCodeModel" "heights" "[I") ∈ lw_tbl := tmR4 (i := 82) rfl
theorem tm_803 : (Jvm.Cond.soleField "RowCodeModel" "heights") ∈ lw_tbl := tmR4 (i := 83) rfl
theorem tm_804 : (Jvm.Cond.laysFinal "RowCodeModel" "RowCodeModel" "gone" "[Z") ∈ lw_tbl := tmR4 (i := 84) rfl
theorem tm_805 : (Jvm.Cond.soleField "RowCodeModel" "gone") ∈ lw_tbl := tmR4 (i := 85) rfl
theorem tm_806 : (Jvm.Cond.laysFinal "RowCodeModel" "RowCodeModel" "row" "[I") ∈ lw_tbl := tmR4 (i := 86) rfl
theorem tm_807 : (Jvm.Cond.soleField "RowCodeModel" "row") ∈ lw_tbl := tmR4 (i := 87) rfl
theorem tm_808 : (Jvm.Cond.lays "RowCodeModel" "RowCodeModel" "high" "I") ∈ lw_tbl := tmR4 (i := 88) rfl
theorem tm_809 : (Jvm.Cond.soleField "RowCodeModel" "high") ∈ lw_tbl := tmR4 (i := 89) rfl
theorem tm_810 : (Jvm.Cond.superclass "RowCodeModel" "java/lang/Object") ∈ lw_tbl := tmR4 (i := 90) rfl
theorem tm_811 : (Jvm.Cond.methodLink "RowCodeLaw" (59 : Nat) ({ cls := "RowCodeModel", name := "thrown", desc := "()I" } : Jvm.MethodName)) ∈ lw_tbl := tmR4 (i := 91) rfl
theorem tm_812 : (Jvm.Cond.instanceMethod ({ cls := "RowCodeModel", name := "thrown", desc := "()I" } : Jvm.MethodName)) ∈ lw_tbl := tmR4 (i := 92) rfl
theorem tm_813 : (Jvm.Cond.selects "RowCodeModel" ({ cls := "RowCodeModel", name := "thrown", desc := "()I" } : Jvm.MethodName) ({ cls := "RowCodeModel", name := "thrown", desc := "()I" } : Jvm.MethodName)) ∈ lw_tbl := tmR4 (i := 93) rfl
theorem tm_814 : (Jvm.Cond.code ({ cls := "RowCodeModel", name := "thrown", desc := "()I" } : Jvm.MethodName) prog_9_method_2_code (1 : Nat) (Option.some Jvm.ClassFile.FieldType.int)) ∈ lw_tbl := tmR4 (i := 94) rfl
theorem tm_815 : (Jvm.Cond.methodLink "RowCodeLaw" (26 : Nat) ({ cls := "RowCodeModel", name := "add", desc := "(II)I" } : Jvm.MethodName)) ∈ lw_tbl := tmR4 (i := 95) rfl
theorem tm_816 : (Jvm.Cond.instanceMethod ({ cls := "RowCodeModel", name := "add", desc := "(II)I" } : Jvm.MethodName)) ∈ lw_tbl := tmR4 (i := 96) rfl
theorem tm_817 : (Jvm.Cond.selects "RowCodeModel" ({ cls := "RowCodeModel", name := "add", desc := "(II)I" } : Jvm.MethodName) ({ cls := "RowCodeModel", name := "add", desc := "(II)I" } : Jvm.MethodName)) ∈ lw_tbl := tmR4 (i := 97) rfl
theorem tm_818 : (Jvm.Cond.code ({ cls := "RowCodeModel", name := "add", desc := "(II)I" } : Jvm.MethodName) prog_9_method_3_code (3 : Nat) (Option.some Jvm.ClassFile.FieldType.int)) ∈ lw_tbl := tmR4 (i := 98) rfl
theorem tm_819 : (Jvm.Cond.methodLink "RowCodeLaw" (30 : Nat) ({ cls := "RowCodeModel", name := "clear", desc := "()V" } : Jvm.MethodName)) ∈ lw_tbl := tmR4 (i := 99) rfl
theorem tm_820 : (Jvm.Cond.instanceMethod ({ cls := "RowCodeModel", name := "clear", desc := "()V" } : Jvm.MethodName)) ∈ lw_tbl := tmR4 (i := 100) rfl
theorem tm_821 : (Jvm.Cond.selects "RowCodeModel" ({ cls := "RowCodeModel", name := "clear", desc := "()V" } : Jvm.MethodName) ({ cls := "RowCodeModel", name := "clear", desc := "()V" } : Jvm.MethodName)) ∈ lw_tbl := tmR4 (i := 101) rfl
theorem tm_822 : (Jvm.Cond.code ({ cls := "RowCodeModel", name := "clear", desc := "()V" } : Jvm.MethodName) prog_9_method_4_code (1 : Nat) (Option.none : Option Jvm.ClassFile.FieldType)) ∈ lw_tbl := tmR4 (i := 102) rfl
theorem tm_823 : (Jvm.Cond.methodLink "RowCodeLaw" (35 : Nat) ({ cls := "RowCodeModel", name := "build", desc := "()Z" } : Jvm.MethodName)) ∈ lw_tbl := tmR4 (i := 103) rfl
theorem tm_824 : (Jvm.Cond.instanceMethod ({ cls := "RowCodeModel", name := "build", desc := "()Z" } : Jvm.MethodName)) ∈ lw_tbl := tmR4 (i := 104) rfl
theorem tm_825 : (Jvm.Cond.selects "RowCodeModel" ({ cls := "RowCodeModel", name := "build", desc := "()Z" } : Jvm.MethodName) ({ cls := "RowCodeModel", name := "build", desc := "()Z" } : Jvm.MethodName)) ∈ lw_tbl := tmR4 (i := 105) rfl
theorem tm_826 : (Jvm.Cond.code ({ cls := "RowCodeModel", name := "build", desc := "()Z" } : Jvm.MethodName) prog_9_method_15_code (1 : Nat) (Option.some Jvm.ClassFile.FieldType.boolean)) ∈ lw_tbl := tmR4 (i := 106) rfl
theorem tm_827 : (Jvm.Cond.methodLink "RowCodeModel" (64 : Nat) ({ cls := "RowCodeModel", name := "isSaid", desc := "()Z" } : Jvm.MethodName)) ∈ lw_tbl := tmR4 (i := 107) rfl
theorem tm_828 : (Jvm.Cond.privateMethod ({ cls := "RowCodeModel", name := "isSaid", desc := "()Z" } : Jvm.MethodName)) ∈ lw_tbl := tmR4 (i := 108) rfl
theorem tm_829 : (Jvm.Cond.instanceMethod ({ cls := "RowCodeModel", name := "isSaid", desc := "()Z" } : Jvm.MethodName)) ∈ lw_tbl := tmR4 (i := 109) rfl
theorem tm_830 : (Jvm.Cond.code ({ cls := "RowCodeModel", name := "isSaid", desc := "()Z" } : Jvm.MethodName) prog_9_method_8_code (4 : Nat) (Option.some Jvm.ClassFile.FieldType.boolean)) ∈ lw_tbl := tmR4 (i := 110) rfl
theorem tm_831 : (Jvm.Cond.methodLink "RowCodeModel" (43 : Nat) ({ cls := "RowCodeModel", name := "isGood", desc := "(II)Z" } : Jvm.MethodName)) ∈ lw_tbl := tmR4 (i := 111) rfl
theorem tm_832 : (Jvm.Cond.static ({ cls := "RowCodeModel", name := "isGood", desc := "(II)Z" } : Jvm.MethodName)) ∈ lw_tbl := tmR4 (i := 112) rfl
theorem tm_833 : (Jvm.Cond.code ({ cls := "RowCodeModel", name := "isGood", desc := "(II)Z" } : Jvm.MethodName) prog_9_method_6_code (2 : Nat) (Option.some Jvm.ClassFile.FieldType.boolean)) ∈ lw_tbl := tmR4 (i := 113) rfl
theorem tm_834 : (Jvm.Cond.methodLink "RowCodeModel" (39 : Nat) ({ cls := "RowCodeModel", name := "in", desc := "(III)Z" } : Jvm.MethodName)) ∈ lw_tbl := tmR4 (i := 114) rfl
theorem tm_835 : (Jvm.Cond.static ({ cls := "RowCodeModel", name := "in", desc := "(III)Z" } : Jvm.MethodName)) ∈ lw_tbl := tmR4 (i := 115) rfl
theorem tm_836 : (Jvm.Cond.code ({ cls := "RowCodeModel", name := "in", desc := "(III)Z" } : Jvm.MethodName) prog_9_method_5_code (3 : Nat) (Option.some Jvm.ClassFile.FieldType.boolean)) ∈ lw_tbl := tmR4 (i := 116) rfl
theorem tm_837 : (Jvm.Cond.methodLink "RowCodeModel" (47 : Nat) ({ cls := "RowCodeModel", name := "place", desc := "(I)I" } : Jvm.MethodName)) ∈ lw_tbl := tmR4 (i := 117) rfl
theorem tm_838 : (Jvm.Cond.privateMethod ({ cls := "RowCodeModel", name := "place", desc := "(I)I" } : Jvm.MethodName)) ∈ lw_tbl := tmR4 (i := 118) rfl
theorem tm_839 : (Jvm.Cond.instanceMethod ({ cls := "RowCodeModel", name := "place", desc := "(I)I" } : Jvm.MethodName)) ∈ lw_tbl := tmR4 (i := 119) rfl
theorem tm_840 : (Jvm.Cond.code ({ cls := "RowCodeModel", name := "place", desc := "(I)I" } : Jvm.MethodName) prog_9_method_7_code (3 : Nat) (Option.some Jvm.ClassFile.FieldType.int)) ∈ lw_tbl := tmR4 (i := 120) rfl
theorem tm_841 : (Jvm.Cond.methodLink "RowCodeModel" (68 : Nat) ({ cls := "RowCodeModel", name := "isEven", desc := "()Z" } : Jvm.MethodName)) ∈ lw_tbl := tmR4 (i := 121) rfl
theorem tm_842 : (Jvm.Cond.privateMethod ({ cls := "RowCodeModel", name := "isEven", desc := "()Z" } : Jvm.MethodName)) ∈ lw_tbl := tmR4 (i := 122) rfl
theorem tm_843 : (Jvm.Cond.instanceMethod ({ cls := "RowCodeModel", name := "isEven", desc := "()Z" } : Jvm.MethodName)) ∈ lw_tbl := tmR4 (i := 123) rfl
theorem tm_844 : (Jvm.Cond.code ({ cls := "RowCodeModel", name := "isEven", desc := "()Z" } : Jvm.MethodName) prog_9_method_13_code (5 : Nat) (Option.some Jvm.ClassFile.FieldType.boolean)) ∈ lw_tbl := tmR4 (i := 124) rfl
theorem tm_845 : (Jvm.Cond.methodLink "RowCodeModel" (51 : Nat) ({ cls := "RowCodeModel", name := "gives", desc := "(I)I" } : Jvm.MethodName)) ∈ lw_tbl := tmR4 (i := 125) rfl
theorem tm_846 : (Jvm.Cond.static ({ cls := "RowCodeModel", name := "gives", desc := "(I)I" } : Jvm.MethodName)) ∈ lw_tbl := tmR4 (i := 126) rfl
theorem tm_847 : (Jvm.Cond.code ({ cls := "RowCodeModel", name := "gives", desc := "(I)I" } : Jvm.MethodName) prog_9_method_10_code (1 : Nat) (Option.some Jvm.ClassFile.FieldType.int)) ∈ lw_tbl := tmR4 (i := 127) rfl
theorem tm_848 : (Jvm.Cond.methodLink "RowCodeModel" (54 : Nat) ({ cls := "RowCodeModel", name := "takes", desc := "(I)I" } : Jvm.MethodName)) ∈ lw_tbl := tmR4 (i := 128) rfl
theorem tm_849 : (Jvm.Cond.static ({ cls := "RowCodeModel", name := "takes", desc := "(I)I" } : Jvm.MethodName)) ∈ lw_tbl := tmR4 (i := 129) rfl
theorem tm_850 : (Jvm.Cond.code ({ cls := "RowCodeModel", name := "takes", desc := "(I)I" } : Jvm.MethodName) prog_9_method_9_code (1 : Nat) (Option.some Jvm.ClassFile.FieldType.int)) ∈ lw_tbl := tmR4 (i := 130) rfl
theorem tm_851 : (Jvm.Cond.methodLink "RowCodeModel" (57 : Nat) ({ cls := "RowCodeModel", name := "way", desc := "(II)I" } : Jvm.MethodName)) ∈ lw_tbl := tmR4 (i := 131) rfl
theorem tm_852 : (Jvm.Cond.privateMethod ({ cls := "RowCodeModel", name := "way", desc := "(II)I" } : Jvm.MethodName)) ∈ lw_tbl := tmR4 (i := 132) rfl
theorem tm_853 : (Jvm.Cond.instanceMethod ({ cls := "RowCodeModel", name := "way", desc := "(II)I" } : Jvm.MethodName)) ∈ lw_tbl := tmR4 (i := 133) rfl
theorem tm_854 : (Jvm.Cond.code ({ cls := "RowCodeModel", name := "way", desc := "(II)I" } : Jvm.MethodName) prog_9_method_11_code (5 : Nat) (Option.some Jvm.ClassFile.FieldType.int)) ∈ lw_tbl := tmR4 (i := 134) rfl
theorem tm_855 : (Jvm.Cond.methodLink "RowCodeModel" (61 : Nat) ({ cls := "RowCodeModel", name := "comes", desc := "(II)Z" } : Jvm.MethodName)) ∈ lw_tbl := tmR4 (i := 135) rfl
theorem tm_856 : (Jvm.Cond.privateMethod ({ cls := "RowCodeModel", name := "comes", desc := "(II)Z" } : Jvm.MethodName)) ∈ lw_tbl := tmR4 (i := 136) rfl
theorem tm_857 : (Jvm.Cond.instanceMethod ({ cls := "RowCodeModel", name := "comes", desc := "(II)Z" } : Jvm.MethodName)) ∈ lw_tbl := tmR4 (i := 137) rfl
theorem tm_858 : (Jvm.Cond.code ({ cls := "RowCodeModel", name := "comes", desc := "(II)Z" } : Jvm.MethodName) prog_9_method_12_code (3 : Nat) (Option.some Jvm.ClassFile.FieldType.boolean)) ∈ lw_tbl := tmR4 (i := 138) rfl
theorem tm_859 : (Jvm.Cond.methodLink "RowCodeModel" (71 : Nat) ({ cls := "RowCodeModel", name := "isSpent", desc := "()Z" } : Jvm.MethodName)) ∈ lw_tbl := tmR4 (i := 139) rfl
theorem tm_860 : (Jvm.Cond.privateMethod ({ cls := "RowCodeModel", name := "isSpent", desc := "()Z" } : Jvm.MethodName)) ∈ lw_tbl := tmR4 (i := 140) rfl
theorem tm_861 : (Jvm.Cond.instanceMethod ({ cls := "RowCodeModel", name := "isSpent", desc := "()Z" } : Jvm.MethodName)) ∈ lw_tbl := tmR4 (i := 141) rfl
theorem tm_862 : (Jvm.Cond.code ({ cls := "RowCodeModel", name := "isSpent", desc := "()Z" } : Jvm.MethodName) prog_9_method_14_code (6 : Nat) (Option.some Jvm.ClassFile.FieldType.boolean)) ∈ lw_tbl := tmR4 (i := 142) rfl
theorem tm_863 : (Jvm.Cond.methodLink "RowCodeLaw" (39 : Nat) ({ cls := "RowCodeModel", name := "run", desc := "(I)I" } : Jvm.MethodName)) ∈ lw_tbl := tmR4 (i := 143) rfl
theorem tm_864 : (Jvm.Cond.instanceMethod ({ cls := "RowCodeModel", name := "run", desc := "(I)I" } : Jvm.MethodName)) ∈ lw_tbl := tmR4 (i := 144) rfl
theorem tm_865 : (Jvm.Cond.selects "RowCodeModel" ({ cls := "RowCodeModel", name := "run", desc := "(I)I" } : Jvm.MethodName) ({ cls := "RowCodeModel", name := "run", desc := "(I)I" } : Jvm.MethodName)) ∈ lw_tbl := tmR4 (i := 145) rfl
theorem tm_866 : (Jvm.Cond.code ({ cls := "RowCodeModel", name := "run", desc := "(I)I" } : Jvm.MethodName) prog_9_method_24_code (5 : Nat) (Option.some Jvm.ClassFile.FieldType.int)) ∈ lw_tbl := tmR4 (i := 146) rfl
theorem tm_867 : (Jvm.Cond.methodLink "RowCodeModel" (100 : Nat) ({ cls := "RowCodeModel", name := "build", desc := "()Z" } : Jvm.MethodName)) ∈ lw_tbl := tmR4 (i := 147) rfl
theorem tm_868 : (Jvm.Cond.methodLink "RowCodeModel" (83 : Nat) ({ cls := "RowCodeModel", name := "pop", desc := "()I" } : Jvm.MethodName)) ∈ lw_tbl := tmR4 (i := 148) rfl
theorem tm_869 : (Jvm.Cond.privateMethod ({ cls := "RowCodeModel", name := "pop", desc := "()I" } : Jvm.MethodName)) ∈ lw_tbl := tmR4 (i := 149) rfl
theorem tm_870 : (Jvm.Cond.instanceMethod ({ cls := "RowCodeModel", name := "pop", desc := "()I" } : Jvm.MethodName)) ∈ lw_tbl := tmR4 (i := 150) rfl
theorem tm_871 : (Jvm.Cond.code ({ cls := "RowCodeModel", name := "pop", desc := "()I" } : Jvm.MethodName) prog_9_method_16_code (1 : Nat) (Option.some Jvm.ClassFile.FieldType.int)) ∈ lw_tbl := tmR4 (i := 151) rfl
theorem tm_872 : (Jvm.Cond.methodLink "RowCodeModel" (109 : Nat) ({ cls := "RowCodeModel", name := "does", desc := "(II)I" } : Jvm.MethodName)) ∈ lw_tbl := tmR4 (i := 152) rfl
theorem tm_873 : (Jvm.Cond.privateMethod ({ cls := "RowCodeModel", name := "does", desc := "(II)I" } : Jvm.MethodName)) ∈ lw_tbl := tmR4 (i := 153) rfl
theorem tm_874 : (Jvm.Cond.instanceMethod ({ cls := "RowCodeModel", name := "does", desc := "(II)I" } : Jvm.MethodName)) ∈ lw_tbl := tmR4 (i := 154) rfl
theorem tm_875 : (Jvm.Cond.code ({ cls := "RowCodeModel", name := "does", desc := "(II)I" } : Jvm.MethodName) prog_9_method_21_code (7 : Nat) (Option.some Jvm.ClassFile.FieldType.int)) ∈ lw_tbl := tmR4 (i := 155) rfl
theorem tm_876 : (Jvm.Cond.methodLink "RowCodeModel" (79 : Nat) ({ cls := "RowCodeModel", name := "push", desc := "(I)V" } : Jvm.MethodName)) ∈ lw_tbl := tmR4 (i := 156) rfl
theorem tm_877 : (Jvm.Cond.privateMethod ({ cls := "RowCodeModel", name := "push", desc := "(I)V" } : Jvm.MethodName)) ∈ lw_tbl := tmR4 (i := 157) rfl
theorem tm_878 : (Jvm.Cond.instanceMethod ({ cls := "RowCodeModel", name := "push", desc := "(I)V" } : Jvm.MethodName)) ∈ lw_tbl := tmR4 (i := 158) rfl
theorem tm_879 : (Jvm.Cond.code ({ cls := "RowCodeModel", name := "push", desc := "(I)V" } : Jvm.MethodName) prog_9_method_17_code (2 : Nat) (Option.none : Option Jvm.ClassFile.FieldType)) ∈ lw_tbl := tmR4 (i := 159) rfl
theorem tm_880 : (Jvm.Cond.methodLink "RowCodeModel" (87 : Nat) ({ cls := "RowCodeModel", name := "made", desc := "(III)I" } : Jvm.MethodName)) ∈ lw_tbl := tmR4 (i := 160) rfl
theorem tm_881 : (Jvm.Cond.static ({ cls := "RowCodeModel", name := "made", desc := "(III)I" } : Jvm.MethodName)) ∈ lw_tbl := tmR4 (i := 161) rfl
theorem tm_882 : (Jvm.Cond.code ({ cls := "RowCodeModel", name := "made", desc := "(III)I" } : Jvm.MethodName) prog_9_method_18_code (4 : Nat) (Option.some Jvm.ClassFile.FieldType.int)) ∈ lw_tbl := tmR4 (i := 162) rfl
theorem tm_883 : (Jvm.Cond.methodLink "RowCodeModel" (91 : Nat) ({ cls := "RowCodeModel", name := "compares", desc := "(III)Z" } : Jvm.MethodName)) ∈ lw_tbl := tmR4 (i := 163) rfl
theorem tm_884 : (Jvm.Cond.static ({ cls := "RowCodeModel", name := "compares", desc := "(III)Z" } : Jvm.MethodName)) ∈ lw_tbl := tmR4 (i := 164) rfl
theorem tm_885 : (Jvm.Cond.code ({ cls := "RowCodeModel", name := "compares", desc := "(III)Z" } : Jvm.MethodName) prog_9_method_19_code (3 : Nat) (Option.some Jvm.ClassFile.FieldType.boolean)) ∈ lw_tbl := tmR4 (i := 165) rfl
theorem tm_886 : (Jvm.Cond.methodLink "RowCodeModel" (94 : Nat) ({ cls := "RowCodeModel", name := "wordOf", desc := "(II)I" } : Jvm.MethodName)) ∈ lw_tbl := tmR4 (i := 166) rfl
theorem tm_887 : (Jvm.Cond.static ({ cls := "RowCodeModel", name := "wordOf", desc := "(II)I" } : Jvm.MethodName)) ∈ lw_tbl := tmR4 (i := 167) rfl
theorem tm_888 : (Jvm.Cond.code ({ cls := "RowCodeModel", name := "wordOf", desc := "(II)I" } : Jvm.MethodName) prog_9_method_20_code (4 : Nat) (Option.some Jvm.ClassFile.FieldType.int)) ∈ lw_tbl := tmR4 (i := 168) rfl
theorem tm_889 : (Jvm.Cond.constantLong "RowCodeModel" (77 : Nat) (63 : Int64)) ∈ lw_tbl := tmR4 (i := 169) rfl
theorem tm_890 : (Jvm.Cond.methodLink "RowCodeModel" (97 : Nat) ({ cls := "RowCodeModel", name := "sets", desc := "()I" } : Jvm.MethodName)) ∈ lw_tbl := tmR4 (i := 170) rfl
theorem tm_891 : (Jvm.Cond.privateMethod ({ cls := "RowCodeModel", name := "sets", desc := "()I" } : Jvm.MethodName)) ∈ lw_tbl := tmR4 (i := 171) rfl
theorem tm_892 : (Jvm.Cond.instanceMethod ({ cls := "RowCodeModel", name := "sets", desc := "()I" } : Jvm.MethodName)) ∈ lw_tbl := tmR4 (i := 172) rfl
theorem tm_893 : (Jvm.Cond.code ({ cls := "RowCodeModel", name := "sets", desc := "()I" } : Jvm.MethodName) prog_9_method_22_code (6 : Nat) (Option.some Jvm.ClassFile.FieldType.int)) ∈ lw_tbl := tmR4 (i := 173) rfl
theorem tm_894 : (Jvm.Cond.methodLink "RowCodeModel" (112 : Nat) ({ cls := "RowCodeModel", name := "goesOn", desc := "(I)I" } : Jvm.MethodName)) ∈ lw_tbl := tmR4 (i := 174) rfl
theorem tm_895 : (Jvm.Cond.privateMethod ({ cls := "RowCodeModel", name := "goesOn", desc := "(I)I" } : Jvm.MethodName)) ∈ lw_tbl := tmR4 (i := 175) rfl
theorem tm_896 : (Jvm.Cond.instanceMethod ({ cls := "RowCodeModel", name := "goesOn", desc := "(I)I" } : Jvm.MethodName)) ∈ lw_tbl := tmR4 (i := 176) rfl
theorem tm_897 : (Jvm.Cond.code ({ cls := "RowCodeModel", name := "goesOn", desc := "(I)I" } : Jvm.MethodName) prog_9_method_23_code (5 : Nat) (Option.some Jvm.ClassFile.FieldType.int)) ∈ lw_tbl := tmR4 (i := 177) rfl
theorem tm_898 : (Jvm.Cond.methodLink "RowCodeLaw" (44 : Nat) ({ cls := "RowCodeModel", name := "value", desc := "()I" } : Jvm.MethodName)) ∈ lw_tbl := tmR4 (i := 178) rfl
theorem tm_899 : (Jvm.Cond.instanceMethod ({ cls := "RowCodeModel", name := "value", desc := "()I" } : Jvm.MethodName)) ∈ lw_tbl := tmR4 (i := 179) rfl
theorem tm_900 : (Jvm.Cond.selects "RowCodeModel" ({ cls := "RowCodeModel", name := "value", desc := "()I" } : Jvm.MethodName) ({ cls := "RowCodeModel", name := "value", desc := "()I" } : Jvm.MethodName)) ∈ lw_tbl := tmR4 (i := 180) rfl
theorem tm_901 : (Jvm.Cond.code ({ cls := "RowCodeModel", name := "value", desc := "()I" } : Jvm.MethodName) prog_9_method_25_code (1 : Nat) (Option.some Jvm.ClassFile.FieldType.int)) ∈ lw_tbl := tmR4 (i := 181) rfl
theorem tm_902 : (Jvm.Cond.methodLink "RowCodeLaw" (48 : Nat) ({ cls := "RowCodeModel", name := "fuel", desc := "()I" } : Jvm.MethodName)) ∈ lw_tbl := tmR4 (i := 182) rfl
theorem tm_903 : (Jvm.Cond.instanceMethod ({ cls := "RowCodeModel", name := "fuel", desc := "()I" } : Jvm.MethodName)) ∈ lw_tbl := tmR4 (i := 183) rfl
theorem tm_904 : (Jvm.Cond.selects "RowCodeModel" ({ cls := "RowCodeModel", name := "fuel", desc := "()I" } : Jvm.MethodName) ({ cls := "RowCodeModel", name := "fuel", desc := "()I" } : Jvm.MethodName)) ∈ lw_tbl := tmR4 (i := 184) rfl
theorem tm_905 : (Jvm.Cond.code ({ cls := "RowCodeModel", name := "fuel", desc := "()I" } : Jvm.MethodName) prog_9_method_26_code (1 : Nat) (Option.some Jvm.ClassFile.FieldType.int)) ∈ lw_tbl := tmR4 (i := 185) rfl
theorem tm_906 : (Jvm.Cond.methodLink "RowCodeLaw" (52 : Nat) ({ cls := "RowCodeModel", name := "set", desc := "(II)I" } : Jvm.MethodName)) ∈ lw_tbl := tmR4 (i := 186) rfl
theorem tm_907 : (Jvm.Cond.instanceMethod ({ cls := "RowCodeModel", name := "set", desc := "(II)I" } : Jvm.MethodName)) ∈ lw_tbl := tmR4 (i := 187) rfl
theorem tm_908 : (Jvm.Cond.selects "RowCodeModel" ({ cls := "RowCodeModel", name := "set", desc := "(II)I" } : Jvm.MethodName) ({ cls := "RowCodeModel", name := "set", desc := "(II)I" } : Jvm.MethodName)) ∈ lw_tbl := tmR4 (i := 188) rfl
theorem tm_909 : (Jvm.Cond.code ({ cls := "RowCodeModel", name := "set", desc := "(II)I" } : Jvm.MethodName) prog_9_method_27_code (4 : Nat) (Option.some Jvm.ClassFile.FieldType.int)) ∈ lw_tbl := tmR4 (i := 189) rfl
theorem tm_910 : (Jvm.Cond.methodLink "RowCodeLaw" (58 : Nat) ({ cls := "RowCodeModel", name := "local", desc := "(I)I" } : Jvm.MethodName)) ∈ lw_tbl := tmR4 (i := 190) rfl
theorem tm_911 : (Jvm.Cond.instanceMethod ({ cls := "RowCodeModel", name := "local", desc := "(I)I" } : Jvm.MethodName)) ∈ lw_tbl := tmR4 (i := 191) rfl
theorem tm_912 : (Jvm.Cond.selects "RowCodeModel" ({ cls := "RowCodeModel", name := "local", desc := "(I)I" } : Jvm.MethodName) ({ cls := "RowCodeModel", name := "local", desc := "(I)I" } : Jvm.MethodName)) ∈ lw_tbl := tmR4 (i := 192) rfl
theorem tm_913 : (Jvm.Cond.code ({ cls := "RowCodeModel", name := "local", desc := "(I)I" } : Jvm.MethodName) prog_9_method_28_code (2 : Nat) (Option.some Jvm.ClassFile.FieldType.int)) ∈ lw_tbl := tmR4 (i := 193) rfl
theorem tm_914 : (Jvm.Cond.methodLink "RowCodeLaw" (65 : Nat) ({ cls := "RowCodeModel", name := "put", desc := "(II)I" } : Jvm.MethodName)) ∈ lw_tbl := tmR4 (i := 194) rfl
theorem tm_915 : (Jvm.Cond.instanceMethod ({ cls := "RowCodeModel", name := "put", desc := "(II)I" } : Jvm.MethodName)) ∈ lw_tbl := tmR4 (i := 195) rfl
theorem tm_916 : (Jvm.Cond.selects "RowCodeModel" ({ cls := "RowCodeModel", name := "put", desc := "(II)I" } : Jvm.MethodName) ({ cls := "RowCodeModel", name := "put", desc := "(II)I" } : Jvm.MethodName)) ∈ lw_tbl := tmR4 (i := 196) rfl
theorem tm_917 : (Jvm.Cond.code ({ cls := "RowCodeModel", name := "put", desc := "(II)I" } : Jvm.MethodName) prog_9_method_29_code (4 : Nat) (Option.some Jvm.ClassFile.FieldType.int)) ∈ lw_tbl := tmR4 (i := 197) rfl
theorem tm_918 : (Jvm.Cond.methodLink "RowCodeLaw" (68 : Nat) ({ cls := "RowCodeModel", name := "word", desc := "(I)I" } : Jvm.MethodName)) ∈ lw_tbl := tmR4 (i := 198) rfl
theorem tm_919 : (Jvm.Cond.instanceMethod ({ cls := "RowCodeModel", name := "word", desc := "(I)I" } : Jvm.MethodName)) ∈ lw_tbl := tmR4 (i := 199) rfl
theorem tm_920 : (Jvm.Cond.selects "RowCodeModel" ({ cls := "RowCodeModel", name := "word", desc := "(I)I" } : Jvm.MethodName) ({ cls := "RowCodeModel", name := "word", desc := "(I)I" } : Jvm.MethodName)) ∈ lw_tbl := tmR4 (i := 200) rfl
theorem tm_921 : (Jvm.Cond.code ({ cls := "RowCodeModel", name := "word", desc := "(I)I" } : Jvm.MethodName) prog_9_method_30_code (2 : Nat) (Option.some Jvm.ClassFile.FieldType.int)) ∈ lw_tbl := tmR4 (i := 201) rfl
theorem tm_922 : (Jvm.Cond.arrayClass Jvm.ClassFile.FieldType.long) ∈ lw_tbl := tmR4 (i := 202) rfl
theorem tm_923 : (Jvm.Cond.sameMethod "java/lang/Throwable" "java/lang/Throwable" "fillInStackTrace" "(I)Ljava/lang/Throwable;") ∈ lw_tbl := tmR4 (i := 203) rfl
theorem tm_924 : (Jvm.Cond.fieldLink "java/lang/String" (9 : Nat) "java/lang/String" "value" "[B") ∈ lw_tbl := tmR4 (i := 204) rfl
theorem tm_925 : (Jvm.Cond.fieldLink "java/lang/String" (15 : Nat) "java/lang/String" "coder" "B") ∈ lw_tbl := tmR4 (i := 205) rfl
theorem ts_0 : Cond.selects "RowCode" (⟨"RowCode", "areLabels", "()Z"⟩ : MethodName) (⟨"RowCode", "areLabels", "()Z"⟩ : MethodName) ∈ lw_tbl := tsR (q := (⟨"RowCode", "areLabels", "()Z"⟩, 24)) (i := 0) rfl
theorem ts_1 : Cond.selects "RowCode" (⟨"RowCode", "isInstruction", "(I)Z"⟩ : MethodName) (⟨"RowCode", "isInstruction", "(I)Z"⟩ : MethodName) ∈ lw_tbl := tsR (q := (⟨"RowCode", "isInstruction", "(I)Z"⟩, 24)) (i := 1) rfl
theorem ts_2 : Cond.selects "RowCode" (⟨"RowCode", "areWays", "()Z"⟩ : MethodName) (⟨"RowCode", "areWays", "()Z"⟩ : MethodName) ∈ lw_tbl := tsR (q := (⟨"RowCode", "areWays", "()Z"⟩, 24)) (i := 2) rfl
theorem ts_3 : Cond.selects "RowCode" (⟨"RowCode", "comes", "(II)V"⟩ : MethodName) (⟨"RowCode", "comes", "(II)V"⟩ : MethodName) ∈ lw_tbl := tsR (q := (⟨"RowCode", "comes", "(II)V"⟩, 24)) (i := 3) rfl
theorem ts_4 : Cond.selects "RowCode" (⟨"RowCode", "areRounds", "()Z"⟩ : MethodName) (⟨"RowCode", "areRounds", "()Z"⟩ : MethodName) ∈ lw_tbl := tsR (q := (⟨"RowCode", "areRounds", "()Z"⟩, 24)) (i := 4) rfl
theorem ts_5 : Cond.selects "RowCode" (⟨"RowCode", "isClear", "(I)Z"⟩ : MethodName) (⟨"RowCode", "isClear", "(I)Z"⟩ : MethodName) ∈ lw_tbl := tsR (q := (⟨"RowCode", "isClear", "(I)Z"⟩, 24)) (i := 5) rfl
theorem ts_6 : Cond.selects "RowCode" (⟨"RowCode", "follows", "(II)I"⟩ : MethodName) (⟨"RowCode", "follows", "(II)I"⟩ : MethodName) ∈ lw_tbl := tsR (q := (⟨"RowCode", "follows", "(II)I"⟩, 24)) (i := 6) rfl
theorem ts_7 : Cond.selects "RowCode$Better" (⟨"RowCode$Better", "mark", "()V"⟩ : MethodName) (⟨"RowCode$Better", "mark", "()V"⟩ : MethodName) ∈ lw_tbl := tsR (q := (⟨"RowCode$Better", "mark", "()V"⟩, 8)) (i := 7) rfl
theorem ts_8 : Cond.selects "RowCode$Better" (⟨"RowCode$Better", "walk", "(I)V"⟩ : MethodName) (⟨"RowCode$Better", "walk", "(I)V"⟩ : MethodName) ∈ lw_tbl := tsR (q := (⟨"RowCode$Better", "walk", "(I)V"⟩, 8)) (i := 8) rfl
theorem ts_9 : Cond.selects "RowCode$Better" (⟨"RowCode$Better", "pass", "()V"⟩ : MethodName) (⟨"RowCode$Better", "pass", "()V"⟩ : MethodName) ∈ lw_tbl := tsR (q := (⟨"RowCode$Better", "pass", "()V"⟩, 8)) (i := 9) rfl
theorem ts_10 : Cond.selects "RowCode$Better" (⟨"RowCode$Better", "folded", "(II)Z"⟩ : MethodName) (⟨"RowCode$Better", "folded", "(II)Z"⟩ : MethodName) ∈ lw_tbl := tsR (q := (⟨"RowCode$Better", "folded", "(II)Z"⟩, 8)) (i := 10) rfl
theorem ts_11 : Cond.selects "RowCode$Better" (⟨"RowCode$Better", "isConstant", "(I)Z"⟩ : MethodName) (⟨"RowCode$Better", "isConstant", "(I)Z"⟩ : MethodName) ∈ lw_tbl := tsR (q := (⟨"RowCode$Better", "isConstant", "(I)Z"⟩, 8)) (i := 11) rfl
theorem ts_12 : Cond.selects "RowCode$Better" (⟨"RowCode$Better", "keep", "(II)V"⟩ : MethodName) (⟨"RowCode$Better", "keep", "(II)V"⟩ : MethodName) ∈ lw_tbl := tsR (q := (⟨"RowCode$Better", "keep", "(II)V"⟩, 8)) (i := 12) rfl
theorem ts_13 : Cond.selects "RowCode$Better" (⟨"RowCode$Better", "next", "(III)Z"⟩ : MethodName) (⟨"RowCode$Better", "next", "(III)Z"⟩ : MethodName) ∈ lw_tbl := tsR (q := (⟨"RowCode$Better", "next", "(III)Z"⟩, 8)) (i := 13) rfl
theorem ts_14 : Cond.selects "RowCode$Generator" (⟨"RowCode$Generator", "reckon", "(LRowCode$Code;)V"⟩ : MethodName) (⟨"RowCode$Generator", "reckon", "(LRowCode$Code;)V"⟩ : MethodName) ∈ lw_tbl := tsR (q := (⟨"RowCode$Generator", "reckon", "(LRowCode$Code;)V"⟩, 16)) (i := 14) rfl
theorem ts_15 : Cond.selects "RowCode$Generator" (⟨"RowCode$Generator", "way", "(II)V"⟩ : MethodName) (⟨"RowCode$Generator", "way", "(II)V"⟩ : MethodName) ∈ lw_tbl := tsR (q := (⟨"RowCode$Generator", "way", "(II)V"⟩, 16)) (i := 15) rfl
theorem ts_16 : Cond.selects "RowCode$Generator" (⟨"RowCode$Generator", "follow", "(LRowCode$Code;II)V"⟩ : MethodName) (⟨"RowCode$Generator", "follow", "(LRowCode$Code;II)V"⟩ : MethodName) ∈ lw_tbl := tsR (q := (⟨"RowCode$Generator", "follow", "(LRowCode$Code;II)V"⟩, 16)) (i := 16) rfl
theorem ts_17 : Cond.selects "RowCode$Generator" (⟨"RowCode$Generator", "one", "(III)V"⟩ : MethodName) (⟨"RowCode$Generator", "one", "(III)V"⟩ : MethodName) ∈ lw_tbl := tsR (q := (⟨"RowCode$Generator", "one", "(III)V"⟩, 16)) (i := 17) rfl
theorem ts_18 : Cond.selects "RowCode$Generator" (⟨"RowCode$Generator", "push", "(II)V"⟩ : MethodName) (⟨"RowCode$Generator", "push", "(II)V"⟩ : MethodName) ∈ lw_tbl := tsR (q := (⟨"RowCode$Generator", "push", "(II)V"⟩, 16)) (i := 18) rfl
theorem ts_19 : Cond.selects "RowCode$Generator" (⟨"RowCode$Generator", "keep", "(I)V"⟩ : MethodName) (⟨"RowCode$Generator", "keep", "(I)V"⟩ : MethodName) ∈ lw_tbl := tsR (q := (⟨"RowCode$Generator", "keep", "(I)V"⟩, 16)) (i := 19) rfl
theorem ts_20 : Cond.selects "RowCode$Generator" (⟨"RowCode$Generator", "load", "(I)V"⟩ : MethodName) (⟨"RowCode$Generator", "load", "(I)V"⟩ : MethodName) ∈ lw_tbl := tsR (q := (⟨"RowCode$Generator", "load", "(I)V"⟩, 16)) (i := 20) rfl
theorem ts_21 : Cond.selects "RowCode$Generator" (⟨"RowCode$Generator", "constant", "(I)V"⟩ : MethodName) (⟨"RowCode$Generator", "constant", "(I)V"⟩ : MethodName) ∈ lw_tbl := tsR (q := (⟨"RowCode$Generator", "constant", "(I)V"⟩, 16)) (i := 21) rfl
theorem ts_22 : Cond.selects "RowCode$Generator" (⟨"RowCode$Generator", "line", "(Ljava/lang/String;I)V"⟩ : MethodName) (⟨"RowCode$Generator", "line", "(Ljava/lang/String;I)V"⟩ : MethodName) ∈ lw_tbl := tsR (q := (⟨"RowCode$Generator", "line", "(Ljava/lang/String;I)V"⟩, 16)) (i := 22) rfl
theorem ts_23 : Cond.selects "RowCode$Generator" (⟨"RowCode$Generator", "grow", "()V"⟩ : MethodName) (⟨"RowCode$Generator", "grow", "()V"⟩ : MethodName) ∈ lw_tbl := tsR (q := (⟨"RowCode$Generator", "grow", "()V"⟩, 16)) (i := 23) rfl
theorem ts_24 : Cond.selects "RowCode$Generator" (⟨"RowCode$Generator", "stores", "(II)V"⟩ : MethodName) (⟨"RowCode$Generator", "stores", "(II)V"⟩ : MethodName) ∈ lw_tbl := tsR (q := (⟨"RowCode$Generator", "stores", "(II)V"⟩, 16)) (i := 24) rfl
theorem ts_25 : Cond.selects "RowCode$Generator" (⟨"RowCode$Generator", "keepBelow", "()V"⟩ : MethodName) (⟨"RowCode$Generator", "keepBelow", "()V"⟩ : MethodName) ∈ lw_tbl := tsR (q := (⟨"RowCode$Generator", "keepBelow", "()V"⟩, 16)) (i := 25) rfl
theorem ts_26 : Cond.selects "RowCode$Generator" (⟨"RowCode$Generator", "single", "(I)V"⟩ : MethodName) (⟨"RowCode$Generator", "single", "(I)V"⟩ : MethodName) ∈ lw_tbl := tsR (q := (⟨"RowCode$Generator", "single", "(I)V"⟩, 16)) (i := 26) rfl
theorem ts_27 : Cond.selects "RowCode$Generator" (⟨"RowCode$Generator", "held", "(I)V"⟩ : MethodName) (⟨"RowCode$Generator", "held", "(I)V"⟩ : MethodName) ∈ lw_tbl := tsR (q := (⟨"RowCode$Generator", "held", "(I)V"⟩, 16)) (i := 27) rfl
theorem ts_28 : Cond.selects "RowCode$Generator" (⟨"RowCode$Generator", "indirect", "()V"⟩ : MethodName) (⟨"RowCode$Generator", "indirect", "()V"⟩ : MethodName) ∈ lw_tbl := tsR (q := (⟨"RowCode$Generator", "indirect", "()V"⟩, 16)) (i := 28) rfl
theorem ts_29 : Cond.selects "RowCode$Generator" (⟨"RowCode$Generator", "keep2", "(I)V"⟩ : MethodName) (⟨"RowCode$Generator", "keep2", "(I)V"⟩ : MethodName) ∈ lw_tbl := tsR (q := (⟨"RowCode$Generator", "keep2", "(I)V"⟩, 16)) (i := 29) rfl
theorem ts_30 : Cond.selects "RowCode$Generator" (⟨"RowCode$Generator", "both", "()V"⟩ : MethodName) (⟨"RowCode$Generator", "both", "()V"⟩ : MethodName) ∈ lw_tbl := tsR (q := (⟨"RowCode$Generator", "both", "()V"⟩, 16)) (i := 30) rfl
theorem ts_31 : Cond.selects "RowCode$Generator" (⟨"RowCode$Generator", "pair", "(I)V"⟩ : MethodName) (⟨"RowCode$Generator", "pair", "(I)V"⟩ : MethodName) ∈ lw_tbl := tsR (q := (⟨"RowCode$Generator", "pair", "(I)V"⟩, 16)) (i := 31) rfl
theorem ts_32 : Cond.selects "RowCode$Generator" (⟨"RowCode$Generator", "bytes", "()V"⟩ : MethodName) (⟨"RowCode$Generator", "bytes", "()V"⟩ : MethodName) ∈ lw_tbl := tsR (q := (⟨"RowCode$Generator", "bytes", "()V"⟩, 16)) (i := 32) rfl
theorem ts_33 : Cond.selects "RowCode$Generator" (⟨"RowCode$Generator", "chain", "(I)V"⟩ : MethodName) (⟨"RowCode$Generator", "chain", "(I)V"⟩ : MethodName) ∈ lw_tbl := tsR (q := (⟨"RowCode$Generator", "chain", "(I)V"⟩, 16)) (i := 33) rfl
theorem ts_34 : Cond.selects "RowCode$Generator" (⟨"RowCode$Generator", "call", "(II)V"⟩ : MethodName) (⟨"RowCode$Generator", "call", "(II)V"⟩ : MethodName) ∈ lw_tbl := tsR (q := (⟨"RowCode$Generator", "call", "(II)V"⟩, 16)) (i := 34) rfl
theorem ts_35 : Cond.selects "RowCode$Generator" (⟨"RowCode$Generator", "keepAll", "()V"⟩ : MethodName) (⟨"RowCode$Generator", "keepAll", "()V"⟩ : MethodName) ∈ lw_tbl := tsR (q := (⟨"RowCode$Generator", "keepAll", "()V"⟩, 16)) (i := 35) rfl
theorem ts_36 : Cond.selects "RowCode$Generator" (⟨"RowCode$Generator", "goes", "(II)V"⟩ : MethodName) (⟨"RowCode$Generator", "goes", "(II)V"⟩ : MethodName) ∈ lw_tbl := tsR (q := (⟨"RowCode$Generator", "goes", "(II)V"⟩, 16)) (i := 36) rfl
theorem ts_37 : Cond.selects "RowCode$Loader" (⟨"RowCode$Loader", "number", "()I"⟩ : MethodName) (⟨"RowCode$Loader", "number", "()I"⟩ : MethodName) ∈ lw_tbl := tsR (q := (⟨"RowCode$Loader", "number", "()I"⟩, 7)) (i := 37) rfl
theorem ts_38 : Cond.selects "RowCode$Loader" (⟨"RowCode$Loader", "word", "(I)V"⟩ : MethodName) (⟨"RowCode$Loader", "word", "(I)V"⟩ : MethodName) ∈ lw_tbl := tsR (q := (⟨"RowCode$Loader", "word", "(I)V"⟩, 7)) (i := 38) rfl
theorem ts_39 : Cond.selects "RowCode$Loader" (⟨"RowCode$Loader", "instruction", "(I)V"⟩ : MethodName) (⟨"RowCode$Loader", "instruction", "(I)V"⟩ : MethodName) ∈ lw_tbl := tsR (q := (⟨"RowCode$Loader", "instruction", "(I)V"⟩, 7)) (i := 39) rfl
theorem ts_40 : Cond.selects "RowCode" (⟨"RowCode", "step", "()V"⟩ : MethodName) (⟨"RowCode", "step", "()V"⟩ : MethodName) ∈ lw_tbl := tsR (q := (⟨"RowCode", "step", "()V"⟩, 24)) (i := 40) rfl
theorem ts_41 : Cond.selects "RowCode" (⟨"RowCode", "does", "(I)V"⟩ : MethodName) (⟨"RowCode", "does", "(I)V"⟩ : MethodName) ∈ lw_tbl := tsR (q := (⟨"RowCode", "does", "(I)V"⟩, 24)) (i := 41) rfl
theorem ts_42 : Cond.selects "java/lang/Throwable" (⟨"java/lang/Throwable", "fillInStackTrace", "(I)Ljava/lang/Throwable;"⟩ : MethodName) (⟨"java/lang/Throwable", "fillInStackTrace", "(I)Ljava/lang/Throwable;"⟩ : MethodName) ∈ lw_tbl := tsR (q := (⟨"java/lang/Throwable", "fillInStackTrace", "(I)Ljava/lang/Throwable;"⟩, 6)) (i := 42) rfl
theorem ts_43 : Cond.selects "RowCode" (⟨"RowCode", "reckons", "(I)V"⟩ : MethodName) (⟨"RowCode", "reckons", "(I)V"⟩ : MethodName) ∈ lw_tbl := tsR (q := (⟨"RowCode", "reckons", "(I)V"⟩, 24)) (i := 43) rfl
theorem ts_44 : Cond.selects "RowCodeModel" (⟨"RowCodeModel", "isSaid", "()Z"⟩ : MethodName) (⟨"RowCodeModel", "isSaid", "()Z"⟩ : MethodName) ∈ lw_tbl := tsR (q := (⟨"RowCodeModel", "isSaid", "()Z"⟩, 12)) (i := 44) rfl
theorem ts_45 : Cond.selects "RowCodeModel" (⟨"RowCodeModel", "place", "(I)I"⟩ : MethodName) (⟨"RowCodeModel", "place", "(I)I"⟩ : MethodName) ∈ lw_tbl := tsR (q := (⟨"RowCodeModel", "place", "(I)I"⟩, 12)) (i := 45) rfl
theorem ts_46 : Cond.selects "RowCodeModel" (⟨"RowCodeModel", "isEven", "()Z"⟩ : MethodName) (⟨"RowCodeModel", "isEven", "()Z"⟩ : MethodName) ∈ lw_tbl := tsR (q := (⟨"RowCodeModel", "isEven", "()Z"⟩, 12)) (i := 46) rfl
theorem ts_47 : Cond.selects "RowCodeModel" (⟨"RowCodeModel", "way", "(II)I"⟩ : MethodName) (⟨"RowCodeModel", "way", "(II)I"⟩ : MethodName) ∈ lw_tbl := tsR (q := (⟨"RowCodeModel", "way", "(II)I"⟩, 12)) (i := 47) rfl
theorem ts_48 : Cond.selects "RowCodeModel" (⟨"RowCodeModel", "comes", "(II)Z"⟩ : MethodName) (⟨"RowCodeModel", "comes", "(II)Z"⟩ : MethodName) ∈ lw_tbl := tsR (q := (⟨"RowCodeModel", "comes", "(II)Z"⟩, 12)) (i := 48) rfl
theorem ts_49 : Cond.selects "RowCodeModel" (⟨"RowCodeModel", "isSpent", "()Z"⟩ : MethodName) (⟨"RowCodeModel", "isSpent", "()Z"⟩ : MethodName) ∈ lw_tbl := tsR (q := (⟨"RowCodeModel", "isSpent", "()Z"⟩, 12)) (i := 49) rfl
theorem ts_50 : Cond.selects "RowCodeModel" (⟨"RowCodeModel", "pop", "()I"⟩ : MethodName) (⟨"RowCodeModel", "pop", "()I"⟩ : MethodName) ∈ lw_tbl := tsR (q := (⟨"RowCodeModel", "pop", "()I"⟩, 12)) (i := 50) rfl
theorem ts_51 : Cond.selects "RowCodeModel" (⟨"RowCodeModel", "does", "(II)I"⟩ : MethodName) (⟨"RowCodeModel", "does", "(II)I"⟩ : MethodName) ∈ lw_tbl := tsR (q := (⟨"RowCodeModel", "does", "(II)I"⟩, 12)) (i := 51) rfl
theorem ts_52 : Cond.selects "RowCodeModel" (⟨"RowCodeModel", "push", "(I)V"⟩ : MethodName) (⟨"RowCodeModel", "push", "(I)V"⟩ : MethodName) ∈ lw_tbl := tsR (q := (⟨"RowCodeModel", "push", "(I)V"⟩, 12)) (i := 52) rfl
theorem ts_53 : Cond.selects "RowCodeModel" (⟨"RowCodeModel", "sets", "()I"⟩ : MethodName) (⟨"RowCodeModel", "sets", "()I"⟩ : MethodName) ∈ lw_tbl := tsR (q := (⟨"RowCodeModel", "sets", "()I"⟩, 12)) (i := 53) rfl
theorem ts_54 : Cond.selects "RowCodeModel" (⟨"RowCodeModel", "goesOn", "(I)I"⟩ : MethodName) (⟨"RowCodeModel", "goesOn", "(I)I"⟩ : MethodName) ∈ lw_tbl := tsR (q := (⟨"RowCodeModel", "goesOn", "(I)I"⟩, 12)) (i := 54) rfl
