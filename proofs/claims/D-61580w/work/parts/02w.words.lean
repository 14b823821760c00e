set_option maxRecDepth 100000
theorem w62 : (Jvm.Cond.initialized "TripleStoreLaw") ∈ lw_tbl := lw_at lw_m1 0 rfl
theorem w63 : (Jvm.Cond.initialized "TripleStore") ∈ lw_tbl := lw_at lw_m1 1 rfl
theorem w64 : (Jvm.Cond.initialized "java/lang/AbstractStringBuilder") ∈ lw_tbl := lw_at lw_m1 2 rfl
theorem w65 : (Jvm.Cond.initialized "java/lang/StringBuilder") ∈ lw_tbl := lw_at lw_m1 3 rfl
theorem w66 : (Jvm.Cond.initialized "java/lang/String") ∈ lw_tbl := lw_at lw_m1 4 rfl
theorem w67 : (Jvm.Cond.initialized "java/lang/StringUTF16") ∈ lw_tbl := lw_at lw_m1 5 rfl
theorem w68 : (Jvm.Cond.initialized "TripleStoreModel") ∈ lw_tbl := lw_at lw_m1 6 rfl
theorem w69 : (Jvm.Cond.initialized "TripleStore$Triple") ∈ lw_tbl := lw_at lw_m1 7 rfl
theorem w70 : (Jvm.Cond.initialized "java/lang/Throwable") ∈ lw_tbl := lw_at lw_m1 8 rfl
theorem w71 : (Jvm.Cond.initialized "java/lang/Exception") ∈ lw_tbl := lw_at lw_m1 9 rfl
theorem w72 : (Jvm.Cond.initialized "java/lang/RuntimeException") ∈ lw_tbl := lw_at lw_m1 10 rfl
theorem w73 : (Jvm.Cond.initialized "java/lang/IllegalArgumentException") ∈ lw_tbl := lw_at lw_m1 11 rfl
theorem w74 : (Jvm.Cond.initialized "TripleStore$Term") ∈ lw_tbl := lw_at lw_m1 12 rfl
theorem w75 : (Jvm.Cond.initialized "TripleStore$Numeral") ∈ lw_tbl := lw_at lw_m1 13 rfl
theorem w76 : (Jvm.Cond.initialized "jdk/internal/util/ArraysSupport") ∈ lw_tbl := lw_at lw_m1 14 rfl
theorem w77 : (Jvm.Cond.initialized "java/lang/Math") ∈ lw_tbl := lw_at lw_m1 15 rfl
theorem w78 : (Jvm.Cond.initialized "java/util/Arrays") ∈ lw_tbl := lw_at lw_m1 16 rfl
theorem w79 : (Jvm.Cond.initialized "java/lang/System") ∈ lw_tbl := lw_at lw_m1 17 rfl
theorem w80 : (Jvm.Cond.initialized "java/lang/StringLatin1") ∈ lw_tbl := lw_at lw_m1 18 rfl
theorem w81 : (Jvm.Cond.initialized "jdk/internal/util/Preconditions") ∈ lw_tbl := lw_at lw_m1 19 rfl
theorem w82 : (Jvm.Cond.initialized "TripleStore$Word") ∈ lw_tbl := lw_at lw_m1 20 rfl
theorem w83 : (Jvm.Cond.initialized "java/lang/Number") ∈ lw_tbl := lw_at lw_m1 21 rfl
theorem w84 : (Jvm.Cond.initialized "java/lang/Integer") ∈ lw_tbl := lw_at lw_m1 22 rfl
theorem w85 : (Jvm.Cond.initialized "java/lang/IllegalStateException") ∈ lw_tbl := lw_at lw_m1 23 rfl
theorem w86 : (Jvm.Cond.initialized "TripleStore$Change") ∈ lw_tbl := lw_at lw_m1 24 rfl
theorem w87 : (Jvm.Cond.initialized "TripleStore$Commit") ∈ lw_tbl := lw_at lw_m1 25 rfl
theorem w88 : (Jvm.Cond.initialized "TripleStore$Reader") ∈ lw_tbl := lw_at lw_m1 26 rfl
theorem w89 : (Jvm.Cond.initialized "TripleStore$Query") ∈ lw_tbl := lw_at lw_m1 27 rfl
theorem w90 : (Jvm.Cond.initialized "TripleStore$Group") ∈ lw_tbl := lw_at lw_m1 28 rfl
theorem w91 : (Jvm.Cond.initialized "TripleStore$Element") ∈ lw_tbl := lw_at lw_m1 29 rfl
theorem w92 : (Jvm.Cond.initialized "TripleStore$Filter") ∈ lw_tbl := lw_at lw_m1 30 rfl
theorem w93 : (Jvm.Cond.initialized "TripleStore$Test") ∈ lw_tbl := lw_at lw_m1 31 rfl
theorem w94 : (Jvm.Cond.initialized "TripleStore$Not") ∈ lw_tbl := lw_at lw_m1 32 rfl
theorem w95 : (Jvm.Cond.initialized "TripleStore$Bound") ∈ lw_tbl := lw_at lw_m1 33 rfl
theorem w96 : (Jvm.Cond.initialized "TripleStore$Side") ∈ lw_tbl := lw_at lw_m1 34 rfl
theorem w97 : (Jvm.Cond.initialized "TripleStore$Comparison") ∈ lw_tbl := lw_at lw_m1 35 rfl
theorem w98 : (Jvm.Cond.initialized "TripleStore$Optional") ∈ lw_tbl := lw_at lw_m1 36 rfl
theorem w99 : (Jvm.Cond.initialized "TripleStore$Minus") ∈ lw_tbl := lw_at lw_m1 37 rfl
theorem w100 : (Jvm.Cond.initialized "TripleStore$Union") ∈ lw_tbl := lw_at lw_m1 38 rfl
theorem w101 : (Jvm.Cond.initialized "TripleStore$Pattern") ∈ lw_tbl := lw_at lw_m1 39 rfl
theorem w102 : (Jvm.Cond.initialized "TripleStore$Found") ∈ lw_tbl := lw_at lw_m1 40 rfl
theorem w103 : (Jvm.Cond.initialized "TripleStore$Solution") ∈ lw_tbl := lw_at lw_m1 41 rfl
theorem w104 : (Jvm.Cond.initialized "TripleStore$Row") ∈ lw_tbl := lw_at lw_m1 42 rfl
theorem w105 : (Jvm.Cond.initialized "java/util/NoSuchElementException") ∈ lw_tbl := lw_at lw_m1 43 rfl
theorem w106 : (Jvm.Cond.initialized "java/lang/UnsupportedOperationException") ∈ lw_tbl := lw_at lw_m1 44 rfl
theorem w107 : (Jvm.Cond.classLink "TripleStoreLaw" (8 : Nat) "TripleStore") ∈ lw_tbl := lw_at lw_m1 45 rfl
theorem w108 : (Jvm.Cond.instantiable "TripleStore" (14 : Nat)) ∈ lw_tbl := lw_at lw_m1 46 rfl
theorem w109 : (Jvm.Cond.methodLink "TripleStoreLaw" (52 : Nat) ({ cls := "TripleStore", name := "<init>", desc := "()V" } : Jvm.MethodName)) ∈ lw_tbl := lw_at lw_m1 47 rfl
theorem w110 : (Jvm.Cond.instanceMethod ({ cls := "TripleStore", name := "<init>", desc := "()V" } : Jvm.MethodName)) ∈ lw_tbl := lw_at lw_m1 48 rfl
theorem w111 : (Jvm.Cond.code ({ cls := "TripleStore", name := "<init>", desc := "()V" } : Jvm.MethodName) prog_1_method_1_code (1 : Nat) (Option.none : Option Jvm.ClassFile.FieldType)) ∈ lw_tbl := lw_at lw_m1 49 rfl
theorem w112 : (Jvm.Cond.methodLink "TripleStore" (1 : Nat) ({ cls := "java/lang/Object", name := "<init>", desc := "()V" } : Jvm.MethodName)) ∈ lw_tbl := lw_at lw_m1 50 rfl
theorem w113 : (Jvm.Cond.instanceMethod ({ cls := "java/lang/Object", name := "<init>", desc := "()V" } : Jvm.MethodName)) ∈ lw_tbl := lw_at lw_m1 51 rfl
theorem w114 : (Jvm.Cond.code ({ cls := "java/lang/Object", name := "<init>", desc := "()V" } : Jvm.MethodName) object_method_1_code (1 : Nat) (Option.none : Option Jvm.ClassFile.FieldType)) ∈ lw_tbl := lw_at lw_m1 52 rfl
theorem w115 : (Jvm.Cond.classLink "TripleStore" (9 : Nat) "TripleStore$Triple") ∈ lw_tbl := lw_at lw_m1 53 rfl
theorem w116 : (Jvm.Cond.arrayOver (Jvm.ClassFile.FieldType.object "TripleStore$Triple")) ∈ lw_tbl := lw_at lw_m1 54 rfl
theorem w117 : (Jvm.Cond.classLink "TripleStore" (15 : Nat) "java/lang/StringBuilder") ∈ lw_tbl := lw_at lw_m1 55 rfl
theorem w118 : (Jvm.Cond.instantiable "java/lang/StringBuilder" (4 : Nat)) ∈ lw_tbl := lw_at lw_m1 56 rfl
theorem w119 : (Jvm.Cond.methodLink "TripleStore" (17 : Nat) ({ cls := "java/lang/StringBuilder", name := "<init>", desc := "(I)V" } : Jvm.MethodName)) ∈ lw_tbl := lw_at lw_m1 57 rfl
theorem w120 : (Jvm.Cond.instanceMethod ({ cls := "java/lang/StringBuilder", name := "<init>", desc := "(I)V" } : Jvm.MethodName)) ∈ lw_tbl := lw_at lw_m1 58 rfl
theorem w121 : (Jvm.Cond.code ({ cls := "java/lang/StringBuilder", name := "<init>", desc := "(I)V" } : Jvm.MethodName) prog_41_method_2_code (2 : Nat) (Option.none : Option Jvm.ClassFile.FieldType)) ∈ lw_tbl := lw_at lw_m1 59 rfl
theorem w122 : (Jvm.Cond.methodLink "java/lang/StringBuilder" (1 : Nat) ({ cls := "java/lang/AbstractStringBuilder", name := "<init>", desc := "(I)V" } : Jvm.MethodName)) ∈ lw_tbl := lw_at lw_m1 60 rfl
theorem w123 : (Jvm.Cond.instanceMethod ({ cls := "java/lang/AbstractStringBuilder", name := "<init>", desc := "(I)V" } : Jvm.MethodName)) ∈ lw_tbl := lw_at lw_m1 61 rfl
theorem w124 : (Jvm.Cond.code ({ cls := "java/lang/AbstractStringBuilder", name := "<init>", desc := "(I)V" } : Jvm.MethodName) prog_28_method_2_code (2 : Nat) (Option.none : Option Jvm.ClassFile.FieldType)) ∈ lw_tbl := lw_at lw_m1 62 rfl
theorem w125 : (Jvm.Cond.methodLink "java/lang/AbstractStringBuilder" (3 : Nat) ({ cls := "java/lang/Object", name := "<init>", desc := "()V" } : Jvm.MethodName)) ∈ lw_tbl := lw_at lw_m1 63 rfl
theorem w126 : (Jvm.Cond.fieldLink "java/lang/AbstractStringBuilder" (18 : Nat) "java/lang/String" "COMPACT_STRINGS" "Z") ∈ lw_tbl := lw_at lw_m1 64 rfl
theorem w127 : (Jvm.Cond.laysStatic "java/lang/String" "COMPACT_STRINGS" "Z") ∈ lw_tbl := lw_at lw_m1 65 rfl
theorem w128 : (Jvm.Cond.methodLink "java/lang/AbstractStringBuilder" (26 : Nat) ({ cls := "java/lang/StringUTF16", name := "newBytesFor", desc := "(I)[B" } : Jvm.MethodName)) ∈ lw_tbl := lw_at lw_m1 66 rfl
theorem w129 : (Jvm.Cond.static ({ cls := "java/lang/StringUTF16", name := "newBytesFor", desc := "(I)[B" } : Jvm.MethodName)) ∈ lw_tbl := lw_at lw_m1 67 rfl
theorem w130 : (Jvm.Cond.code ({ cls := "java/lang/StringUTF16", name := "newBytesFor", desc := "(I)[B" } : Jvm.MethodName) prog_43_method_2_code (1 : Nat) (Option.some (Jvm.ClassFile.FieldType.array Jvm.ClassFile.FieldType.byte))) ∈ lw_tbl := lw_at lw_m1 68 rfl
theorem w131 : (Jvm.Cond.methodLink "java/lang/StringUTF16" (11 : Nat) ({ cls := "java/lang/StringUTF16", name := "newBytesLength", desc := "(I)I" } : Jvm.MethodName)) ∈ lw_tbl := lw_at lw_m1 69 rfl
theorem w132 : (Jvm.Cond.static ({ cls := "java/lang/StringUTF16", name := "newBytesLength", desc := "(I)I" } : Jvm.MethodName)) ∈ lw_tbl := lw_at lw_m1 70 rfl
theorem w133 : (Jvm.Cond.code ({ cls := "java/lang/StringUTF16", name := "newBytesLength", desc := "(I)I" } : Jvm.MethodName) prog_43_method_3_code (1 : Nat) (Option.some Jvm.ClassFile.FieldType.int)) ∈ lw_tbl := lw_at lw_m1 71 rfl
theorem w134 : (Jvm.Cond.constant "java/lang/StringUTF16" (20 : Nat) (1073741823 : Int32)) ∈ lw_tbl := lw_at lw_m1 72 rfl
theorem w135 : (Jvm.Cond.fieldLink "java/lang/AbstractStringBuilder" (15 : Nat) "java/lang/AbstractStringBuilder" "value" "[B") ∈ lw_tbl := lw_at lw_m1 73 rfl
theorem w136 : (Jvm.Cond.fieldLink "java/lang/AbstractStringBuilder" (22 : Nat) "java/lang/AbstractStringBuilder" "coder" "B") ∈ lw_tbl := lw_at lw_m1 74 rfl
theorem w137 : (Jvm.Cond.fieldLink "java/lang/AbstractStringBuilder" (73 : Nat) "java/lang/AbstractStringBuilder" "maybeLatin1" "Z") ∈ lw_tbl := lw_at lw_m1 75 rfl
theorem w138 : (Jvm.Cond.fieldLink "java/lang/String" (1048 : Nat) "java/lang/AbstractStringBuilder" "maybeLatin1" "Z") ∈ lw_tbl := lw_at lw_m1 76 rfl
theorem w139 : (Jvm.Cond.fieldLink "java/lang/AbstractStringBuilder" (79 : Nat) "java/lang/AbstractStringBuilder" "count" "I") ∈ lw_tbl := lw_at lw_m1 77 rfl
theorem w140 : (Jvm.Cond.lays "java/lang/StringBuilder" "java/lang/AbstractStringBuilder" "value" "[B") ∈ lw_tbl := lw_at lw_m1 78 rfl
theorem w141 : (Jvm.Cond.soleField "java/lang/AbstractStringBuilder" "value") ∈ lw_tbl := lw_at lw_m1 79 rfl
theorem w142 : (Jvm.Cond.lays "java/lang/StringBuilder" "java/lang/AbstractStringBuilder" "coder" "B") ∈ lw_tbl := lw_at lw_m1 80 rfl
theorem w143 : (Jvm.Cond.soleField "java/lang/AbstractStringBuilder" "coder") ∈ lw_tbl := lw_at lw_m1 81 rfl
theorem w144 : (Jvm.Cond.lays "java/lang/StringBuilder" "java/lang/AbstractStringBuilder" "maybeLatin1" "Z") ∈ lw_tbl := lw_at lw_m1 82 rfl
theorem w145 : (Jvm.Cond.soleField "java/lang/AbstractStringBuilder" "maybeLatin1") ∈ lw_tbl := lw_at lw_m1 83 rfl
theorem w146 : (Jvm.Cond.lays "java/lang/StringBuilder" "java/lang/AbstractStringBuilder" "count" "I") ∈ lw_tbl := lw_at lw_m1 84 rfl
theorem w147 : (Jvm.Cond.soleField "java/lang/AbstractStringBuilder" "count") ∈ lw_tbl := lw_at lw_m1 85 rfl
theorem w148 : (Jvm.Cond.superclass "java/lang/StringBuilder" "java/lang/AbstractStringBuilder") ∈ lw_tbl := lw_at lw_m1 86 rfl
theorem w149 : (Jvm.Cond.arrayClass Jvm.ClassFile.FieldType.byte) ∈ lw_tbl := lw_at lw_m1 87 rfl
theorem w150 : (Jvm.Cond.classLink "TripleStore" (28 : Nat) "TripleStore$Row") ∈ lw_tbl := lw_at lw_m1 88 rfl
theorem w151 : (Jvm.Cond.arrayOver (Jvm.ClassFile.FieldType.object "TripleStore$Row")) ∈ lw_tbl := lw_at lw_m1 89 rfl
theorem w152 : (Jvm.Cond.fieldLink "TripleStore" (11 : Nat) "TripleStore" "triples" "[LTripleStore$Triple;") ∈ lw_tbl := lw_at lw_m1 90 rfl
theorem w153 : (Jvm.Cond.fieldLinkNest "TripleStore$Pattern" (53 : Nat) "TripleStore" "triples" "[LTripleStore$Triple;" "TripleStore") ∈ lw_tbl := lw_at lw_m1 91 rfl
theorem w154 : (Jvm.Cond.fieldLinkNest "TripleStore$Pattern" (48 : Nat) "TripleStore" "count" "I" "TripleStore") ∈ lw_tbl := lw_at lw_m1 92 rfl
theorem w155 : (Jvm.Cond.fieldLink "TripleStore" (72 : Nat) "TripleStore" "count" "I") ∈ lw_tbl := lw_at lw_m1 93 rfl
theorem w156 : (Jvm.Cond.fieldLink "TripleStore" (91 : Nat) "TripleStore" "open" "Z") ∈ lw_tbl := lw_at lw_m1 94 rfl
theorem w157 : (Jvm.Cond.fieldLink "TripleStore" (81 : Nat) "TripleStore" "changes" "LTripleStore$Change;") ∈ lw_tbl := lw_at lw_m1 95 rfl
theorem w158 : (Jvm.Cond.fieldLink "TripleStore" (88 : Nat) "TripleStore" "changeCount" "I") ∈ lw_tbl := lw_at lw_m1 96 rfl
theorem w159 : (Jvm.Cond.fieldLink "TripleStore" (103 : Nat) "TripleStore" "oldest" "LTripleStore$Commit;") ∈ lw_tbl := lw_at lw_m1 97 rfl
theorem w160 : (Jvm.Cond.fieldLink "TripleStore" (107 : Nat) "TripleStore" "newest" "LTripleStore$Commit;") ∈ lw_tbl := lw_at lw_m1 98 rfl
theorem w161 : (Jvm.Cond.fieldLink "TripleStore" (113 : Nat) "TripleStore" "commits" "I") ∈ lw_tbl := lw_at lw_m1 99 rfl
theorem w162 : (Jvm.Cond.fieldLink "TripleStore" (116 : Nat) "TripleStore" "unsynced" "I") ∈ lw_tbl := lw_at lw_m1 100 rfl
theorem w163 : (Jvm.Cond.fieldLink "TripleStore" (20 : Nat) "TripleStore" "text" "Ljava/lang/StringBuilder;") ∈ lw_tbl := lw_at lw_m1 101 rfl
theorem w164 : (Jvm.Cond.fieldLink "TripleStore" (24 : Nat) "TripleStore" "fault" "I") ∈ lw_tbl := lw_at lw_m1 102 rfl
theorem w165 : (Jvm.Cond.fieldLinkNest "TripleStore$Reader" (28 : Nat) "TripleStore" "fault" "I" "TripleStore") ∈ lw_tbl := lw_at lw_m1 103 rfl
theorem w166 : (Jvm.Cond.fieldLink "TripleStore" (30 : Nat) "TripleStore" "rows" "[LTripleStore$Row;") ∈ lw_tbl := lw_at lw_m1 104 rfl
theorem w167 : (Jvm.Cond.fieldLink "TripleStore" (175 : Nat) "TripleStore" "rowCount" "I") ∈ lw_tbl := lw_at lw_m1 105 rfl
theorem w168 : (Jvm.Cond.fieldLink "TripleStore" (203 : Nat) "TripleStore" "columns" "I") ∈ lw_tbl := lw_at lw_m1 106 rfl
theorem w169 : (Jvm.Cond.laysFinal "TripleStore" "TripleStore" "triples" "[LTripleStore$Triple;") ∈ lw_tbl := lw_at lw_m1 107 rfl
theorem w170 : (Jvm.Cond.soleField "TripleStore" "triples") ∈ lw_tbl := lw_at lw_m1 108 rfl
theorem w171 : (Jvm.Cond.lays "TripleStore" "TripleStore" "count" "I") ∈ lw_tbl := lw_at lw_m1 109 rfl
theorem w172 : (Jvm.Cond.soleField "TripleStore" "count") ∈ lw_tbl := lw_at lw_m1 110 rfl
theorem w173 : (Jvm.Cond.lays "TripleStore" "TripleStore" "open" "Z") ∈ lw_tbl := lw_at lw_m1 111 rfl
theorem w174 : (Jvm.Cond.soleField "TripleStore" "open") ∈ lw_tbl := lw_at lw_m1 112 rfl
theorem w175 : (Jvm.Cond.lays "TripleStore" "TripleStore" "changes" "LTripleStore$Change;") ∈ lw_tbl := lw_at lw_m1 113 rfl
theorem w176 : (Jvm.Cond.soleField "TripleStore" "changes") ∈ lw_tbl := lw_at lw_m1 114 rfl
theorem w177 : (Jvm.Cond.lays "TripleStore" "TripleStore" "changeCount" "I") ∈ lw_tbl := lw_at lw_m1 115 rfl
theorem w178 : (Jvm.Cond.soleField "TripleStore" "changeCount") ∈ lw_tbl := lw_at lw_m1 116 rfl
theorem w179 : (Jvm.Cond.lays "TripleStore" "TripleStore" "oldest" "LTripleStore$Commit;") ∈ lw_tbl := lw_at lw_m1 117 rfl
theorem w180 : (Jvm.Cond.soleField "TripleStore" "oldest") ∈ lw_tbl := lw_at lw_m1 118 rfl
theorem w181 : (Jvm.Cond.lays "TripleStore" "TripleStore" "newest" "LTripleStore$Commit;") ∈ lw_tbl := lw_at lw_m1 119 rfl
theorem w182 : (Jvm.Cond.soleField "TripleStore" "newest") ∈ lw_tbl := lw_at lw_m1 120 rfl
theorem w183 : (Jvm.Cond.lays "TripleStore" "TripleStore" "commits" "I") ∈ lw_tbl := lw_at lw_m1 121 rfl
theorem w184 : (Jvm.Cond.soleField "TripleStore" "commits") ∈ lw_tbl := lw_at lw_m1 122 rfl
theorem w185 : (Jvm.Cond.lays "TripleStore" "TripleStore" "unsynced" "I") ∈ lw_tbl := lw_at lw_m1 123 rfl
theorem w186 : (Jvm.Cond.soleField "TripleStore" "unsynced") ∈ lw_tbl := lw_at lw_m1 124 rfl
theorem w187 : (Jvm.Cond.laysFinal "TripleStore" "TripleStore" "text" "Ljava/lang/StringBuilder;") ∈ lw_tbl := lw_at lw_m1 125 rfl
theorem w188 : (Jvm.Cond.soleField "TripleStore" "text") ∈ lw_tbl := lw_at lw_m1 126 rfl
theorem w189 : (Jvm.Cond.lays "TripleStore" "TripleStore" "fault" "I") ∈ lw_tbl := lw_at lw_m1 127 rfl
theorem w190 : (Jvm.Cond.soleField "TripleStore" "fault") ∈ lw_tbl := lw_at lw_m1 128 rfl
theorem w191 : (Jvm.Cond.lays "TripleStore" "TripleStore" "rows" "[LTripleStore$Row;") ∈ lw_tbl := lw_at lw_m1 129 rfl
theorem w192 : (Jvm.Cond.soleField "TripleStore" "rows") ∈ lw_tbl := lw_at lw_m1 130 rfl
theorem w193 : (Jvm.Cond.lays "TripleStore" "TripleStore" "rowCount" "I") ∈ lw_tbl := lw_at lw_m1 131 rfl
theorem w194 : (Jvm.Cond.soleField "TripleStore" "rowCount") ∈ lw_tbl := lw_at lw_m1 132 rfl
theorem w195 : (Jvm.Cond.lays "TripleStore" "TripleStore" "columns" "I") ∈ lw_tbl := lw_at lw_m1 133 rfl
theorem w196 : (Jvm.Cond.soleField "TripleStore" "columns") ∈ lw_tbl := lw_at lw_m1 134 rfl
theorem w197 : (Jvm.Cond.superclass "TripleStore" "java/lang/Object") ∈ lw_tbl := lw_at lw_m1 135 rfl
theorem w198 : (Jvm.Cond.methodLink "TripleStoreLaw" (80 : Nat) ({ cls := "TripleStore", name := "sync", desc := "()I" } : Jvm.MethodName)) ∈ lw_tbl := lw_at lw_m1 136 rfl
theorem w199 : (Jvm.Cond.instanceMethod ({ cls := "TripleStore", name := "sync", desc := "()I" } : Jvm.MethodName)) ∈ lw_tbl := lw_at lw_m1 137 rfl
theorem w200 : (Jvm.Cond.selects "TripleStore" ({ cls := "TripleStore", name := "sync", desc := "()I" } : Jvm.MethodName) ({ cls := "TripleStore", name := "sync", desc := "()I" } : Jvm.MethodName)) ∈ lw_tbl := lw_at lw_m1 138 rfl
theorem w201 : (Jvm.Cond.code ({ cls := "TripleStore", name := "sync", desc := "()I" } : Jvm.MethodName) prog_1_method_17_code (2 : Nat) (Option.some Jvm.ClassFile.FieldType.int)) ∈ lw_tbl := lw_at lw_m1 139 rfl
theorem w202 : (Jvm.Cond.methodLink "TripleStoreLaw" (95 : Nat) ({ cls := "TripleStore", name := "fault", desc := "()I" } : Jvm.MethodName)) ∈ lw_tbl := lw_at lw_m1 140 rfl
theorem w203 : (Jvm.Cond.instanceMethod ({ cls := "TripleStore", name := "fault", desc := "()I" } : Jvm.MethodName)) ∈ lw_tbl := lw_at lw_m1 141 rfl
theorem w204 : (Jvm.Cond.selects "TripleStore" ({ cls := "TripleStore", name := "fault", desc := "()I" } : Jvm.MethodName) ({ cls := "TripleStore", name := "fault", desc := "()I" } : Jvm.MethodName)) ∈ lw_tbl := lw_at lw_m1 142 rfl
theorem w205 : (Jvm.Cond.code ({ cls := "TripleStore", name := "fault", desc := "()I" } : Jvm.MethodName) prog_1_method_23_code (1 : Nat) (Option.some Jvm.ClassFile.FieldType.int)) ∈ lw_tbl := lw_at lw_m1 143 rfl
theorem w206 : (Jvm.Cond.methodLink "TripleStoreLaw" (58 : Nat) ({ cls := "TripleStoreLaw", name := "add", desc := "(LTripleStore;JJJ[J)I" } : Jvm.MethodName)) ∈ lw_tbl := lw_at lw_m1 144 rfl
theorem w207 : (Jvm.Cond.static ({ cls := "TripleStoreLaw", name := "add", desc := "(LTripleStore;JJJ[J)I" } : Jvm.MethodName)) ∈ lw_tbl := lw_at lw_m1 145 rfl
theorem w208 : (Jvm.Cond.codeWith ({ cls := "TripleStoreLaw", name := "add", desc := "(LTripleStore;JJJ[J)I" } : Jvm.MethodName) method_3_code (9 : Nat) (Option.some Jvm.ClassFile.FieldType.int) [((0 : Nat), (13 : Nat), (16 : Nat), (13 : Nat)), ((0 : Nat), (13 : Nat), (20 : Nat), (15 : Nat))]) ∈ lw_tbl := lw_at lw_m1 146 rfl
theorem w209 : (Jvm.Cond.classLink "TripleStoreLaw" (13 : Nat) "java/lang/IllegalArgumentException") ∈ lw_tbl := lw_at lw_m1 147 rfl
theorem w210 : (Jvm.Cond.classLink "TripleStoreLaw" (15 : Nat) "java/lang/IllegalStateException") ∈ lw_tbl := lw_at lw_m1 148 rfl
theorem w211 : (Jvm.Cond.methodLink "TripleStoreLaw" (7 : Nat) ({ cls := "TripleStore", name := "add", desc := "(JJJ)I" } : Jvm.MethodName)) ∈ lw_tbl := lw_at lw_m1 149 rfl
theorem w212 : (Jvm.Cond.instanceMethod ({ cls := "TripleStore", name := "add", desc := "(JJJ)I" } : Jvm.MethodName)) ∈ lw_tbl := lw_at lw_m1 150 rfl
theorem w213 : (Jvm.Cond.selects "TripleStore" ({ cls := "TripleStore", name := "add", desc := "(JJJ)I" } : Jvm.MethodName) ({ cls := "TripleStore", name := "add", desc := "(JJJ)I" } : Jvm.MethodName)) ∈ lw_tbl := lw_at lw_m1 151 rfl
theorem w214 : (Jvm.Cond.code ({ cls := "TripleStore", name := "add", desc := "(JJJ)I" } : Jvm.MethodName) prog_1_method_9_code (8 : Nat) (Option.some Jvm.ClassFile.FieldType.int)) ∈ lw_tbl := lw_at lw_m1 152 rfl
theorem w215 : (Jvm.Cond.methodLink "TripleStore" (119 : Nat) ({ cls := "TripleStore", name := "tripleOf", desc := "(JJJ)LTripleStore$Triple;" } : Jvm.MethodName)) ∈ lw_tbl := lw_at lw_m1 153 rfl
theorem w216 : (Jvm.Cond.static ({ cls := "TripleStore", name := "tripleOf", desc := "(JJJ)LTripleStore$Triple;" } : Jvm.MethodName)) ∈ lw_tbl := lw_at lw_m1 154 rfl
theorem w217 : (Jvm.Cond.code ({ cls := "TripleStore", name := "tripleOf", desc := "(JJJ)LTripleStore$Triple;" } : Jvm.MethodName) prog_1_method_3_code (7 : Nat) (Option.some (Jvm.ClassFile.FieldType.object "TripleStore$Triple"))) ∈ lw_tbl := lw_at lw_m1 155 rfl
theorem w218 : (Jvm.Cond.instantiable "TripleStore$Triple" (1 : Nat)) ∈ lw_tbl := lw_at lw_m1 156 rfl
theorem w219 : (Jvm.Cond.methodLink "TripleStore" (61 : Nat) ({ cls := "TripleStore", name := "termOf", desc := "(J)LTripleStore$Term;" } : Jvm.MethodName)) ∈ lw_tbl := lw_at lw_m1 157 rfl
theorem w220 : (Jvm.Cond.static ({ cls := "TripleStore", name := "termOf", desc := "(J)LTripleStore$Term;" } : Jvm.MethodName)) ∈ lw_tbl := lw_at lw_m1 158 rfl
theorem w221 : (Jvm.Cond.code ({ cls := "TripleStore", name := "termOf", desc := "(J)LTripleStore$Term;" } : Jvm.MethodName) prog_1_method_2_code (5 : Nat) (Option.some (Jvm.ClassFile.FieldType.object "TripleStore$Term"))) ∈ lw_tbl := lw_at lw_m1 159 rfl
theorem w222 : (Jvm.Cond.constantLong "TripleStore" (34 : Nat) (-10000 : Int64)) ∈ lw_tbl := lw_at lw_m1 160 rfl
theorem w223 : (Jvm.Cond.classLink "TripleStore" (36 : Nat) "java/lang/IllegalArgumentException") ∈ lw_tbl := lw_at lw_m1 161 rfl
theorem w224 : (Jvm.Cond.instantiable "java/lang/IllegalArgumentException" (6 : Nat)) ∈ lw_tbl := lw_at lw_m1 162 rfl
theorem w225 : (Jvm.Cond.castable "java/lang/IllegalArgumentException" "java/lang/IllegalArgumentException") ∈ lw_tbl := lw_at lw_m1 163 rfl
theorem w226 : (Jvm.Cond.declares ({ cls := "java/lang/RuntimeException", name := "<init>", desc := "()V" } : Jvm.MethodName)) ∈ lw_tbl := lw_at lw_m1 164 rfl
theorem w227 : (Jvm.Cond.declares ({ cls := "java/lang/RuntimeException", name := "<init>", desc := "(Ljava/lang/String;)V" } : Jvm.MethodName)) ∈ lw_tbl := lw_at lw_m1 165 rfl
theorem w228 : (Jvm.Cond.declares ({ cls := "java/lang/Exception", name := "<init>", desc := "()V" } : Jvm.MethodName)) ∈ lw_tbl := lw_at lw_m1 166 rfl
theorem w229 : (Jvm.Cond.declares ({ cls := "java/lang/Exception", name := "<init>", desc := "(Ljava/lang/String;)V" } : Jvm.MethodName)) ∈ lw_tbl := lw_at lw_m1 167 rfl
theorem w230 : (Jvm.Cond.declares ({ cls := "java/lang/Throwable", name := "<init>", desc := "()V" } : Jvm.MethodName)) ∈ lw_tbl := lw_at lw_m1 168 rfl
theorem w231 : (Jvm.Cond.declares ({ cls := "java/lang/Throwable", name := "<init>", desc := "(Ljava/lang/String;)V" } : Jvm.MethodName)) ∈ lw_tbl := lw_at lw_m1 169 rfl
theorem w232 : (Jvm.Cond.selects "java/lang/IllegalArgumentException" ({ cls := "java/lang/Throwable", name := "fillInStackTrace", desc := "(I)Ljava/lang/Throwable;" } : Jvm.MethodName) ({ cls := "java/lang/Throwable", name := "fillInStackTrace", desc := "(I)Ljava/lang/Throwable;" } : Jvm.MethodName)) ∈ lw_tbl := lw_at lw_m1 170 rfl
theorem w233 : (Jvm.Cond.selects "java/lang/IllegalArgumentException" ({ cls := "java/lang/Throwable", name := "fillInStackTrace", desc := "()Ljava/lang/Throwable;" } : Jvm.MethodName) ({ cls := "java/lang/Throwable", name := "fillInStackTrace", desc := "()Ljava/lang/Throwable;" } : Jvm.MethodName)) ∈ lw_tbl := lw_at lw_m1 171 rfl
theorem w234 : (Jvm.Cond.lays "java/lang/IllegalArgumentException" "java/lang/Throwable" "cause" "Ljava/lang/Throwable;") ∈ lw_tbl := lw_at lw_m1 172 rfl
theorem w235 : (Jvm.Cond.lays "java/lang/Throwable" "java/lang/Throwable" "cause" "Ljava/lang/Throwable;") ∈ lw_tbl := lw_at lw_m1 173 rfl
theorem w236 : (Jvm.Cond.lays "java/lang/IllegalArgumentException" "java/lang/Throwable" "stackTrace" "[Ljava/lang/StackTraceElement;") ∈ lw_tbl := lw_at lw_m1 174 rfl
theorem w237 : (Jvm.Cond.lays "java/lang/Throwable" "java/lang/Throwable" "stackTrace" "[Ljava/lang/StackTraceElement;") ∈ lw_tbl := lw_at lw_m1 175 rfl
theorem w238 : (Jvm.Cond.lays "java/lang/IllegalArgumentException" "java/lang/Throwable" "suppressedExceptions" "Ljava/util/List;") ∈ lw_tbl := lw_at lw_m1 176 rfl
theorem w239 : (Jvm.Cond.lays "java/lang/Throwable" "java/lang/Throwable" "suppressedExceptions" "Ljava/util/List;") ∈ lw_tbl := lw_at lw_m1 177 rfl
theorem w240 : (Jvm.Cond.lays "java/lang/IllegalArgumentException" "java/lang/Throwable" "detailMessage" "Ljava/lang/String;") ∈ lw_tbl := lw_at lw_m1 178 rfl
theorem w241 : (Jvm.Cond.lays "java/lang/Throwable" "java/lang/Throwable" "detailMessage" "Ljava/lang/String;") ∈ lw_tbl := lw_at lw_m1 179 rfl
theorem w242 : (Jvm.Cond.lays "java/lang/IllegalArgumentException" "java/lang/Throwable" "backtrace" "Ljava/lang/Object;") ∈ lw_tbl := lw_at lw_m1 180 rfl
theorem w243 : (Jvm.Cond.lays "java/lang/Throwable" "java/lang/Throwable" "backtrace" "Ljava/lang/Object;") ∈ lw_tbl := lw_at lw_m1 181 rfl
theorem w244 : (Jvm.Cond.fieldLink "java/lang/Throwable" (198 : Nat) "java/lang/Throwable" "backtrace" "Ljava/lang/Object;") ∈ lw_tbl := lw_at lw_m1 182 rfl
theorem w245 : (Jvm.Cond.superclass "java/lang/Throwable" "java/lang/Object") ∈ lw_tbl := lw_at lw_m1 183 rfl
theorem w246 : (Jvm.Cond.instanceMethod ({ cls := "java/lang/Throwable", name := "<init>", desc := "()V" } : Jvm.MethodName)) ∈ lw_tbl := lw_at lw_m1 184 rfl
theorem w247 : (Jvm.Cond.code ({ cls := "java/lang/Throwable", name := "<init>", desc := "()V" } : Jvm.MethodName) prog_46_method_1_code (1 : Nat) (Option.none : Option Jvm.ClassFile.FieldType)) ∈ lw_tbl := lw_at lw_m1 185 rfl
theorem w248 : (Jvm.Cond.methodLink "java/lang/Throwable" (1 : Nat) ({ cls := "java/lang/Object", name := "<init>", desc := "()V" } : Jvm.MethodName)) ∈ lw_tbl := lw_at lw_m1 186 rfl
theorem w249 : (Jvm.Cond.fieldLink "java/lang/Throwable" (13 : Nat) "java/lang/Throwable" "UNASSIGNED_STACK" "[Ljava/lang/StackTraceElement;") ∈ lw_tbl := lw_at lw_m1 187 rfl
theorem w250 : (Jvm.Cond.laysStatic "java/lang/Throwable" "UNASSIGNED_STACK" "[Ljava/lang/StackTraceElement;") ∈ lw_tbl := lw_at lw_m1 188 rfl
theorem w251 : (Jvm.Cond.fieldLink "java/lang/Throwable" (20 : Nat) "java/lang/Throwable" "SUPPRESSED_SENTINEL" "Ljava/util/List;") ∈ lw_tbl := lw_at lw_m1 189 rfl
theorem w252 : (Jvm.Cond.laysStatic "java/lang/Throwable" "SUPPRESSED_SENTINEL" "Ljava/util/List;") ∈ lw_tbl := lw_at lw_m1 190 rfl
theorem w253 : (Jvm.Cond.methodLink "java/lang/Throwable" (27 : Nat) ({ cls := "java/lang/Throwable", name := "fillInStackTrace", desc := "()Ljava/lang/Throwable;" } : Jvm.MethodName)) ∈ lw_tbl := lw_at lw_m1 191 rfl
theorem w254 : (Jvm.Cond.instanceMethod ({ cls := "java/lang/Throwable", name := "fillInStackTrace", desc := "()Ljava/lang/Throwable;" } : Jvm.MethodName)) ∈ lw_tbl := lw_at lw_m1 192 rfl
theorem w255 : (Jvm.Cond.sameMethod "java/lang/Throwable" "java/lang/Throwable" "fillInStackTrace" "()Ljava/lang/Throwable;") ∈ lw_tbl := lw_at lw_m1 193 rfl
theorem w256 : (Jvm.Cond.selects "java/lang/IllegalStateException" ({ cls := "java/lang/Throwable", name := "fillInStackTrace", desc := "()Ljava/lang/Throwable;" } : Jvm.MethodName) ({ cls := "java/lang/Throwable", name := "fillInStackTrace", desc := "()Ljava/lang/Throwable;" } : Jvm.MethodName)) ∈ lw_tbl := lw_at lw_m1 194 rfl
theorem w257 : (Jvm.Cond.selects "java/lang/UnsupportedOperationException" ({ cls := "java/lang/Throwable", name := "fillInStackTrace", desc := "()Ljava/lang/Throwable;" } : Jvm.MethodName) ({ cls := "java/lang/Throwable", name := "fillInStackTrace", desc := "()Ljava/lang/Throwable;" } : Jvm.MethodName)) ∈ lw_tbl := lw_at lw_m1 195 rfl
theorem w258 : (Jvm.Cond.selects "java/util/NoSuchElementException" ({ cls := "java/lang/Throwable", name := "fillInStackTrace", desc := "()Ljava/lang/Throwable;" } : Jvm.MethodName) ({ cls := "java/lang/Throwable", name := "fillInStackTrace", desc := "()Ljava/lang/Throwable;" } : Jvm.MethodName)) ∈ lw_tbl := lw_at lw_m1 196 rfl
theorem w259 : (Jvm.Cond.codeSync ({ cls := "java/lang/Throwable", name := "fillInStackTrace", desc := "()Ljava/lang/Throwable;" } : Jvm.MethodName) prog_46_method_18_code (1 : Nat) (Option.some (Jvm.ClassFile.FieldType.object "java/lang/Throwable"))) ∈ lw_tbl := lw_at lw_m1 197 rfl
theorem w260 : (Jvm.Cond.methodLink "java/lang/Throwable" (202 : Nat) ({ cls := "java/lang/Throwable", name := "fillInStackTrace", desc := "(I)Ljava/lang/Throwable;" } : Jvm.MethodName)) ∈ lw_tbl := lw_at lw_m1 198 rfl
theorem w261 : (Jvm.Cond.privateMethod ({ cls := "java/lang/Throwable", name := "fillInStackTrace", desc := "(I)Ljava/lang/Throwable;" } : Jvm.MethodName)) ∈ lw_tbl := lw_at lw_m1 199 rfl
theorem w262 : (Jvm.Cond.instanceMethod ({ cls := "java/lang/Throwable", name := "fillInStackTrace", desc := "(I)Ljava/lang/Throwable;" } : Jvm.MethodName)) ∈ lw_tbl := lw_at lw_m1 200 rfl
theorem w263 : (Jvm.Cond.instantiable "java/lang/Throwable" (6 : Nat)) ∈ lw_tbl := lw_at lw_m1 201 rfl
theorem w264 : (Jvm.Cond.native ({ cls := "java/lang/Throwable", name := "fillInStackTrace", desc := "(I)Ljava/lang/Throwable;" } : Jvm.MethodName)) ∈ lw_tbl := lw_at lw_m1 202 rfl
theorem w265 : (Jvm.Cond.methodLink "TripleStore" (38 : Nat) ({ cls := "java/lang/IllegalArgumentException", name := "<init>", desc := "()V" } : Jvm.MethodName)) ∈ lw_tbl := lw_at lw_m1 203 rfl
theorem w266 : (Jvm.Cond.instanceMethod ({ cls := "java/lang/IllegalArgumentException", name := "<init>", desc := "()V" } : Jvm.MethodName)) ∈ lw_tbl := lw_at lw_m1 204 rfl
theorem w267 : (Jvm.Cond.code ({ cls := "java/lang/IllegalArgumentException", name := "<init>", desc := "()V" } : Jvm.MethodName) prog_34_method_1_code (1 : Nat) (Option.none : Option Jvm.ClassFile.FieldType)) ∈ lw_tbl := lw_at lw_m1 205 rfl
theorem w268 : (Jvm.Cond.methodLink "java/lang/IllegalArgumentException" (1 : Nat) ({ cls := "java/lang/RuntimeException", name := "<init>", desc := "()V" } : Jvm.MethodName)) ∈ lw_tbl := lw_at lw_m1 206 rfl
theorem w269 : (Jvm.Cond.instanceMethod ({ cls := "java/lang/RuntimeException", name := "<init>", desc := "()V" } : Jvm.MethodName)) ∈ lw_tbl := lw_at lw_m1 207 rfl
theorem w270 : (Jvm.Cond.code ({ cls := "java/lang/RuntimeException", name := "<init>", desc := "()V" } : Jvm.MethodName) prog_39_method_1_code (1 : Nat) (Option.none : Option Jvm.ClassFile.FieldType)) ∈ lw_tbl := lw_at lw_m1 208 rfl
theorem w271 : (Jvm.Cond.methodLink "java/lang/RuntimeException" (1 : Nat) ({ cls := "java/lang/Exception", name := "<init>", desc := "()V" } : Jvm.MethodName)) ∈ lw_tbl := lw_at lw_m1 209 rfl
theorem w272 : (Jvm.Cond.instanceMethod ({ cls := "java/lang/Exception", name := "<init>", desc := "()V" } : Jvm.MethodName)) ∈ lw_tbl := lw_at lw_m1 210 rfl
theorem w273 : (Jvm.Cond.code ({ cls := "java/lang/Exception", name := "<init>", desc := "()V" } : Jvm.MethodName) prog_33_method_1_code (1 : Nat) (Option.none : Option Jvm.ClassFile.FieldType)) ∈ lw_tbl := lw_at lw_m1 211 rfl
theorem w274 : (Jvm.Cond.methodLink "java/lang/Exception" (1 : Nat) ({ cls := "java/lang/Throwable", name := "<init>", desc := "()V" } : Jvm.MethodName)) ∈ lw_tbl := lw_at lw_m1 212 rfl
theorem w275 : (Jvm.Cond.fieldLink "java/lang/Throwable" (198 : Nat) "java/lang/Throwable" "backtrace" "Ljava/lang/Object;") ∈ lw_tbl := lw_at lw_m1 213 rfl
theorem w276 : (Jvm.Cond.fieldLink "java/lang/Throwable" (31 : Nat) "java/lang/Throwable" "detailMessage" "Ljava/lang/String;") ∈ lw_tbl := lw_at lw_m1 214 rfl
theorem w277 : (Jvm.Cond.fieldLink "java/lang/Throwable" (7 : Nat) "java/lang/Throwable" "cause" "Ljava/lang/Throwable;") ∈ lw_tbl := lw_at lw_m1 215 rfl
theorem w278 : (Jvm.Cond.fieldLink "java/lang/Throwable" (17 : Nat) "java/lang/Throwable" "stackTrace" "[Ljava/lang/StackTraceElement;") ∈ lw_tbl := lw_at lw_m1 216 rfl
theorem w279 : (Jvm.Cond.fieldLink "java/lang/Throwable" (24 : Nat) "java/lang/Throwable" "suppressedExceptions" "Ljava/util/List;") ∈ lw_tbl := lw_at lw_m1 217 rfl
theorem w280 : (Jvm.Cond.soleField "java/lang/Throwable" "backtrace") ∈ lw_tbl := lw_at lw_m1 218 rfl
theorem w281 : (Jvm.Cond.soleField "java/lang/Throwable" "detailMessage") ∈ lw_tbl := lw_at lw_m1 219 rfl
theorem w282 : (Jvm.Cond.soleField "java/lang/Throwable" "cause") ∈ lw_tbl := lw_at lw_m1 220 rfl
theorem w283 : (Jvm.Cond.soleField "java/lang/Throwable" "stackTrace") ∈ lw_tbl := lw_at lw_m1 221 rfl
theorem w284 : (Jvm.Cond.lays "java/lang/IllegalArgumentException" "java/lang/Throwable" "depth" "I") ∈ lw_tbl := lw_at lw_m1 222 rfl
theorem w285 : (Jvm.Cond.soleField "java/lang/Throwable" "depth") ∈ lw_tbl := lw_at lw_m1 223 rfl
theorem w286 : (Jvm.Cond.soleField "java/lang/Throwable" "suppressedExceptions") ∈ lw_tbl := lw_at lw_m1 224 rfl
theorem w287 : (Jvm.Cond.superclass "java/lang/IllegalArgumentException" "java/lang/RuntimeException") ∈ lw_tbl := lw_at lw_m1 225 rfl
theorem w288 : (Jvm.Cond.classLink "TripleStore" (39 : Nat) "TripleStore$Numeral") ∈ lw_tbl := lw_at lw_m1 226 rfl
theorem w289 : (Jvm.Cond.instantiable "TripleStore$Numeral" (1 : Nat)) ∈ lw_tbl := lw_at lw_m1 227 rfl
theorem w290 : (Jvm.Cond.constantLong "TripleStore" (41 : Nat) (-1 : Int64)) ∈ lw_tbl := lw_at lw_m1 228 rfl
theorem w291 : (Jvm.Cond.methodLink "TripleStore" (43 : Nat) ({ cls := "TripleStore$Numeral", name := "<init>", desc := "(I)V" } : Jvm.MethodName)) ∈ lw_tbl := lw_at lw_m1 229 rfl
theorem w292 : (Jvm.Cond.instanceMethod ({ cls := "TripleStore$Numeral", name := "<init>", desc := "(I)V" } : Jvm.MethodName)) ∈ lw_tbl := lw_at lw_m1 230 rfl
theorem w293 : (Jvm.Cond.code ({ cls := "TripleStore$Numeral", name := "<init>", desc := "(I)V" } : Jvm.MethodName) prog_12_method_1_code (2 : Nat) (Option.none : Option Jvm.ClassFile.FieldType)) ∈ lw_tbl := lw_at lw_m1 231 rfl
theorem w294 : (Jvm.Cond.methodLinkNest "TripleStore$Numeral" (1 : Nat) ({ cls := "TripleStore$Term", name := "<init>", desc := "()V" } : Jvm.MethodName) "TripleStore") ∈ lw_tbl := lw_at lw_m1 232 rfl
theorem w295 : (Jvm.Cond.instanceMethod ({ cls := "TripleStore$Term", name := "<init>", desc := "()V" } : Jvm.MethodName)) ∈ lw_tbl := lw_at lw_m1 233 rfl
theorem w296 : (Jvm.Cond.code ({ cls := "TripleStore$Term", name := "<init>", desc := "()V" } : Jvm.MethodName) prog_20_method_1_code (1 : Nat) (Option.none : Option Jvm.ClassFile.FieldType)) ∈ lw_tbl := lw_at lw_m1 234 rfl
theorem w297 : (Jvm.Cond.methodLink "TripleStore$Term" (1 : Nat) ({ cls := "java/lang/Object", name := "<init>", desc := "()V" } : Jvm.MethodName)) ∈ lw_tbl := lw_at lw_m1 235 rfl
theorem w298 : (Jvm.Cond.fieldLink "TripleStore$Numeral" (7 : Nat) "TripleStore$Numeral" "value" "I") ∈ lw_tbl := lw_at lw_m1 236 rfl
theorem w299 : (Jvm.Cond.laysFinal "TripleStore$Numeral" "TripleStore$Numeral" "value" "I") ∈ lw_tbl := lw_at lw_m1 237 rfl
theorem w300 : (Jvm.Cond.soleField "TripleStore$Numeral" "value") ∈ lw_tbl := lw_at lw_m1 238 rfl
theorem w301 : (Jvm.Cond.superclass "TripleStore$Numeral" "TripleStore$Term") ∈ lw_tbl := lw_at lw_m1 239 rfl
theorem w302 : (Jvm.Cond.methodLink "TripleStore" (44 : Nat) ({ cls := "java/lang/StringBuilder", name := "length", desc := "()I" } : Jvm.MethodName)) ∈ lw_tbl := lw_at lw_m2 0 rfl
theorem w303 : (Jvm.Cond.instanceMethod ({ cls := "java/lang/StringBuilder", name := "length", desc := "()I" } : Jvm.MethodName)) ∈ lw_tbl := lw_at lw_m2 1 rfl
theorem w304 : (Jvm.Cond.selects "java/lang/StringBuilder" ({ cls := "java/lang/StringBuilder", name := "length", desc := "()I" } : Jvm.MethodName) ({ cls := "java/lang/StringBuilder", name := "length", desc := "()I" } : Jvm.MethodName)) ∈ lw_tbl := lw_at lw_m2 2 rfl
theorem w305 : (Jvm.Cond.code ({ cls := "java/lang/StringBuilder", name := "length", desc := "()I" } : Jvm.MethodName) prog_41_method_93_code (1 : Nat) (Option.some Jvm.ClassFile.FieldType.int)) ∈ lw_tbl := lw_at lw_m2 3 rfl
theorem w306 : (Jvm.Cond.methodLink "java/lang/StringBuilder" (343 : Nat) ({ cls := "java/lang/AbstractStringBuilder", name := "length", desc := "()I" } : Jvm.MethodName)) ∈ lw_tbl := lw_at lw_m2 4 rfl
theorem w307 : (Jvm.Cond.instanceMethod ({ cls := "java/lang/AbstractStringBuilder", name := "length", desc := "()I" } : Jvm.MethodName)) ∈ lw_tbl := lw_at lw_m2 5 rfl
theorem w308 : (Jvm.Cond.code ({ cls := "java/lang/AbstractStringBuilder", name := "length", desc := "()I" } : Jvm.MethodName) prog_28_method_6_code (1 : Nat) (Option.some Jvm.ClassFile.FieldType.int)) ∈ lw_tbl := lw_at lw_m2 6 rfl
theorem w309 : (Jvm.Cond.methodLink "TripleStore" (48 : Nat) ({ cls := "java/lang/StringBuilder", name := "append", desc := "(C)Ljava/lang/StringBuilder;" } : Jvm.MethodName)) ∈ lw_tbl := lw_at lw_m2 7 rfl
theorem w310 : (Jvm.Cond.instanceMethod ({ cls := "java/lang/StringBuilder", name := "append", desc := "(C)Ljava/lang/StringBuilder;" } : Jvm.MethodName)) ∈ lw_tbl := lw_at lw_m2 8 rfl
theorem w311 : (Jvm.Cond.selects "java/lang/StringBuilder" ({ cls := "java/lang/StringBuilder", name := "append", desc := "(C)Ljava/lang/StringBuilder;" } : Jvm.MethodName) ({ cls := "java/lang/StringBuilder", name := "append", desc := "(C)Ljava/lang/StringBuilder;" } : Jvm.MethodName)) ∈ lw_tbl := lw_at lw_m2 9 rfl
theorem w312 : (Jvm.Cond.code ({ cls := "java/lang/StringBuilder", name := "append", desc := "(C)Ljava/lang/StringBuilder;" } : Jvm.MethodName) prog_41_method_14_code (2 : Nat) (Option.some (Jvm.ClassFile.FieldType.object "java/lang/StringBuilder"))) ∈ lw_tbl := lw_at lw_m2 10 rfl
theorem w313 : (Jvm.Cond.methodLink "java/lang/StringBuilder" (50 : Nat) ({ cls := "java/lang/AbstractStringBuilder", name := "append", desc := "(C)Ljava/lang/AbstractStringBuilder;" } : Jvm.MethodName)) ∈ lw_tbl := lw_at lw_m2 11 rfl
theorem w314 : (Jvm.Cond.instanceMethod ({ cls := "java/lang/AbstractStringBuilder", name := "append", desc := "(C)Ljava/lang/AbstractStringBuilder;" } : Jvm.MethodName)) ∈ lw_tbl := lw_at lw_m2 12 rfl
theorem w315 : (Jvm.Cond.code ({ cls := "java/lang/AbstractStringBuilder", name := "append", desc := "(C)Ljava/lang/AbstractStringBuilder;" } : Jvm.MethodName) prog_28_method_31_code (2 : Nat) (Option.some (Jvm.ClassFile.FieldType.object "java/lang/AbstractStringBuilder"))) ∈ lw_tbl := lw_at lw_m2 13 rfl
theorem w316 : (Jvm.Cond.methodLink "java/lang/AbstractStringBuilder" (100 : Nat) ({ cls := "java/lang/AbstractStringBuilder", name := "ensureCapacityInternal", desc := "(I)V" } : Jvm.MethodName)) ∈ lw_tbl := lw_at lw_m2 14 rfl
theorem w317 : (Jvm.Cond.privateMethod ({ cls := "java/lang/AbstractStringBuilder", name := "ensureCapacityInternal", desc := "(I)V" } : Jvm.MethodName)) ∈ lw_tbl := lw_at lw_m2 15 rfl
theorem w318 : (Jvm.Cond.instanceMethod ({ cls := "java/lang/AbstractStringBuilder", name := "ensureCapacityInternal", desc := "(I)V" } : Jvm.MethodName)) ∈ lw_tbl := lw_at lw_m2 16 rfl
theorem w319 : (Jvm.Cond.code ({ cls := "java/lang/AbstractStringBuilder", name := "ensureCapacityInternal", desc := "(I)V" } : Jvm.MethodName) prog_28_method_9_code (3 : Nat) (Option.none : Option Jvm.ClassFile.FieldType)) ∈ lw_tbl := lw_at lw_m2 17 rfl
theorem w320 : (Jvm.Cond.methodLink "java/lang/AbstractStringBuilder" (104 : Nat) ({ cls := "java/lang/AbstractStringBuilder", name := "newCapacity", desc := "(I)I" } : Jvm.MethodName)) ∈ lw_tbl := lw_at lw_m2 18 rfl
theorem w321 : (Jvm.Cond.privateMethod ({ cls := "java/lang/AbstractStringBuilder", name := "newCapacity", desc := "(I)I" } : Jvm.MethodName)) ∈ lw_tbl := lw_at lw_m2 19 rfl
theorem w322 : (Jvm.Cond.instanceMethod ({ cls := "java/lang/AbstractStringBuilder", name := "newCapacity", desc := "(I)I" } : Jvm.MethodName)) ∈ lw_tbl := lw_at lw_m2 20 rfl
theorem w323 : (Jvm.Cond.code ({ cls := "java/lang/AbstractStringBuilder", name := "newCapacity", desc := "(I)I" } : Jvm.MethodName) prog_28_method_10_code (6 : Nat) (Option.some Jvm.ClassFile.FieldType.int)) ∈ lw_tbl := lw_at lw_m2 21 rfl
theorem w324 : (Jvm.Cond.methodLink "java/lang/AbstractStringBuilder" (114 : Nat) ({ cls := "jdk/internal/util/ArraysSupport", name := "newLength", desc := "(III)I" } : Jvm.MethodName)) ∈ lw_tbl := lw_at lw_m2 22 rfl
theorem w325 : (Jvm.Cond.static ({ cls := "jdk/internal/util/ArraysSupport", name := "newLength", desc := "(III)I" } : Jvm.MethodName)) ∈ lw_tbl := lw_at lw_m2 23 rfl
theorem w326 : (Jvm.Cond.code ({ cls := "jdk/internal/util/ArraysSupport", name := "newLength", desc := "(III)I" } : Jvm.MethodName) prog_53_method_27_code (4 : Nat) (Option.some Jvm.ClassFile.FieldType.int)) ∈ lw_tbl := lw_at lw_m2 24 rfl
theorem w327 : (Jvm.Cond.methodLink "jdk/internal/util/ArraysSupport" (194 : Nat) ({ cls := "java/lang/Math", name := "max", desc := "(II)I" } : Jvm.MethodName)) ∈ lw_tbl := lw_at lw_m2 25 rfl
theorem w328 : (Jvm.Cond.static ({ cls := "java/lang/Math", name := "max", desc := "(II)I" } : Jvm.MethodName)) ∈ lw_tbl := lw_at lw_m2 26 rfl
theorem w329 : (Jvm.Cond.code ({ cls := "java/lang/Math", name := "max", desc := "(II)I" } : Jvm.MethodName) prog_37_method_65_code (2 : Nat) (Option.some Jvm.ClassFile.FieldType.int)) ∈ lw_tbl := lw_at lw_m2 27 rfl
theorem w330 : (Jvm.Cond.constant "jdk/internal/util/ArraysSupport" (200 : Nat) (2147483639 : Int32)) ∈ lw_tbl := lw_at lw_m2 28 rfl
theorem w331 : (Jvm.Cond.methodLink "jdk/internal/util/ArraysSupport" (201 : Nat) ({ cls := "jdk/internal/util/ArraysSupport", name := "hugeLength", desc := "(II)I" } : Jvm.MethodName)) ∈ lw_tbl := lw_at lw_m2 29 rfl
theorem w332 : (Jvm.Cond.static ({ cls := "jdk/internal/util/ArraysSupport", name := "hugeLength", desc := "(II)I" } : Jvm.MethodName)) ∈ lw_tbl := lw_at lw_m2 30 rfl
theorem w333 : (Jvm.Cond.code ({ cls := "jdk/internal/util/ArraysSupport", name := "hugeLength", desc := "(II)I" } : Jvm.MethodName) prog_53_method_28_code (3 : Nat) (Option.some Jvm.ClassFile.FieldType.int)) ∈ lw_tbl := lw_at lw_m2 31 rfl
theorem w334 : (Jvm.Cond.constant "java/lang/AbstractStringBuilder" (39 : Nat) (2147483647 : Int32)) ∈ lw_tbl := lw_at lw_m2 32 rfl
theorem w335 : (Jvm.Cond.methodLink "java/lang/AbstractStringBuilder" (108 : Nat) ({ cls := "java/util/Arrays", name := "copyOf", desc := "([BI)[B" } : Jvm.MethodName)) ∈ lw_tbl := lw_at lw_m2 33 rfl
theorem w336 : (Jvm.Cond.static ({ cls := "java/util/Arrays", name := "copyOf", desc := "([BI)[B" } : Jvm.MethodName)) ∈ lw_tbl := lw_at lw_m2 34 rfl
theorem w337 : (Jvm.Cond.code ({ cls := "java/util/Arrays", name := "copyOf", desc := "([BI)[B" } : Jvm.MethodName) prog_50_method_121_code (3 : Nat) (Option.some (Jvm.ClassFile.FieldType.array Jvm.ClassFile.FieldType.byte))) ∈ lw_tbl := lw_at lw_m2 35 rfl
theorem w338 : (Jvm.Cond.methodLink "java/util/Arrays" (310 : Nat) ({ cls := "[B", name := "clone", desc := "()Ljava/lang/Object;" } : Jvm.MethodName)) ∈ lw_tbl := lw_at lw_m2 36 rfl
theorem w339 : (Jvm.Cond.sameMethod "[B" "java/lang/Object" "clone" "()Ljava/lang/Object;") ∈ lw_tbl := lw_at lw_m2 37 rfl
theorem w340 : (Jvm.Cond.native ({ cls := "java/lang/Object", name := "clone", desc := "()Ljava/lang/Object;" } : Jvm.MethodName)) ∈ lw_tbl := lw_at lw_m2 38 rfl
theorem w341 : (Jvm.Cond.instanceMethod ({ cls := "java/lang/Object", name := "clone", desc := "()Ljava/lang/Object;" } : Jvm.MethodName)) ∈ lw_tbl := lw_at lw_m2 39 rfl
theorem w342 : (Jvm.Cond.selects "[B" ({ cls := "[B", name := "clone", desc := "()Ljava/lang/Object;" } : Jvm.MethodName) ({ cls := "java/lang/Object", name := "clone", desc := "()Ljava/lang/Object;" } : Jvm.MethodName)) ∈ lw_tbl := lw_at lw_m2 40 rfl
theorem w343 : (Jvm.Cond.castable "[B" "java/lang/Cloneable") ∈ lw_tbl := lw_at lw_m2 41 rfl
theorem w344 : (Jvm.Cond.classLink "java/util/Arrays" (311 : Nat) "[B") ∈ lw_tbl := lw_at lw_m2 42 rfl
theorem w345 : (Jvm.Cond.methodLink "java/util/Arrays" (304 : Nat) ({ cls := "java/lang/Math", name := "min", desc := "(II)I" } : Jvm.MethodName)) ∈ lw_tbl := lw_at lw_m2 43 rfl
theorem w346 : (Jvm.Cond.static ({ cls := "java/lang/Math", name := "min", desc := "(II)I" } : Jvm.MethodName)) ∈ lw_tbl := lw_at lw_m2 44 rfl
theorem w347 : (Jvm.Cond.code ({ cls := "java/lang/Math", name := "min", desc := "(II)I" } : Jvm.MethodName) prog_37_method_69_code (2 : Nat) (Option.some Jvm.ClassFile.FieldType.int)) ∈ lw_tbl := lw_at lw_m2 45 rfl
theorem w348 : (Jvm.Cond.methodLink "java/util/Arrays" (150 : Nat) ({ cls := "java/lang/System", name := "arraycopy", desc := "(Ljava/lang/Object;ILjava/lang/Object;II)V" } : Jvm.MethodName)) ∈ lw_tbl := lw_at lw_m2 46 rfl
theorem w349 : (Jvm.Cond.static ({ cls := "java/lang/System", name := "arraycopy", desc := "(Ljava/lang/Object;ILjava/lang/Object;II)V" } : Jvm.MethodName)) ∈ lw_tbl := lw_at lw_m2 47 rfl
theorem w350 : (Jvm.Cond.native ({ cls := "java/lang/System", name := "arraycopy", desc := "(Ljava/lang/Object;ILjava/lang/Object;II)V" } : Jvm.MethodName)) ∈ lw_tbl := lw_at lw_m2 48 rfl
theorem w351 : (Jvm.Cond.methodLink "java/lang/AbstractStringBuilder" (83 : Nat) ({ cls := "java/lang/AbstractStringBuilder", name := "isLatin1", desc := "()Z" } : Jvm.MethodName)) ∈ lw_tbl := lw_at lw_m2 49 rfl
theorem w352 : (Jvm.Cond.instanceMethod ({ cls := "java/lang/AbstractStringBuilder", name := "isLatin1", desc := "()Z" } : Jvm.MethodName)) ∈ lw_tbl := lw_at lw_m2 50 rfl
theorem w353 : (Jvm.Cond.sameMethod "java/lang/AbstractStringBuilder" "java/lang/AbstractStringBuilder" "isLatin1" "()Z") ∈ lw_tbl := lw_at lw_m2 51 rfl
theorem w354 : (Jvm.Cond.selects "java/lang/StringBuilder" ({ cls := "java/lang/AbstractStringBuilder", name := "isLatin1", desc := "()Z" } : Jvm.MethodName) ({ cls := "java/lang/AbstractStringBuilder", name := "isLatin1", desc := "()Z" } : Jvm.MethodName)) ∈ lw_tbl := lw_at lw_m2 52 rfl
theorem w355 : (Jvm.Cond.code ({ cls := "java/lang/AbstractStringBuilder", name := "isLatin1", desc := "()Z" } : Jvm.MethodName) prog_28_method_68_code (1 : Nat) (Option.some Jvm.ClassFile.FieldType.boolean)) ∈ lw_tbl := lw_at lw_m2 53 rfl
theorem w356 : (Jvm.Cond.methodLink "java/lang/AbstractStringBuilder" (191 : Nat) ({ cls := "java/lang/StringLatin1", name := "canEncode", desc := "(C)Z" } : Jvm.MethodName)) ∈ lw_tbl := lw_at lw_m2 54 rfl
theorem w357 : (Jvm.Cond.static ({ cls := "java/lang/StringLatin1", name := "canEncode", desc := "(C)Z" } : Jvm.MethodName)) ∈ lw_tbl := lw_at lw_m2 55 rfl
theorem w358 : (Jvm.Cond.code ({ cls := "java/lang/StringLatin1", name := "canEncode", desc := "(C)Z" } : Jvm.MethodName) prog_42_method_3_code (1 : Nat) (Option.some Jvm.ClassFile.FieldType.boolean)) ∈ lw_tbl := lw_at lw_m2 56 rfl
theorem w359 : (Jvm.Cond.methodLink "java/lang/AbstractStringBuilder" (195 : Nat) ({ cls := "java/lang/AbstractStringBuilder", name := "inflate", desc := "()V" } : Jvm.MethodName)) ∈ lw_tbl := lw_at lw_m2 57 rfl
theorem w360 : (Jvm.Cond.privateMethod ({ cls := "java/lang/AbstractStringBuilder", name := "inflate", desc := "()V" } : Jvm.MethodName)) ∈ lw_tbl := lw_at lw_m2 58 rfl
theorem w361 : (Jvm.Cond.instanceMethod ({ cls := "java/lang/AbstractStringBuilder", name := "inflate", desc := "()V" } : Jvm.MethodName)) ∈ lw_tbl := lw_at lw_m2 59 rfl
theorem w362 : (Jvm.Cond.code ({ cls := "java/lang/AbstractStringBuilder", name := "inflate", desc := "()V" } : Jvm.MethodName) prog_28_method_11_code (2 : Nat) (Option.none : Option Jvm.ClassFile.FieldType)) ∈ lw_tbl := lw_at lw_m2 60 rfl
theorem w363 : (Jvm.Cond.methodLink "java/lang/AbstractStringBuilder" (125 : Nat) ({ cls := "java/lang/StringLatin1", name := "inflate", desc := "([BI[BII)V" } : Jvm.MethodName)) ∈ lw_tbl := lw_at lw_m2 61 rfl
theorem w364 : (Jvm.Cond.static ({ cls := "java/lang/StringLatin1", name := "inflate", desc := "([BI[BII)V" } : Jvm.MethodName)) ∈ lw_tbl := lw_at lw_m2 62 rfl
theorem w365 : (Jvm.Cond.code ({ cls := "java/lang/StringLatin1", name := "inflate", desc := "([BI[BII)V" } : Jvm.MethodName) prog_42_method_50_code (5 : Nat) (Option.none : Option Jvm.ClassFile.FieldType)) ∈ lw_tbl := lw_at lw_m2 63 rfl
theorem w366 : (Jvm.Cond.methodLink "java/lang/StringLatin1" (240 : Nat) ({ cls := "java/lang/StringUTF16", name := "inflate", desc := "([BI[BII)V" } : Jvm.MethodName)) ∈ lw_tbl := lw_at lw_m2 64 rfl
theorem w367 : (Jvm.Cond.static ({ cls := "java/lang/StringUTF16", name := "inflate", desc := "([BI[BII)V" } : Jvm.MethodName)) ∈ lw_tbl := lw_at lw_m2 65 rfl
theorem w368 : (Jvm.Cond.code ({ cls := "java/lang/StringUTF16", name := "inflate", desc := "([BI[BII)V" } : Jvm.MethodName) prog_43_method_86_code (6 : Nat) (Option.none : Option Jvm.ClassFile.FieldType)) ∈ lw_tbl := lw_at lw_m2 66 rfl
theorem w369 : (Jvm.Cond.methodLink "java/lang/StringUTF16" (173 : Nat) ({ cls := "java/lang/StringUTF16", name := "checkBoundsOffCount", desc := "(II[B)V" } : Jvm.MethodName)) ∈ lw_tbl := lw_at lw_m2 67 rfl
theorem w370 : (Jvm.Cond.static ({ cls := "java/lang/StringUTF16", name := "checkBoundsOffCount", desc := "(II[B)V" } : Jvm.MethodName)) ∈ lw_tbl := lw_at lw_m2 68 rfl
theorem w371 : (Jvm.Cond.code ({ cls := "java/lang/StringUTF16", name := "checkBoundsOffCount", desc := "(II[B)V" } : Jvm.MethodName) prog_43_method_94_code (3 : Nat) (Option.none : Option Jvm.ClassFile.FieldType)) ∈ lw_tbl := lw_at lw_m2 69 rfl
theorem w372 : (Jvm.Cond.methodLink "java/lang/StringUTF16" (48 : Nat) ({ cls := "java/lang/StringUTF16", name := "length", desc := "([B)I" } : Jvm.MethodName)) ∈ lw_tbl := lw_at lw_m2 70 rfl
theorem w373 : (Jvm.Cond.static ({ cls := "java/lang/StringUTF16", name := "length", desc := "([B)I" } : Jvm.MethodName)) ∈ lw_tbl := lw_at lw_m2 71 rfl
theorem w374 : (Jvm.Cond.code ({ cls := "java/lang/StringUTF16", name := "length", desc := "([B)I" } : Jvm.MethodName) prog_43_method_6_code (1 : Nat) (Option.some Jvm.ClassFile.FieldType.int)) ∈ lw_tbl := lw_at lw_m2 72 rfl
theorem w375 : (Jvm.Cond.methodLink "java/lang/StringUTF16" (419 : Nat) ({ cls := "java/lang/String", name := "checkBoundsOffCount", desc := "(III)I" } : Jvm.MethodName)) ∈ lw_tbl := lw_at lw_m2 73 rfl
theorem w376 : (Jvm.Cond.static ({ cls := "java/lang/String", name := "checkBoundsOffCount", desc := "(III)I" } : Jvm.MethodName)) ∈ lw_tbl := lw_at lw_m2 74 rfl
theorem w377 : (Jvm.Cond.code ({ cls := "java/lang/String", name := "checkBoundsOffCount", desc := "(III)I" } : Jvm.MethodName) prog_40_method_157_code (3 : Nat) (Option.some Jvm.ClassFile.FieldType.int)) ∈ lw_tbl := lw_at lw_m2 75 rfl
theorem w378 : (Jvm.Cond.fieldLink "java/lang/String" (1053 : Nat) "jdk/internal/util/Preconditions" "SIOOBE_FORMATTER" "Ljava/util/function/BiFunction;") ∈ lw_tbl := lw_at lw_m2 76 rfl
theorem w379 : (Jvm.Cond.laysStatic "jdk/internal/util/Preconditions" "SIOOBE_FORMATTER" "Ljava/util/function/BiFunction;") ∈ lw_tbl := lw_at lw_m2 77 rfl
theorem w380 : (Jvm.Cond.methodLink "java/lang/String" (1065 : Nat) ({ cls := "jdk/internal/util/Preconditions", name := "checkFromIndexSize", desc := "(IIILjava/util/function/BiFunction;)I" } : Jvm.MethodName)) ∈ lw_tbl := lw_at lw_m2 78 rfl
theorem w381 : (Jvm.Cond.static ({ cls := "jdk/internal/util/Preconditions", name := "checkFromIndexSize", desc := "(IIILjava/util/function/BiFunction;)I" } : Jvm.MethodName)) ∈ lw_tbl := lw_at lw_m2 79 rfl
theorem w382 : (Jvm.Cond.code ({ cls := "jdk/internal/util/Preconditions", name := "checkFromIndexSize", desc := "(IIILjava/util/function/BiFunction;)I" } : Jvm.MethodName) prog_54_method_13_code (4 : Nat) (Option.some Jvm.ClassFile.FieldType.int)) ∈ lw_tbl := lw_at lw_m2 80 rfl
theorem w383 : (Jvm.Cond.methodLink "java/lang/StringUTF16" (111 : Nat) ({ cls := "java/lang/StringUTF16", name := "putChar", desc := "([BII)V" } : Jvm.MethodName)) ∈ lw_tbl := lw_at lw_m2 81 rfl
theorem w384 : (Jvm.Cond.static ({ cls := "java/lang/StringUTF16", name := "putChar", desc := "([BII)V" } : Jvm.MethodName)) ∈ lw_tbl := lw_at lw_m2 82 rfl
theorem w385 : (Jvm.Cond.code ({ cls := "java/lang/StringUTF16", name := "putChar", desc := "([BII)V" } : Jvm.MethodName) prog_43_method_4_code (3 : Nat) (Option.none : Option Jvm.ClassFile.FieldType)) ∈ lw_tbl := lw_at lw_m2 83 rfl
theorem w386 : (Jvm.Cond.fieldLink "java/lang/StringUTF16" (44 : Nat) "java/lang/StringUTF16" "$assertionsDisabled" "Z") ∈ lw_tbl := lw_at lw_m2 84 rfl
theorem w387 : (Jvm.Cond.laysStatic "java/lang/StringUTF16" "$assertionsDisabled" "Z") ∈ lw_tbl := lw_at lw_m2 85 rfl
theorem w388 : (Jvm.Cond.fieldLink "java/lang/StringUTF16" (59 : Nat) "java/lang/StringUTF16" "HI_BYTE_SHIFT" "I") ∈ lw_tbl := lw_at lw_m2 86 rfl
theorem w389 : (Jvm.Cond.laysStatic "java/lang/StringUTF16" "HI_BYTE_SHIFT" "I") ∈ lw_tbl := lw_at lw_m2 87 rfl
theorem w390 : (Jvm.Cond.fieldLink "java/lang/StringUTF16" (63 : Nat) "java/lang/StringUTF16" "LO_BYTE_SHIFT" "I") ∈ lw_tbl := lw_at lw_m2 88 rfl
theorem w391 : (Jvm.Cond.laysStatic "java/lang/StringUTF16" "LO_BYTE_SHIFT" "I") ∈ lw_tbl := lw_at lw_m2 89 rfl
theorem w392 : (Jvm.Cond.methodLink "java/lang/AbstractStringBuilder" (197 : Nat) ({ cls := "java/lang/StringUTF16", name := "putCharSB", desc := "([BII)V" } : Jvm.MethodName)) ∈ lw_tbl := lw_at lw_m2 90 rfl
theorem w393 : (Jvm.Cond.static ({ cls := "java/lang/StringUTF16", name := "putCharSB", desc := "([BII)V" } : Jvm.MethodName)) ∈ lw_tbl := lw_at lw_m2 91 rfl
theorem w394 : (Jvm.Cond.code ({ cls := "java/lang/StringUTF16", name := "putCharSB", desc := "([BII)V" } : Jvm.MethodName) prog_43_method_71_code (3 : Nat) (Option.none : Option Jvm.ClassFile.FieldType)) ∈ lw_tbl := lw_at lw_m2 92 rfl
theorem w395 : (Jvm.Cond.methodLink "java/lang/StringUTF16" (67 : Nat) ({ cls := "java/lang/StringUTF16", name := "checkIndex", desc := "(I[B)V" } : Jvm.MethodName)) ∈ lw_tbl := lw_at lw_m2 93 rfl
theorem w396 : (Jvm.Cond.static ({ cls := "java/lang/StringUTF16", name := "checkIndex", desc := "(I[B)V" } : Jvm.MethodName)) ∈ lw_tbl := lw_at lw_m2 94 rfl
theorem w397 : (Jvm.Cond.code ({ cls := "java/lang/StringUTF16", name := "checkIndex", desc := "(I[B)V" } : Jvm.MethodName) prog_43_method_91_code (2 : Nat) (Option.none : Option Jvm.ClassFile.FieldType)) ∈ lw_tbl := lw_at lw_m2 95 rfl
theorem w398 : (Jvm.Cond.methodLink "java/lang/StringUTF16" (414 : Nat) ({ cls := "java/lang/String", name := "checkIndex", desc := "(II)V" } : Jvm.MethodName)) ∈ lw_tbl := lw_at lw_m2 96 rfl
theorem w399 : (Jvm.Cond.static ({ cls := "java/lang/String", name := "checkIndex", desc := "(II)V" } : Jvm.MethodName)) ∈ lw_tbl := lw_at lw_m2 97 rfl
theorem w400 : (Jvm.Cond.code ({ cls := "java/lang/String", name := "checkIndex", desc := "(II)V" } : Jvm.MethodName) prog_40_method_155_code (2 : Nat) (Option.none : Option Jvm.ClassFile.FieldType)) ∈ lw_tbl := lw_at lw_m2 98 rfl
theorem w401 : (Jvm.Cond.methodLink "java/lang/String" (1059 : Nat) ({ cls := "jdk/internal/util/Preconditions", name := "checkIndex", desc := "(IILjava/util/function/BiFunction;)I" } : Jvm.MethodName)) ∈ lw_tbl := lw_at lw_m2 99 rfl
theorem w402 : (Jvm.Cond.static ({ cls := "jdk/internal/util/Preconditions", name := "checkIndex", desc := "(IILjava/util/function/BiFunction;)I" } : Jvm.MethodName)) ∈ lw_tbl := lw_at lw_m2 100 rfl
theorem w403 : (Jvm.Cond.code ({ cls := "jdk/internal/util/Preconditions", name := "checkIndex", desc := "(IILjava/util/function/BiFunction;)I" } : Jvm.MethodName) prog_54_method_11_code (3 : Nat) (Option.some Jvm.ClassFile.FieldType.int)) ∈ lw_tbl := lw_at lw_m2 101 rfl
theorem w404 : (Jvm.Cond.classLink "TripleStore" (52 : Nat) "TripleStore$Word") ∈ lw_tbl := lw_at lw_m2 102 rfl
theorem w405 : (Jvm.Cond.instantiable "TripleStore$Word" (1 : Nat)) ∈ lw_tbl := lw_at lw_m2 103 rfl
theorem w406 : (Jvm.Cond.methodLink "TripleStore" (54 : Nat) ({ cls := "java/lang/StringBuilder", name := "toString", desc := "()Ljava/lang/String;" } : Jvm.MethodName)) ∈ lw_tbl := lw_at lw_m2 104 rfl
theorem w407 : (Jvm.Cond.instanceMethod ({ cls := "java/lang/StringBuilder", name := "toString", desc := "()Ljava/lang/String;" } : Jvm.MethodName)) ∈ lw_tbl := lw_at lw_m2 105 rfl
theorem w408 : (Jvm.Cond.selects "java/lang/StringBuilder" ({ cls := "java/lang/StringBuilder", name := "toString", desc := "()Ljava/lang/String;" } : Jvm.MethodName) ({ cls := "java/lang/StringBuilder", name := "toString", desc := "()Ljava/lang/String;" } : Jvm.MethodName)) ∈ lw_tbl := lw_at lw_m2 106 rfl
theorem w409 : (Jvm.Cond.code ({ cls := "java/lang/StringBuilder", name := "toString", desc := "()Ljava/lang/String;" } : Jvm.MethodName) prog_41_method_42_code (1 : Nat) (Option.some (Jvm.ClassFile.FieldType.object "java/lang/String"))) ∈ lw_tbl := lw_at lw_m2 107 rfl
theorem w410 : (Jvm.Cond.classLink "java/lang/StringBuilder" (18 : Nat) "java/lang/String") ∈ lw_tbl := lw_at lw_m2 108 rfl
theorem w411 : (Jvm.Cond.instantiable "java/lang/String" (4 : Nat)) ∈ lw_tbl := lw_at lw_m2 109 rfl
theorem w412 : (Jvm.Cond.methodLink "java/lang/StringBuilder" (137 : Nat) ({ cls := "java/lang/String", name := "<init>", desc := "(Ljava/lang/StringBuilder;)V" } : Jvm.MethodName)) ∈ lw_tbl := lw_at lw_m2 110 rfl
theorem w413 : (Jvm.Cond.instanceMethod ({ cls := "java/lang/String", name := "<init>", desc := "(Ljava/lang/StringBuilder;)V" } : Jvm.MethodName)) ∈ lw_tbl := lw_at lw_m2 111 rfl
theorem w414 : (Jvm.Cond.code ({ cls := "java/lang/String", name := "<init>", desc := "(Ljava/lang/StringBuilder;)V" } : Jvm.MethodName) prog_40_method_53_code (2 : Nat) (Option.none : Option Jvm.ClassFile.FieldType)) ∈ lw_tbl := lw_at lw_m2 112 rfl
theorem w415 : (Jvm.Cond.methodLink "java/lang/String" (489 : Nat) ({ cls := "java/lang/String", name := "<init>", desc := "(Ljava/lang/AbstractStringBuilder;Ljava/lang/Void;)V" } : Jvm.MethodName)) ∈ lw_tbl := lw_at lw_m2 113 rfl
theorem w416 : (Jvm.Cond.instanceMethod ({ cls := "java/lang/String", name := "<init>", desc := "(Ljava/lang/AbstractStringBuilder;Ljava/lang/Void;)V" } : Jvm.MethodName)) ∈ lw_tbl := lw_at lw_m2 114 rfl
theorem w417 : (Jvm.Cond.code ({ cls := "java/lang/String", name := "<init>", desc := "(Ljava/lang/AbstractStringBuilder;Ljava/lang/Void;)V" } : Jvm.MethodName) prog_40_method_150_code (5 : Nat) (Option.none : Option Jvm.ClassFile.FieldType)) ∈ lw_tbl := lw_at lw_m2 115 rfl
theorem w418 : (Jvm.Cond.methodLink "java/lang/String" (1 : Nat) ({ cls := "java/lang/Object", name := "<init>", desc := "()V" } : Jvm.MethodName)) ∈ lw_tbl := lw_at lw_m2 116 rfl
theorem w419 : (Jvm.Cond.methodLink "java/lang/String" (552 : Nat) ({ cls := "java/lang/AbstractStringBuilder", name := "getValue", desc := "()[B" } : Jvm.MethodName)) ∈ lw_tbl := lw_at lw_m2 117 rfl
theorem w420 : (Jvm.Cond.instanceMethod ({ cls := "java/lang/AbstractStringBuilder", name := "getValue", desc := "()[B" } : Jvm.MethodName)) ∈ lw_tbl := lw_at lw_m2 118 rfl
theorem w421 : (Jvm.Cond.sameMethod "java/lang/AbstractStringBuilder" "java/lang/AbstractStringBuilder" "getValue" "()[B") ∈ lw_tbl := lw_at lw_m2 119 rfl
theorem w422 : (Jvm.Cond.selects "java/lang/StringBuilder" ({ cls := "java/lang/AbstractStringBuilder", name := "getValue", desc := "()[B" } : Jvm.MethodName) ({ cls := "java/lang/AbstractStringBuilder", name := "getValue", desc := "()[B" } : Jvm.MethodName)) ∈ lw_tbl := lw_at lw_m2 120 rfl
theorem w423 : (Jvm.Cond.code ({ cls := "java/lang/AbstractStringBuilder", name := "getValue", desc := "()[B" } : Jvm.MethodName) prog_28_method_64_code (1 : Nat) (Option.some (Jvm.ClassFile.FieldType.array Jvm.ClassFile.FieldType.byte))) ∈ lw_tbl := lw_at lw_m2 121 rfl
theorem w424 : (Jvm.Cond.methodLink "java/lang/String" (549 : Nat) ({ cls := "java/lang/AbstractStringBuilder", name := "length", desc := "()I" } : Jvm.MethodName)) ∈ lw_tbl := lw_at lw_m2 122 rfl
theorem w425 : (Jvm.Cond.methodLink "java/lang/String" (1047 : Nat) ({ cls := "java/lang/AbstractStringBuilder", name := "isLatin1", desc := "()Z" } : Jvm.MethodName)) ∈ lw_tbl := lw_at lw_m2 123 rfl
theorem w426 : (Jvm.Cond.methodLink "java/lang/String" (54 : Nat) ({ cls := "java/util/Arrays", name := "copyOfRange", desc := "([BII)[B" } : Jvm.MethodName)) ∈ lw_tbl := lw_at lw_m2 124 rfl
theorem w427 : (Jvm.Cond.static ({ cls := "java/util/Arrays", name := "copyOfRange", desc := "([BII)[B" } : Jvm.MethodName)) ∈ lw_tbl := lw_at lw_m2 125 rfl
theorem w428 : (Jvm.Cond.code ({ cls := "java/util/Arrays", name := "copyOfRange", desc := "([BII)[B" } : Jvm.MethodName) prog_50_method_132_code (3 : Nat) (Option.some (Jvm.ClassFile.FieldType.array Jvm.ClassFile.FieldType.byte))) ∈ lw_tbl := lw_at lw_m2 126 rfl
theorem w429 : (Jvm.Cond.methodLink "java/util/Arrays" (339 : Nat) ({ cls := "java/util/Arrays", name := "copyOfRangeByte", desc := "([BII)[B" } : Jvm.MethodName)) ∈ lw_tbl := lw_at lw_m2 127 rfl
theorem w430 : (Jvm.Cond.static ({ cls := "java/util/Arrays", name := "copyOfRangeByte", desc := "([BII)[B" } : Jvm.MethodName)) ∈ lw_tbl := lw_at lw_m2 128 rfl
theorem w431 : (Jvm.Cond.code ({ cls := "java/util/Arrays", name := "copyOfRangeByte", desc := "([BII)[B" } : Jvm.MethodName) prog_50_method_133_code (5 : Nat) (Option.some (Jvm.ClassFile.FieldType.array Jvm.ClassFile.FieldType.byte))) ∈ lw_tbl := lw_at lw_m2 129 rfl
theorem w432 : (Jvm.Cond.methodLink "java/util/Arrays" (343 : Nat) ({ cls := "java/util/Arrays", name := "checkLength", desc := "(II)V" } : Jvm.MethodName)) ∈ lw_tbl := lw_at lw_m2 130 rfl
theorem w433 : (Jvm.Cond.static ({ cls := "java/util/Arrays", name := "checkLength", desc := "(II)V" } : Jvm.MethodName)) ∈ lw_tbl := lw_at lw_m2 131 rfl
theorem w434 : (Jvm.Cond.code ({ cls := "java/util/Arrays", name := "checkLength", desc := "(II)V" } : Jvm.MethodName) prog_50_method_131_code (2 : Nat) (Option.none : Option Jvm.ClassFile.FieldType)) ∈ lw_tbl := lw_at lw_m2 132 rfl
theorem w435 : (Jvm.Cond.classLink "java/util/Arrays" (43 : Nat) "java/lang/IllegalArgumentException") ∈ lw_tbl := lw_at lw_m2 133 rfl
theorem w436 : (Jvm.Cond.classLink "java/util/Arrays" (45 : Nat) "java/lang/StringBuilder") ∈ lw_tbl := lw_at lw_m2 134 rfl
theorem w437 : (Jvm.Cond.methodLink "java/util/Arrays" (47 : Nat) ({ cls := "java/lang/StringBuilder", name := "<init>", desc := "()V" } : Jvm.MethodName)) ∈ lw_tbl := lw_at lw_m2 135 rfl
theorem w438 : (Jvm.Cond.instanceMethod ({ cls := "java/lang/StringBuilder", name := "<init>", desc := "()V" } : Jvm.MethodName)) ∈ lw_tbl := lw_at lw_m2 136 rfl
theorem w439 : (Jvm.Cond.code ({ cls := "java/lang/StringBuilder", name := "<init>", desc := "()V" } : Jvm.MethodName) prog_41_method_1_code (1 : Nat) (Option.none : Option Jvm.ClassFile.FieldType)) ∈ lw_tbl := lw_at lw_m2 137 rfl
theorem w440 : (Jvm.Cond.methodLink "java/util/Arrays" (54 : Nat) ({ cls := "java/lang/StringBuilder", name := "append", desc := "(I)Ljava/lang/StringBuilder;" } : Jvm.MethodName)) ∈ lw_tbl := lw_at lw_m2 138 rfl
theorem w441 : (Jvm.Cond.instanceMethod ({ cls := "java/lang/StringBuilder", name := "append", desc := "(I)Ljava/lang/StringBuilder;" } : Jvm.MethodName)) ∈ lw_tbl := lw_at lw_m2 139 rfl
theorem w442 : (Jvm.Cond.selects "java/lang/StringBuilder" ({ cls := "java/lang/StringBuilder", name := "append", desc := "(I)Ljava/lang/StringBuilder;" } : Jvm.MethodName) ({ cls := "java/lang/StringBuilder", name := "append", desc := "(I)Ljava/lang/StringBuilder;" } : Jvm.MethodName)) ∈ lw_tbl := lw_at lw_m2 140 rfl
theorem w443 : (Jvm.Cond.code ({ cls := "java/lang/StringBuilder", name := "append", desc := "(I)Ljava/lang/StringBuilder;" } : Jvm.MethodName) prog_41_method_15_code (2 : Nat) (Option.some (Jvm.ClassFile.FieldType.object "java/lang/StringBuilder"))) ∈ lw_tbl := lw_at lw_m2 141 rfl
theorem w444 : (Jvm.Cond.methodLink "java/lang/StringBuilder" (53 : Nat) ({ cls := "java/lang/AbstractStringBuilder", name := "append", desc := "(I)Ljava/lang/AbstractStringBuilder;" } : Jvm.MethodName)) ∈ lw_tbl := lw_at lw_m2 142 rfl
theorem w445 : (Jvm.Cond.instanceMethod ({ cls := "java/lang/AbstractStringBuilder", name := "append", desc := "(I)Ljava/lang/AbstractStringBuilder;" } : Jvm.MethodName)) ∈ lw_tbl := lw_at lw_m2 143 rfl
theorem w446 : (Jvm.Cond.code ({ cls := "java/lang/AbstractStringBuilder", name := "append", desc := "(I)Ljava/lang/AbstractStringBuilder;" } : Jvm.MethodName) prog_28_method_32_code (4 : Nat) (Option.some (Jvm.ClassFile.FieldType.object "java/lang/AbstractStringBuilder"))) ∈ lw_tbl := lw_at lw_m2 144 rfl
theorem w447 : (Jvm.Cond.methodLink "java/lang/AbstractStringBuilder" (245 : Nat) ({ cls := "java/lang/Integer", name := "stringSize", desc := "(I)I" } : Jvm.MethodName)) ∈ lw_tbl := lw_at lw_m2 145 rfl
theorem w448 : (Jvm.Cond.static ({ cls := "java/lang/Integer", name := "stringSize", desc := "(I)I" } : Jvm.MethodName)) ∈ lw_tbl := lw_at lw_m2 146 rfl
theorem w449 : (Jvm.Cond.code ({ cls := "java/lang/Integer", name := "stringSize", desc := "(I)I" } : Jvm.MethodName) prog_36_method_13_code (4 : Nat) (Option.some Jvm.ClassFile.FieldType.int)) ∈ lw_tbl := lw_at lw_m2 147 rfl
theorem w450 : (Jvm.Cond.methodLink "java/lang/AbstractStringBuilder" (248 : Nat) ({ cls := "java/lang/Integer", name := "getChars", desc := "(II[B)I" } : Jvm.MethodName)) ∈ lw_tbl := lw_at lw_m2 148 rfl
theorem w451 : (Jvm.Cond.static ({ cls := "java/lang/Integer", name := "getChars", desc := "(II[B)I" } : Jvm.MethodName)) ∈ lw_tbl := lw_at lw_m2 149 rfl
theorem w452 : (Jvm.Cond.code ({ cls := "java/lang/Integer", name := "getChars", desc := "(II[B)I" } : Jvm.MethodName) prog_36_method_12_code (7 : Nat) (Option.some Jvm.ClassFile.FieldType.int)) ∈ lw_tbl := lw_at lw_m2 150 rfl
theorem w453 : (Jvm.Cond.fieldLink "java/lang/Integer" (83 : Nat) "java/lang/Integer" "DigitOnes" "[B") ∈ lw_tbl := lw_at lw_m2 151 rfl
theorem w454 : (Jvm.Cond.laysStatic "java/lang/Integer" "DigitOnes" "[B") ∈ lw_tbl := lw_at lw_m2 152 rfl
theorem w455 : (Jvm.Cond.fieldLink "java/lang/Integer" (87 : Nat) "java/lang/Integer" "DigitTens" "[B") ∈ lw_tbl := lw_at lw_m2 153 rfl
theorem w456 : (Jvm.Cond.laysStatic "java/lang/Integer" "DigitTens" "[B") ∈ lw_tbl := lw_at lw_m2 154 rfl
theorem w457 : (Jvm.Cond.methodLink "java/lang/AbstractStringBuilder" (251 : Nat) ({ cls := "java/lang/StringUTF16", name := "getChars", desc := "(III[B)I" } : Jvm.MethodName)) ∈ lw_tbl := lw_at lw_m2 155 rfl
theorem w458 : (Jvm.Cond.static ({ cls := "java/lang/StringUTF16", name := "getChars", desc := "(III[B)I" } : Jvm.MethodName)) ∈ lw_tbl := lw_at lw_m2 156 rfl
theorem w459 : (Jvm.Cond.code ({ cls := "java/lang/StringUTF16", name := "getChars", desc := "(III[B)I" } : Jvm.MethodName) prog_43_method_77_code (5 : Nat) (Option.some Jvm.ClassFile.FieldType.int)) ∈ lw_tbl := lw_at lw_m2 157 rfl
theorem w460 : (Jvm.Cond.methodLink "java/lang/StringUTF16" (96 : Nat) ({ cls := "java/lang/StringUTF16", name := "checkBoundsBeginEnd", desc := "(II[B)V" } : Jvm.MethodName)) ∈ lw_tbl := lw_at lw_m2 158 rfl
theorem w461 : (Jvm.Cond.static ({ cls := "java/lang/StringUTF16", name := "checkBoundsBeginEnd", desc := "(II[B)V" } : Jvm.MethodName)) ∈ lw_tbl := lw_at lw_m2 159 rfl
theorem w462 : (Jvm.Cond.code ({ cls := "java/lang/StringUTF16", name := "checkBoundsBeginEnd", desc := "(II[B)V" } : Jvm.MethodName) prog_43_method_93_code (3 : Nat) (Option.none : Option Jvm.ClassFile.FieldType)) ∈ lw_tbl := lw_at lw_m2 160 rfl
theorem w463 : (Jvm.Cond.methodLink "java/lang/StringUTF16" (241 : Nat) ({ cls := "java/lang/String", name := "checkBoundsBeginEnd", desc := "(III)V" } : Jvm.MethodName)) ∈ lw_tbl := lw_at lw_m2 161 rfl
theorem w464 : (Jvm.Cond.static ({ cls := "java/lang/String", name := "checkBoundsBeginEnd", desc := "(III)V" } : Jvm.MethodName)) ∈ lw_tbl := lw_at lw_m2 162 rfl
theorem w465 : (Jvm.Cond.code ({ cls := "java/lang/String", name := "checkBoundsBeginEnd", desc := "(III)V" } : Jvm.MethodName) prog_40_method_158_code (3 : Nat) (Option.none : Option Jvm.ClassFile.FieldType)) ∈ lw_tbl := lw_at lw_m2 163 rfl
theorem w466 : (Jvm.Cond.methodLink "java/lang/String" (1062 : Nat) ({ cls := "jdk/internal/util/Preconditions", name := "checkFromToIndex", desc := "(IIILjava/util/function/BiFunction;)I" } : Jvm.MethodName)) ∈ lw_tbl := lw_at lw_m2 164 rfl
theorem w467 : (Jvm.Cond.static ({ cls := "jdk/internal/util/Preconditions", name := "checkFromToIndex", desc := "(IIILjava/util/function/BiFunction;)I" } : Jvm.MethodName)) ∈ lw_tbl := lw_at lw_m2 165 rfl
theorem w468 : (Jvm.Cond.code ({ cls := "jdk/internal/util/Preconditions", name := "checkFromToIndex", desc := "(IIILjava/util/function/BiFunction;)I" } : Jvm.MethodName) prog_54_method_12_code (4 : Nat) (Option.some Jvm.ClassFile.FieldType.int)) ∈ lw_tbl := lw_at lw_m2 166 rfl
theorem w469 : (Jvm.Cond.methodLink "java/lang/StringUTF16" (393 : Nat) ({ cls := "java/lang/StringUTF16", name := "getChars", desc := "(II[B)I" } : Jvm.MethodName)) ∈ lw_tbl := lw_at lw_m2 167 rfl
theorem w470 : (Jvm.Cond.static ({ cls := "java/lang/StringUTF16", name := "getChars", desc := "(II[B)I" } : Jvm.MethodName)) ∈ lw_tbl := lw_at lw_m2 168 rfl
theorem w471 : (Jvm.Cond.code ({ cls := "java/lang/StringUTF16", name := "getChars", desc := "(II[B)I" } : Jvm.MethodName) prog_43_method_89_code (7 : Nat) (Option.some Jvm.ClassFile.FieldType.int)) ∈ lw_tbl := lw_at lw_m2 169 rfl
theorem w472 : (Jvm.Cond.fieldLink "java/lang/StringUTF16" (403 : Nat) "java/lang/Integer" "DigitOnes" "[B") ∈ lw_tbl := lw_at lw_m2 170 rfl
theorem w473 : (Jvm.Cond.fieldLink "java/lang/StringUTF16" (407 : Nat) "java/lang/Integer" "DigitTens" "[B") ∈ lw_tbl := lw_at lw_m2 171 rfl
theorem w474 : (Jvm.Cond.stringRef "java/util/Arrays" (337 : Nat) " > ") ∈ lw_tbl := lw_at lw_m2 172 rfl
theorem w475 : (Jvm.Cond.methodLink "java/util/Arrays" (50 : Nat) ({ cls := "java/lang/StringBuilder", name := "append", desc := "(Ljava/lang/String;)Ljava/lang/StringBuilder;" } : Jvm.MethodName)) ∈ lw_tbl := lw_at lw_m2 173 rfl
theorem w476 : (Jvm.Cond.instanceMethod ({ cls := "java/lang/StringBuilder", name := "append", desc := "(Ljava/lang/String;)Ljava/lang/StringBuilder;" } : Jvm.MethodName)) ∈ lw_tbl := lw_at lw_m2 174 rfl
theorem w477 : (Jvm.Cond.selects "java/lang/StringBuilder" ({ cls := "java/lang/StringBuilder", name := "append", desc := "(Ljava/lang/String;)Ljava/lang/StringBuilder;" } : Jvm.MethodName) ({ cls := "java/lang/StringBuilder", name := "append", desc := "(Ljava/lang/String;)Ljava/lang/StringBuilder;" } : Jvm.MethodName)) ∈ lw_tbl := lw_at lw_m2 175 rfl
theorem w478 : (Jvm.Cond.code ({ cls := "java/lang/StringBuilder", name := "append", desc := "(Ljava/lang/String;)Ljava/lang/StringBuilder;" } : Jvm.MethodName) prog_41_method_7_code (2 : Nat) (Option.some (Jvm.ClassFile.FieldType.object "java/lang/StringBuilder"))) ∈ lw_tbl := lw_at lw_m2 176 rfl
theorem w479 : (Jvm.Cond.methodLink "java/lang/StringBuilder" (29 : Nat) ({ cls := "java/lang/AbstractStringBuilder", name := "append", desc := "(Ljava/lang/String;)Ljava/lang/AbstractStringBuilder;" } : Jvm.MethodName)) ∈ lw_tbl := lw_at lw_m2 177 rfl
theorem w480 : (Jvm.Cond.instanceMethod ({ cls := "java/lang/AbstractStringBuilder", name := "append", desc := "(Ljava/lang/String;)Ljava/lang/AbstractStringBuilder;" } : Jvm.MethodName)) ∈ lw_tbl := lw_at lw_m2 178 rfl
theorem w481 : (Jvm.Cond.code ({ cls := "java/lang/AbstractStringBuilder", name := "append", desc := "(Ljava/lang/String;)Ljava/lang/AbstractStringBuilder;" } : Jvm.MethodName) prog_28_method_22_code (3 : Nat) (Option.some (Jvm.ClassFile.FieldType.object "java/lang/AbstractStringBuilder"))) ∈ lw_tbl := lw_at lw_m2 179 rfl
theorem w482 : (Jvm.Cond.methodLink "java/lang/AbstractStringBuilder" (204 : Nat) ({ cls := "java/lang/AbstractStringBuilder", name := "appendNull", desc := "()Ljava/lang/AbstractStringBuilder;" } : Jvm.MethodName)) ∈ lw_tbl := lw_at lw_m2 180 rfl
theorem w483 : (Jvm.Cond.privateMethod ({ cls := "java/lang/AbstractStringBuilder", name := "appendNull", desc := "()Ljava/lang/AbstractStringBuilder;" } : Jvm.MethodName)) ∈ lw_tbl := lw_at lw_m2 181 rfl
theorem w484 : (Jvm.Cond.instanceMethod ({ cls := "java/lang/AbstractStringBuilder", name := "appendNull", desc := "()Ljava/lang/AbstractStringBuilder;" } : Jvm.MethodName)) ∈ lw_tbl := lw_at lw_m2 182 rfl
theorem w485 : (Jvm.Cond.code ({ cls := "java/lang/AbstractStringBuilder", name := "appendNull", desc := "()Ljava/lang/AbstractStringBuilder;" } : Jvm.MethodName) prog_28_method_26_code (3 : Nat) (Option.some (Jvm.ClassFile.FieldType.object "java/lang/AbstractStringBuilder"))) ∈ lw_tbl := lw_at lw_m2 183 rfl
theorem w486 : (Jvm.Cond.methodLink "java/lang/AbstractStringBuilder" (226 : Nat) ({ cls := "java/lang/StringUTF16", name := "putCharsAt", desc := "([BICCCC)I" } : Jvm.MethodName)) ∈ lw_tbl := lw_at lw_m2 184 rfl
theorem w487 : (Jvm.Cond.static ({ cls := "java/lang/StringUTF16", name := "putCharsAt", desc := "([BICCCC)I" } : Jvm.MethodName)) ∈ lw_tbl := lw_at lw_m2 185 rfl
theorem w488 : (Jvm.Cond.code ({ cls := "java/lang/StringUTF16", name := "putCharsAt", desc := "([BICCCC)I" } : Jvm.MethodName) prog_43_method_81_code (7 : Nat) (Option.some Jvm.ClassFile.FieldType.int)) ∈ lw_tbl := lw_at lw_m2 186 rfl
theorem w489 : (Jvm.Cond.methodLink "java/lang/AbstractStringBuilder" (32 : Nat) ({ cls := "java/lang/String", name := "length", desc := "()I" } : Jvm.MethodName)) ∈ lw_tbl := lw_at lw_m2 187 rfl
theorem w490 : (Jvm.Cond.instanceMethod ({ cls := "java/lang/String", name := "length", desc := "()I" } : Jvm.MethodName)) ∈ lw_tbl := lw_at lw_m2 188 rfl
theorem w491 : (Jvm.Cond.selects "java/lang/String" ({ cls := "java/lang/String", name := "length", desc := "()I" } : Jvm.MethodName) ({ cls := "java/lang/String", name := "length", desc := "()I" } : Jvm.MethodName)) ∈ lw_tbl := lw_at lw_m2 189 rfl
theorem w492 : (Jvm.Cond.code ({ cls := "java/lang/String", name := "length", desc := "()I" } : Jvm.MethodName) prog_40_method_54_code (1 : Nat) (Option.some Jvm.ClassFile.FieldType.int)) ∈ lw_tbl := lw_at lw_m2 190 rfl
theorem w493 : (Jvm.Cond.methodLink "java/lang/String" (335 : Nat) ({ cls := "java/lang/String", name := "coder", desc := "()B" } : Jvm.MethodName)) ∈ lw_tbl := lw_at lw_m2 191 rfl
theorem w494 : (Jvm.Cond.instanceMethod ({ cls := "java/lang/String", name := "coder", desc := "()B" } : Jvm.MethodName)) ∈ lw_tbl := lw_at lw_m2 192 rfl
theorem w495 : (Jvm.Cond.selects "java/lang/String" ({ cls := "java/lang/String", name := "coder", desc := "()B" } : Jvm.MethodName) ({ cls := "java/lang/String", name := "coder", desc := "()B" } : Jvm.MethodName)) ∈ lw_tbl := lw_at lw_m2 193 rfl
theorem w496 : (Jvm.Cond.code ({ cls := "java/lang/String", name := "coder", desc := "()B" } : Jvm.MethodName) prog_40_method_152_code (1 : Nat) (Option.some Jvm.ClassFile.FieldType.byte)) ∈ lw_tbl := lw_at lw_m2 194 rfl
theorem w497 : (Jvm.Cond.fieldLink "java/lang/String" (38 : Nat) "java/lang/String" "COMPACT_STRINGS" "Z") ∈ lw_tbl := lw_at lw_m2 195 rfl
theorem w498 : (Jvm.Cond.methodLink "java/lang/AbstractStringBuilder" (208 : Nat) ({ cls := "java/lang/AbstractStringBuilder", name := "putStringAt", desc := "(ILjava/lang/String;)V" } : Jvm.MethodName)) ∈ lw_tbl := lw_at lw_m2 196 rfl
theorem w499 : (Jvm.Cond.privateMethod ({ cls := "java/lang/AbstractStringBuilder", name := "putStringAt", desc := "(ILjava/lang/String;)V" } : Jvm.MethodName)) ∈ lw_tbl := lw_at lw_m2 197 rfl
theorem w500 : (Jvm.Cond.instanceMethod ({ cls := "java/lang/AbstractStringBuilder", name := "putStringAt", desc := "(ILjava/lang/String;)V" } : Jvm.MethodName)) ∈ lw_tbl := lw_at lw_m2 198 rfl
theorem w501 : (Jvm.Cond.code ({ cls := "java/lang/AbstractStringBuilder", name := "putStringAt", desc := "(ILjava/lang/String;)V" } : Jvm.MethodName) prog_28_method_73_code (3 : Nat) (Option.none : Option Jvm.ClassFile.FieldType)) ∈ lw_tbl := lw_at lw_m2 199 rfl
theorem w502 : (Jvm.Cond.methodLink "java/lang/AbstractStringBuilder" (397 : Nat) ({ cls := "java/lang/AbstractStringBuilder", name := "inflateIfNeededFor", desc := "(Ljava/lang/String;)V" } : Jvm.MethodName)) ∈ lw_tbl := lw_at lw_m2 200 rfl
theorem w503 : (Jvm.Cond.privateMethod ({ cls := "java/lang/AbstractStringBuilder", name := "inflateIfNeededFor", desc := "(Ljava/lang/String;)V" } : Jvm.MethodName)) ∈ lw_tbl := lw_at lw_m2 201 rfl
theorem w504 : (Jvm.Cond.instanceMethod ({ cls := "java/lang/AbstractStringBuilder", name := "inflateIfNeededFor", desc := "(Ljava/lang/String;)V" } : Jvm.MethodName)) ∈ lw_tbl := lw_at lw_m2 202 rfl
theorem w505 : (Jvm.Cond.code ({ cls := "java/lang/AbstractStringBuilder", name := "inflateIfNeededFor", desc := "(Ljava/lang/String;)V" } : Jvm.MethodName) prog_28_method_71_code (2 : Nat) (Option.none : Option Jvm.ClassFile.FieldType)) ∈ lw_tbl := lw_at lw_m2 203 rfl
theorem w506 : (Jvm.Cond.methodLink "java/lang/AbstractStringBuilder" (40 : Nat) ({ cls := "java/lang/String", name := "coder", desc := "()B" } : Jvm.MethodName)) ∈ lw_tbl := lw_at lw_m2 204 rfl
theorem w507 : (Jvm.Cond.methodLink "java/lang/AbstractStringBuilder" (399 : Nat) ({ cls := "java/lang/String", name := "getBytes", desc := "([BIB)V" } : Jvm.MethodName)) ∈ lw_tbl := lw_at lw_m2 205 rfl
theorem w508 : (Jvm.Cond.instanceMethod ({ cls := "java/lang/String", name := "getBytes", desc := "([BIB)V" } : Jvm.MethodName)) ∈ lw_tbl := lw_at lw_m2 206 rfl
theorem w509 : (Jvm.Cond.selects "java/lang/String" ({ cls := "java/lang/String", name := "getBytes", desc := "([BIB)V" } : Jvm.MethodName) ({ cls := "java/lang/String", name := "getBytes", desc := "([BIB)V" } : Jvm.MethodName)) ∈ lw_tbl := lw_at lw_m2 207 rfl
theorem w510 : (Jvm.Cond.code ({ cls := "java/lang/String", name := "getBytes", desc := "([BIB)V" } : Jvm.MethodName) prog_40_method_147_code (4 : Nat) (Option.none : Option Jvm.ClassFile.FieldType)) ∈ lw_tbl := lw_at lw_m2 208 rfl
theorem w511 : (Jvm.Cond.methodLink "java/lang/String" (212 : Nat) ({ cls := "java/lang/System", name := "arraycopy", desc := "(Ljava/lang/Object;ILjava/lang/Object;II)V" } : Jvm.MethodName)) ∈ lw_tbl := lw_at lw_m2 209 rfl
theorem w512 : (Jvm.Cond.methodLink "java/lang/String" (106 : Nat) ({ cls := "java/lang/StringLatin1", name := "inflate", desc := "([BI[BII)V" } : Jvm.MethodName)) ∈ lw_tbl := lw_at lw_m2 210 rfl
theorem w513 : (Jvm.Cond.methodLink "java/util/Arrays" (61 : Nat) ({ cls := "java/lang/StringBuilder", name := "toString", desc := "()Ljava/lang/String;" } : Jvm.MethodName)) ∈ lw_tbl := lw_at lw_m2 211 rfl
theorem w514 : (Jvm.Cond.methodLink "java/util/Arrays" (65 : Nat) ({ cls := "java/lang/IllegalArgumentException", name := "<init>", desc := "(Ljava/lang/String;)V" } : Jvm.MethodName)) ∈ lw_tbl := lw_at lw_m2 212 rfl
theorem w515 : (Jvm.Cond.instanceMethod ({ cls := "java/lang/IllegalArgumentException", name := "<init>", desc := "(Ljava/lang/String;)V" } : Jvm.MethodName)) ∈ lw_tbl := lw_at lw_m2 213 rfl
theorem w516 : (Jvm.Cond.code ({ cls := "java/lang/IllegalArgumentException", name := "<init>", desc := "(Ljava/lang/String;)V" } : Jvm.MethodName) prog_34_method_2_code (2 : Nat) (Option.none : Option Jvm.ClassFile.FieldType)) ∈ lw_tbl := lw_at lw_m2 214 rfl
theorem w517 : (Jvm.Cond.methodLink "java/lang/IllegalArgumentException" (7 : Nat) ({ cls := "java/lang/RuntimeException", name := "<init>", desc := "(Ljava/lang/String;)V" } : Jvm.MethodName)) ∈ lw_tbl := lw_at lw_m2 215 rfl
theorem w518 : (Jvm.Cond.instanceMethod ({ cls := "java/lang/RuntimeException", name := "<init>", desc := "(Ljava/lang/String;)V" } : Jvm.MethodName)) ∈ lw_tbl := lw_at lw_m2 216 rfl
theorem w519 : (Jvm.Cond.code ({ cls := "java/lang/RuntimeException", name := "<init>", desc := "(Ljava/lang/String;)V" } : Jvm.MethodName) prog_39_method_2_code (2 : Nat) (Option.none : Option Jvm.ClassFile.FieldType)) ∈ lw_tbl := lw_at lw_m2 217 rfl
theorem w520 : (Jvm.Cond.methodLink "java/lang/RuntimeException" (7 : Nat) ({ cls := "java/lang/Exception", name := "<init>", desc := "(Ljava/lang/String;)V" } : Jvm.MethodName)) ∈ lw_tbl := lw_at lw_m2 218 rfl
theorem w521 : (Jvm.Cond.instanceMethod ({ cls := "java/lang/Exception", name := "<init>", desc := "(Ljava/lang/String;)V" } : Jvm.MethodName)) ∈ lw_tbl := lw_at lw_m2 219 rfl
theorem w522 : (Jvm.Cond.code ({ cls := "java/lang/Exception", name := "<init>", desc := "(Ljava/lang/String;)V" } : Jvm.MethodName) prog_33_method_2_code (2 : Nat) (Option.none : Option Jvm.ClassFile.FieldType)) ∈ lw_tbl := lw_at lw_m2 220 rfl
theorem w523 : (Jvm.Cond.methodLink "java/lang/Exception" (7 : Nat) ({ cls := "java/lang/Throwable", name := "<init>", desc := "(Ljava/lang/String;)V" } : Jvm.MethodName)) ∈ lw_tbl := lw_at lw_m2 221 rfl
theorem w524 : (Jvm.Cond.instanceMethod ({ cls := "java/lang/Throwable", name := "<init>", desc := "(Ljava/lang/String;)V" } : Jvm.MethodName)) ∈ lw_tbl := lw_at lw_m2 222 rfl
theorem w525 : (Jvm.Cond.code ({ cls := "java/lang/Throwable", name := "<init>", desc := "(Ljava/lang/String;)V" } : Jvm.MethodName) prog_46_method_2_code (2 : Nat) (Option.none : Option Jvm.ClassFile.FieldType)) ∈ lw_tbl := lw_at lw_m2 223 rfl
theorem w526 : (Jvm.Cond.methodLink "java/lang/String" (1051 : Nat) ({ cls := "java/lang/StringUTF16", name := "compress", desc := "([BII)[B" } : Jvm.MethodName)) ∈ lw_tbl := lw_at lw_m2 224 rfl
theorem w527 : (Jvm.Cond.static ({ cls := "java/lang/StringUTF16", name := "compress", desc := "([BII)[B" } : Jvm.MethodName)) ∈ lw_tbl := lw_at lw_m2 225 rfl
theorem w528 : (Jvm.Cond.code ({ cls := "java/lang/StringUTF16", name := "compress", desc := "([BII)[B" } : Jvm.MethodName) prog_43_method_17_code (6 : Nat) (Option.some (Jvm.ClassFile.FieldType.array Jvm.ClassFile.FieldType.byte))) ∈ lw_tbl := lw_at lw_m2 226 rfl
theorem w529 : (Jvm.Cond.methodLink "java/lang/StringUTF16" (123 : Nat) ({ cls := "java/lang/StringUTF16", name := "compress", desc := "([BI[BII)I" } : Jvm.MethodName)) ∈ lw_tbl := lw_at lw_m2 227 rfl
theorem w530 : (Jvm.Cond.static ({ cls := "java/lang/StringUTF16", name := "compress", desc := "([BI[BII)I" } : Jvm.MethodName)) ∈ lw_tbl := lw_at lw_m2 228 rfl
theorem w531 : (Jvm.Cond.code ({ cls := "java/lang/StringUTF16", name := "compress", desc := "([BI[BII)I" } : Jvm.MethodName) prog_43_method_22_code (7 : Nat) (Option.some Jvm.ClassFile.FieldType.int)) ∈ lw_tbl := lw_at lw_m2 229 rfl
theorem w532 : (Jvm.Cond.methodLink "java/lang/StringUTF16" (71 : Nat) ({ cls := "java/lang/StringUTF16", name := "getChar", desc := "([BI)C" } : Jvm.MethodName)) ∈ lw_tbl := lw_at lw_m2 230 rfl
theorem w533 : (Jvm.Cond.static ({ cls := "java/lang/StringUTF16", name := "getChar", desc := "([BI)C" } : Jvm.MethodName)) ∈ lw_tbl := lw_at lw_m2 231 rfl
theorem w534 : (Jvm.Cond.code ({ cls := "java/lang/StringUTF16", name := "getChar", desc := "([BI)C" } : Jvm.MethodName) prog_43_method_5_code (2 : Nat) (Option.some Jvm.ClassFile.FieldType.char)) ∈ lw_tbl := lw_at lw_m2 232 rfl
theorem w535 : (Jvm.Cond.methodLink "java/lang/StringUTF16" (126 : Nat) ({ cls := "java/util/Arrays", name := "copyOfRange", desc := "([BII)[B" } : Jvm.MethodName)) ∈ lw_tbl := lw_at lw_m2 233 rfl
theorem w536 : (Jvm.Cond.methodLink "java/lang/String" (47 : Nat) ({ cls := "java/lang/StringUTF16", name := "coderFromArrayLen", desc := "([BI)B" } : Jvm.MethodName)) ∈ lw_tbl := lw_at lw_m2 234 rfl
theorem w537 : (Jvm.Cond.static ({ cls := "java/lang/StringUTF16", name := "coderFromArrayLen", desc := "([BI)B" } : Jvm.MethodName)) ∈ lw_tbl := lw_at lw_m2 235 rfl
theorem w538 : (Jvm.Cond.code ({ cls := "java/lang/StringUTF16", name := "coderFromArrayLen", desc := "([BI)B" } : Jvm.MethodName) prog_43_method_15_code (2 : Nat) (Option.some Jvm.ClassFile.FieldType.byte)) ∈ lw_tbl := lw_at lw_m2 236 rfl
theorem w539 : (Jvm.Cond.fieldLink "java/lang/String" (9 : Nat) "java/lang/String" "value" "[B") ∈ lw_tbl := lw_at lw_m2 237 rfl
theorem w540 : (Jvm.Cond.fieldLink "java/lang/String" (15 : Nat) "java/lang/String" "coder" "B") ∈ lw_tbl := lw_at lw_m2 238 rfl
theorem w541 : (Jvm.Cond.fieldLink "java/lang/String" (19 : Nat) "java/lang/String" "hash" "I") ∈ lw_tbl := lw_at lw_m2 239 rfl
theorem w542 : (Jvm.Cond.fieldLink "java/lang/String" (23 : Nat) "java/lang/String" "hashIsZero" "Z") ∈ lw_tbl := lw_at lw_m3 0 rfl
theorem w543 : (Jvm.Cond.laysFinal "java/lang/String" "java/lang/String" "value" "[B") ∈ lw_tbl := lw_at lw_m3 1 rfl
theorem w544 : (Jvm.Cond.soleField "java/lang/String" "value") ∈ lw_tbl := lw_at lw_m3 2 rfl
theorem w545 : (Jvm.Cond.laysFinal "java/lang/String" "java/lang/String" "coder" "B") ∈ lw_tbl := lw_at lw_m3 3 rfl
theorem w546 : (Jvm.Cond.soleField "java/lang/String" "coder") ∈ lw_tbl := lw_at lw_m3 4 rfl
theorem w547 : (Jvm.Cond.lays "java/lang/String" "java/lang/String" "hash" "I") ∈ lw_tbl := lw_at lw_m3 5 rfl
theorem w548 : (Jvm.Cond.soleField "java/lang/String" "hash") ∈ lw_tbl := lw_at lw_m3 6 rfl
theorem w549 : (Jvm.Cond.lays "java/lang/String" "java/lang/String" "hashIsZero" "Z") ∈ lw_tbl := lw_at lw_m3 7 rfl
theorem w550 : (Jvm.Cond.soleField "java/lang/String" "hashIsZero") ∈ lw_tbl := lw_at lw_m3 8 rfl
theorem w551 : (Jvm.Cond.superclass "java/lang/String" "java/lang/Object") ∈ lw_tbl := lw_at lw_m3 9 rfl
theorem w552 : (Jvm.Cond.methodLink "TripleStore" (58 : Nat) ({ cls := "TripleStore$Word", name := "<init>", desc := "(Ljava/lang/String;)V" } : Jvm.MethodName)) ∈ lw_tbl := lw_at lw_m3 10 rfl
theorem w553 : (Jvm.Cond.instanceMethod ({ cls := "TripleStore$Word", name := "<init>", desc := "(Ljava/lang/String;)V" } : Jvm.MethodName)) ∈ lw_tbl := lw_at lw_m3 11 rfl
theorem w554 : (Jvm.Cond.code ({ cls := "TripleStore$Word", name := "<init>", desc := "(Ljava/lang/String;)V" } : Jvm.MethodName) prog_24_method_1_code (2 : Nat) (Option.none : Option Jvm.ClassFile.FieldType)) ∈ lw_tbl := lw_at lw_m3 12 rfl
theorem w555 : (Jvm.Cond.methodLinkNest "TripleStore$Word" (1 : Nat) ({ cls := "TripleStore$Term", name := "<init>", desc := "()V" } : Jvm.MethodName) "TripleStore") ∈ lw_tbl := lw_at lw_m3 13 rfl
theorem w556 : (Jvm.Cond.fieldLink "TripleStore$Word" (7 : Nat) "TripleStore$Word" "letters" "Ljava/lang/String;") ∈ lw_tbl := lw_at lw_m3 14 rfl
theorem w557 : (Jvm.Cond.laysFinal "TripleStore$Word" "TripleStore$Word" "letters" "Ljava/lang/String;") ∈ lw_tbl := lw_at lw_m3 15 rfl
theorem w558 : (Jvm.Cond.soleField "TripleStore$Word" "letters") ∈ lw_tbl := lw_at lw_m3 16 rfl
theorem w559 : (Jvm.Cond.superclass "TripleStore$Word" "TripleStore$Term") ∈ lw_tbl := lw_at lw_m3 17 rfl
theorem w560 : (Jvm.Cond.methodLink "TripleStore" (65 : Nat) ({ cls := "TripleStore$Triple", name := "<init>", desc := "(LTripleStore$Term;LTripleStore$Term;LTripleStore$Term;)V" } : Jvm.MethodName)) ∈ lw_tbl := lw_at lw_m3 18 rfl
theorem w561 : (Jvm.Cond.instanceMethod ({ cls := "TripleStore$Triple", name := "<init>", desc := "(LTripleStore$Term;LTripleStore$Term;LTripleStore$Term;)V" } : Jvm.MethodName)) ∈ lw_tbl := lw_at lw_m3 19 rfl
theorem w562 : (Jvm.Cond.code ({ cls := "TripleStore$Triple", name := "<init>", desc := "(LTripleStore$Term;LTripleStore$Term;LTripleStore$Term;)V" } : Jvm.MethodName) prog_22_method_1_code (5 : Nat) (Option.none : Option Jvm.ClassFile.FieldType)) ∈ lw_tbl := lw_at lw_m3 20 rfl
theorem w563 : (Jvm.Cond.methodLink "TripleStore$Triple" (1 : Nat) ({ cls := "java/lang/Object", name := "<init>", desc := "()V" } : Jvm.MethodName)) ∈ lw_tbl := lw_at lw_m3 21 rfl
theorem w564 : (Jvm.Cond.classLink "TripleStore$Triple" (7 : Nat) "TripleStore$Term") ∈ lw_tbl := lw_at lw_m3 22 rfl
theorem w565 : (Jvm.Cond.arrayOver (Jvm.ClassFile.FieldType.object "TripleStore$Term")) ∈ lw_tbl := lw_at lw_m3 23 rfl
theorem w566 : (Jvm.Cond.fieldLink "TripleStore$Triple" (9 : Nat) "TripleStore$Triple" "terms" "[LTripleStore$Term;") ∈ lw_tbl := lw_at lw_m3 24 rfl
theorem w567 : (Jvm.Cond.fieldLinkNest "TripleStore$Pattern" (22 : Nat) "TripleStore$Triple" "terms" "[LTripleStore$Term;" "TripleStore") ∈ lw_tbl := lw_at lw_m3 25 rfl
theorem w568 : (Jvm.Cond.fieldLinkNest "TripleStore" (68 : Nat) "TripleStore$Triple" "terms" "[LTripleStore$Term;" "TripleStore") ∈ lw_tbl := lw_at lw_m3 26 rfl
theorem w569 : (Jvm.Cond.laysFinal "TripleStore$Triple" "TripleStore$Triple" "terms" "[LTripleStore$Term;") ∈ lw_tbl := lw_at lw_m3 27 rfl
theorem w570 : (Jvm.Cond.soleField "TripleStore$Triple" "terms") ∈ lw_tbl := lw_at lw_m3 28 rfl
theorem w571 : (Jvm.Cond.superclass "TripleStore$Triple" "java/lang/Object") ∈ lw_tbl := lw_at lw_m3 29 rfl
theorem w572 : (Jvm.Cond.methodLink "TripleStore" (123 : Nat) ({ cls := "TripleStore", name := "find", desc := "(LTripleStore$Triple;)I" } : Jvm.MethodName)) ∈ lw_tbl := lw_at lw_m3 30 rfl
theorem w573 : (Jvm.Cond.privateMethod ({ cls := "TripleStore", name := "find", desc := "(LTripleStore$Triple;)I" } : Jvm.MethodName)) ∈ lw_tbl := lw_at lw_m3 31 rfl
theorem w574 : (Jvm.Cond.instanceMethod ({ cls := "TripleStore", name := "find", desc := "(LTripleStore$Triple;)I" } : Jvm.MethodName)) ∈ lw_tbl := lw_at lw_m3 32 rfl
theorem w575 : (Jvm.Cond.code ({ cls := "TripleStore", name := "find", desc := "(LTripleStore$Triple;)I" } : Jvm.MethodName) prog_1_method_4_code (3 : Nat) (Option.some Jvm.ClassFile.FieldType.int)) ∈ lw_tbl := lw_at lw_m3 33 rfl
theorem w576 : (Jvm.Cond.methodLink "TripleStore" (75 : Nat) ({ cls := "TripleStore$Triple", name := "same", desc := "(LTripleStore$Triple;)Z" } : Jvm.MethodName)) ∈ lw_tbl := lw_at lw_m3 34 rfl
theorem w577 : (Jvm.Cond.instanceMethod ({ cls := "TripleStore$Triple", name := "same", desc := "(LTripleStore$Triple;)Z" } : Jvm.MethodName)) ∈ lw_tbl := lw_at lw_m3 35 rfl
theorem w578 : (Jvm.Cond.selects "TripleStore$Triple" ({ cls := "TripleStore$Triple", name := "same", desc := "(LTripleStore$Triple;)Z" } : Jvm.MethodName) ({ cls := "TripleStore$Triple", name := "same", desc := "(LTripleStore$Triple;)Z" } : Jvm.MethodName)) ∈ lw_tbl := lw_at lw_m3 36 rfl
theorem w579 : (Jvm.Cond.code ({ cls := "TripleStore$Triple", name := "same", desc := "(LTripleStore$Triple;)Z" } : Jvm.MethodName) prog_22_method_2_code (3 : Nat) (Option.some Jvm.ClassFile.FieldType.boolean)) ∈ lw_tbl := lw_at lw_m3 37 rfl
theorem w580 : (Jvm.Cond.methodLink "TripleStore$Triple" (15 : Nat) ({ cls := "TripleStore$Term", name := "same", desc := "(LTripleStore$Term;)Z" } : Jvm.MethodName)) ∈ lw_tbl := lw_at lw_m3 38 rfl
theorem w581 : (Jvm.Cond.declares ({ cls := "TripleStore$Term", name := "same", desc := "(LTripleStore$Term;)Z" } : Jvm.MethodName)) ∈ lw_tbl := lw_at lw_m3 39 rfl
theorem w582 : (Jvm.Cond.sameMethod "TripleStore$Term" "TripleStore$Term" "same" "(LTripleStore$Term;)Z") ∈ lw_tbl := lw_at lw_m3 40 rfl
theorem w583 : (Jvm.Cond.selects "TripleStore$Numeral" ({ cls := "TripleStore$Term", name := "same", desc := "(LTripleStore$Term;)Z" } : Jvm.MethodName) ({ cls := "TripleStore$Numeral", name := "same", desc := "(LTripleStore$Term;)Z" } : Jvm.MethodName)) ∈ lw_tbl := lw_at lw_m3 41 rfl
theorem w584 : (Jvm.Cond.instanceMethod ({ cls := "TripleStore$Numeral", name := "same", desc := "(LTripleStore$Term;)Z" } : Jvm.MethodName)) ∈ lw_tbl := lw_at lw_m3 42 rfl
theorem w585 : (Jvm.Cond.code ({ cls := "TripleStore$Numeral", name := "same", desc := "(LTripleStore$Term;)Z" } : Jvm.MethodName) prog_12_method_2_code (2 : Nat) (Option.some Jvm.ClassFile.FieldType.boolean)) ∈ lw_tbl := lw_at lw_m3 43 rfl
theorem w586 : (Jvm.Cond.classLink "TripleStore$Numeral" (8 : Nat) "TripleStore$Numeral") ∈ lw_tbl := lw_at lw_m3 44 rfl
theorem w587 : (Jvm.Cond.selects "TripleStore$Word" ({ cls := "TripleStore$Term", name := "same", desc := "(LTripleStore$Term;)Z" } : Jvm.MethodName) ({ cls := "TripleStore$Word", name := "same", desc := "(LTripleStore$Term;)Z" } : Jvm.MethodName)) ∈ lw_tbl := lw_at lw_m3 45 rfl
theorem w588 : (Jvm.Cond.instanceMethod ({ cls := "TripleStore$Word", name := "same", desc := "(LTripleStore$Term;)Z" } : Jvm.MethodName)) ∈ lw_tbl := lw_at lw_m3 46 rfl
theorem w589 : (Jvm.Cond.code ({ cls := "TripleStore$Word", name := "same", desc := "(LTripleStore$Term;)Z" } : Jvm.MethodName) prog_24_method_2_code (2 : Nat) (Option.some Jvm.ClassFile.FieldType.boolean)) ∈ lw_tbl := lw_at lw_m3 47 rfl
theorem w590 : (Jvm.Cond.classLink "TripleStore$Word" (8 : Nat) "TripleStore$Word") ∈ lw_tbl := lw_at lw_m3 48 rfl
theorem w591 : (Jvm.Cond.methodLink "TripleStore$Word" (13 : Nat) ({ cls := "java/lang/String", name := "equals", desc := "(Ljava/lang/Object;)Z" } : Jvm.MethodName)) ∈ lw_tbl := lw_at lw_m3 49 rfl
theorem w592 : (Jvm.Cond.instanceMethod ({ cls := "java/lang/String", name := "equals", desc := "(Ljava/lang/Object;)Z" } : Jvm.MethodName)) ∈ lw_tbl := lw_at lw_m3 50 rfl
theorem w593 : (Jvm.Cond.selects "java/lang/String" ({ cls := "java/lang/String", name := "equals", desc := "(Ljava/lang/Object;)Z" } : Jvm.MethodName) ({ cls := "java/lang/String", name := "equals", desc := "(Ljava/lang/Object;)Z" } : Jvm.MethodName)) ∈ lw_tbl := lw_at lw_m3 51 rfl
theorem w594 : (Jvm.Cond.code ({ cls := "java/lang/String", name := "equals", desc := "(Ljava/lang/Object;)Z" } : Jvm.MethodName) prog_40_method_66_code (3 : Nat) (Option.some Jvm.ClassFile.FieldType.boolean)) ∈ lw_tbl := lw_at lw_m3 52 rfl
theorem w595 : (Jvm.Cond.classLink "java/lang/String" (10 : Nat) "java/lang/String") ∈ lw_tbl := lw_at lw_m3 53 rfl
theorem w596 : (Jvm.Cond.methodLink "java/lang/String" (541 : Nat) ({ cls := "java/lang/StringLatin1", name := "equals", desc := "([B[B)Z" } : Jvm.MethodName)) ∈ lw_tbl := lw_at lw_m3 54 rfl
theorem w597 : (Jvm.Cond.static ({ cls := "java/lang/StringLatin1", name := "equals", desc := "([B[B)Z" } : Jvm.MethodName)) ∈ lw_tbl := lw_at lw_m3 55 rfl
theorem w598 : (Jvm.Cond.code ({ cls := "java/lang/StringLatin1", name := "equals", desc := "([B[B)Z" } : Jvm.MethodName) prog_42_method_13_code (3 : Nat) (Option.some Jvm.ClassFile.FieldType.boolean)) ∈ lw_tbl := lw_at lw_m3 56 rfl
theorem w599 : (Jvm.Cond.classLink "TripleStore" (127 : Nat) "java/lang/IllegalStateException") ∈ lw_tbl := lw_at lw_m3 57 rfl
theorem w600 : (Jvm.Cond.instantiable "java/lang/IllegalStateException" (6 : Nat)) ∈ lw_tbl := lw_at lw_m3 58 rfl
theorem w601 : (Jvm.Cond.castable "java/lang/IllegalStateException" "java/lang/IllegalStateException") ∈ lw_tbl := lw_at lw_m3 59 rfl
theorem w602 : (Jvm.Cond.selects "java/lang/IllegalStateException" ({ cls := "java/lang/Throwable", name := "fillInStackTrace", desc := "(I)Ljava/lang/Throwable;" } : Jvm.MethodName) ({ cls := "java/lang/Throwable", name := "fillInStackTrace", desc := "(I)Ljava/lang/Throwable;" } : Jvm.MethodName)) ∈ lw_tbl := lw_at lw_m3 60 rfl
theorem w603 : (Jvm.Cond.lays "java/lang/IllegalStateException" "java/lang/Throwable" "cause" "Ljava/lang/Throwable;") ∈ lw_tbl := lw_at lw_m3 61 rfl
theorem w604 : (Jvm.Cond.lays "java/lang/IllegalStateException" "java/lang/Throwable" "stackTrace" "[Ljava/lang/StackTraceElement;") ∈ lw_tbl := lw_at lw_m3 62 rfl
theorem w605 : (Jvm.Cond.lays "java/lang/IllegalStateException" "java/lang/Throwable" "suppressedExceptions" "Ljava/util/List;") ∈ lw_tbl := lw_at lw_m3 63 rfl
theorem w606 : (Jvm.Cond.lays "java/lang/IllegalStateException" "java/lang/Throwable" "detailMessage" "Ljava/lang/String;") ∈ lw_tbl := lw_at lw_m3 64 rfl
theorem w607 : (Jvm.Cond.lays "java/lang/IllegalStateException" "java/lang/Throwable" "backtrace" "Ljava/lang/Object;") ∈ lw_tbl := lw_at lw_m3 65 rfl
theorem w608 : (Jvm.Cond.methodLink "TripleStore" (129 : Nat) ({ cls := "java/lang/IllegalStateException", name := "<init>", desc := "()V" } : Jvm.MethodName)) ∈ lw_tbl := lw_at lw_m3 66 rfl
theorem w609 : (Jvm.Cond.instanceMethod ({ cls := "java/lang/IllegalStateException", name := "<init>", desc := "()V" } : Jvm.MethodName)) ∈ lw_tbl := lw_at lw_m3 67 rfl
theorem w610 : (Jvm.Cond.code ({ cls := "java/lang/IllegalStateException", name := "<init>", desc := "()V" } : Jvm.MethodName) prog_35_method_1_code (1 : Nat) (Option.none : Option Jvm.ClassFile.FieldType)) ∈ lw_tbl := lw_at lw_m3 68 rfl
theorem w611 : (Jvm.Cond.methodLink "java/lang/IllegalStateException" (1 : Nat) ({ cls := "java/lang/RuntimeException", name := "<init>", desc := "()V" } : Jvm.MethodName)) ∈ lw_tbl := lw_at lw_m3 69 rfl
theorem w612 : (Jvm.Cond.lays "java/lang/IllegalStateException" "java/lang/Throwable" "depth" "I") ∈ lw_tbl := lw_at lw_m3 70 rfl
theorem w613 : (Jvm.Cond.superclass "java/lang/IllegalStateException" "java/lang/RuntimeException") ∈ lw_tbl := lw_at lw_m3 71 rfl
theorem w614 : (Jvm.Cond.methodLink "TripleStore" (130 : Nat) ({ cls := "TripleStore", name := "place", desc := "(LTripleStore$Triple;)V" } : Jvm.MethodName)) ∈ lw_tbl := lw_at lw_m3 72 rfl
theorem w615 : (Jvm.Cond.privateMethod ({ cls := "TripleStore", name := "place", desc := "(LTripleStore$Triple;)V" } : Jvm.MethodName)) ∈ lw_tbl := lw_at lw_m3 73 rfl
theorem w616 : (Jvm.Cond.instanceMethod ({ cls := "TripleStore", name := "place", desc := "(LTripleStore$Triple;)V" } : Jvm.MethodName)) ∈ lw_tbl := lw_at lw_m3 74 rfl
theorem w617 : (Jvm.Cond.code ({ cls := "TripleStore", name := "place", desc := "(LTripleStore$Triple;)V" } : Jvm.MethodName) prog_1_method_5_code (2 : Nat) (Option.none : Option Jvm.ClassFile.FieldType)) ∈ lw_tbl := lw_at lw_m3 75 rfl
theorem w618 : (Jvm.Cond.methodLink "TripleStore" (134 : Nat) ({ cls := "TripleStore", name := "note", desc := "(ZLTripleStore$Triple;)V" } : Jvm.MethodName)) ∈ lw_tbl := lw_at lw_m3 76 rfl
theorem w619 : (Jvm.Cond.privateMethod ({ cls := "TripleStore", name := "note", desc := "(ZLTripleStore$Triple;)V" } : Jvm.MethodName)) ∈ lw_tbl := lw_at lw_m3 77 rfl
theorem w620 : (Jvm.Cond.instanceMethod ({ cls := "TripleStore", name := "note", desc := "(ZLTripleStore$Triple;)V" } : Jvm.MethodName)) ∈ lw_tbl := lw_at lw_m3 78 rfl
theorem w621 : (Jvm.Cond.code ({ cls := "TripleStore", name := "note", desc := "(ZLTripleStore$Triple;)V" } : Jvm.MethodName) prog_1_method_7_code (3 : Nat) (Option.none : Option Jvm.ClassFile.FieldType)) ∈ lw_tbl := lw_at lw_m3 79 rfl
theorem w622 : (Jvm.Cond.classLink "TripleStore" (79 : Nat) "TripleStore$Change") ∈ lw_tbl := lw_at lw_m3 80 rfl
theorem w623 : (Jvm.Cond.instantiable "TripleStore$Change" (3 : Nat)) ∈ lw_tbl := lw_at lw_m3 81 rfl
theorem w624 : (Jvm.Cond.methodLink "TripleStore" (85 : Nat) ({ cls := "TripleStore$Change", name := "<init>", desc := "(ZLTripleStore$Triple;LTripleStore$Change;)V" } : Jvm.MethodName)) ∈ lw_tbl := lw_at lw_m3 82 rfl
theorem w625 : (Jvm.Cond.instanceMethod ({ cls := "TripleStore$Change", name := "<init>", desc := "(ZLTripleStore$Triple;LTripleStore$Change;)V" } : Jvm.MethodName)) ∈ lw_tbl := lw_at lw_m3 83 rfl
theorem w626 : (Jvm.Cond.code ({ cls := "TripleStore$Change", name := "<init>", desc := "(ZLTripleStore$Triple;LTripleStore$Change;)V" } : Jvm.MethodName) prog_3_method_1_code (4 : Nat) (Option.none : Option Jvm.ClassFile.FieldType)) ∈ lw_tbl := lw_at lw_m3 84 rfl
theorem w627 : (Jvm.Cond.methodLink "TripleStore$Change" (1 : Nat) ({ cls := "java/lang/Object", name := "<init>", desc := "()V" } : Jvm.MethodName)) ∈ lw_tbl := lw_at lw_m3 85 rfl
theorem w628 : (Jvm.Cond.fieldLink "TripleStore$Change" (7 : Nat) "TripleStore$Change" "put" "Z") ∈ lw_tbl := lw_at lw_m3 86 rfl
theorem w629 : (Jvm.Cond.fieldLinkNest "TripleStore" (144 : Nat) "TripleStore$Change" "put" "Z" "TripleStore") ∈ lw_tbl := lw_at lw_m3 87 rfl
theorem w630 : (Jvm.Cond.fieldLink "TripleStore$Change" (13 : Nat) "TripleStore$Change" "triple" "LTripleStore$Triple;") ∈ lw_tbl := lw_at lw_m3 88 rfl
theorem w631 : (Jvm.Cond.fieldLinkNest "TripleStore" (147 : Nat) "TripleStore$Change" "triple" "LTripleStore$Triple;" "TripleStore") ∈ lw_tbl := lw_at lw_m3 89 rfl
theorem w632 : (Jvm.Cond.fieldLink "TripleStore$Change" (17 : Nat) "TripleStore$Change" "before" "LTripleStore$Change;") ∈ lw_tbl := lw_at lw_m3 90 rfl
theorem w633 : (Jvm.Cond.fieldLinkNest "TripleStore" (151 : Nat) "TripleStore$Change" "before" "LTripleStore$Change;" "TripleStore") ∈ lw_tbl := lw_at lw_m3 91 rfl
theorem w634 : (Jvm.Cond.laysFinal "TripleStore$Change" "TripleStore$Change" "put" "Z") ∈ lw_tbl := lw_at lw_m3 92 rfl
theorem w635 : (Jvm.Cond.soleField "TripleStore$Change" "put") ∈ lw_tbl := lw_at lw_m3 93 rfl
theorem w636 : (Jvm.Cond.laysFinal "TripleStore$Change" "TripleStore$Change" "triple" "LTripleStore$Triple;") ∈ lw_tbl := lw_at lw_m3 94 rfl
theorem w637 : (Jvm.Cond.soleField "TripleStore$Change" "triple") ∈ lw_tbl := lw_at lw_m3 95 rfl
theorem w638 : (Jvm.Cond.laysFinal "TripleStore$Change" "TripleStore$Change" "before" "LTripleStore$Change;") ∈ lw_tbl := lw_at lw_m3 96 rfl
theorem w639 : (Jvm.Cond.soleField "TripleStore$Change" "before") ∈ lw_tbl := lw_at lw_m3 97 rfl
theorem w640 : (Jvm.Cond.superclass "TripleStore$Change" "java/lang/Object") ∈ lw_tbl := lw_at lw_m3 98 rfl
theorem w641 : (Jvm.Cond.methodLink "TripleStore" (95 : Nat) ({ cls := "TripleStore", name := "close", desc := "()V" } : Jvm.MethodName)) ∈ lw_tbl := lw_at lw_m3 99 rfl
theorem w642 : (Jvm.Cond.privateMethod ({ cls := "TripleStore", name := "close", desc := "()V" } : Jvm.MethodName)) ∈ lw_tbl := lw_at lw_m3 100 rfl
theorem w643 : (Jvm.Cond.instanceMethod ({ cls := "TripleStore", name := "close", desc := "()V" } : Jvm.MethodName)) ∈ lw_tbl := lw_at lw_m3 101 rfl
theorem w644 : (Jvm.Cond.code ({ cls := "TripleStore", name := "close", desc := "()V" } : Jvm.MethodName) prog_1_method_8_code (2 : Nat) (Option.none : Option Jvm.ClassFile.FieldType)) ∈ lw_tbl := lw_at lw_m3 102 rfl
theorem w645 : (Jvm.Cond.classLink "TripleStore" (98 : Nat) "TripleStore$Commit") ∈ lw_tbl := lw_at lw_m3 103 rfl
theorem w646 : (Jvm.Cond.instantiable "TripleStore$Commit" (2 : Nat)) ∈ lw_tbl := lw_at lw_m3 104 rfl
theorem w647 : (Jvm.Cond.methodLink "TripleStore" (100 : Nat) ({ cls := "TripleStore$Commit", name := "<init>", desc := "(LTripleStore$Change;)V" } : Jvm.MethodName)) ∈ lw_tbl := lw_at lw_m3 105 rfl
theorem w648 : (Jvm.Cond.instanceMethod ({ cls := "TripleStore$Commit", name := "<init>", desc := "(LTripleStore$Change;)V" } : Jvm.MethodName)) ∈ lw_tbl := lw_at lw_m3 106 rfl
theorem w649 : (Jvm.Cond.code ({ cls := "TripleStore$Commit", name := "<init>", desc := "(LTripleStore$Change;)V" } : Jvm.MethodName) prog_4_method_1_code (2 : Nat) (Option.none : Option Jvm.ClassFile.FieldType)) ∈ lw_tbl := lw_at lw_m3 107 rfl
theorem w650 : (Jvm.Cond.methodLink "TripleStore$Commit" (1 : Nat) ({ cls := "java/lang/Object", name := "<init>", desc := "()V" } : Jvm.MethodName)) ∈ lw_tbl := lw_at lw_m3 108 rfl
theorem w651 : (Jvm.Cond.fieldLink "TripleStore$Commit" (7 : Nat) "TripleStore$Commit" "last" "LTripleStore$Change;") ∈ lw_tbl := lw_at lw_m3 109 rfl
theorem w652 : (Jvm.Cond.fieldLinkNest "TripleStore" (160 : Nat) "TripleStore$Commit" "last" "LTripleStore$Change;" "TripleStore") ∈ lw_tbl := lw_at lw_m3 110 rfl
theorem w653 : (Jvm.Cond.fieldLinkNest "TripleStore" (110 : Nat) "TripleStore$Commit" "next" "LTripleStore$Commit;" "TripleStore") ∈ lw_tbl := lw_at lw_m3 111 rfl
theorem w654 : (Jvm.Cond.laysFinal "TripleStore$Commit" "TripleStore$Commit" "last" "LTripleStore$Change;") ∈ lw_tbl := lw_at lw_m3 112 rfl
theorem w655 : (Jvm.Cond.soleField "TripleStore$Commit" "last") ∈ lw_tbl := lw_at lw_m3 113 rfl
theorem w656 : (Jvm.Cond.lays "TripleStore$Commit" "TripleStore$Commit" "next" "LTripleStore$Commit;") ∈ lw_tbl := lw_at lw_m3 114 rfl
theorem w657 : (Jvm.Cond.soleField "TripleStore$Commit" "next") ∈ lw_tbl := lw_at lw_m3 115 rfl
theorem w658 : (Jvm.Cond.superclass "TripleStore$Commit" "java/lang/Object") ∈ lw_tbl := lw_at lw_m3 116 rfl
theorem w659 : (Jvm.Cond.methodLink "TripleStoreLaw" (67 : Nat) ({ cls := "TripleStoreLaw", name := "remove", desc := "(LTripleStore;JJJ[J)I" } : Jvm.MethodName)) ∈ lw_tbl := lw_at lw_m3 117 rfl
theorem w660 : (Jvm.Cond.static ({ cls := "TripleStoreLaw", name := "remove", desc := "(LTripleStore;JJJ[J)I" } : Jvm.MethodName)) ∈ lw_tbl := lw_at lw_m3 118 rfl
theorem w661 : (Jvm.Cond.codeWith ({ cls := "TripleStoreLaw", name := "remove", desc := "(LTripleStore;JJJ[J)I" } : Jvm.MethodName) method_4_code (9 : Nat) (Option.some Jvm.ClassFile.FieldType.int) [((0 : Nat), (13 : Nat), (16 : Nat), (13 : Nat))]) ∈ lw_tbl := lw_at lw_m3 119 rfl
theorem w662 : (Jvm.Cond.methodLink "TripleStoreLaw" (17 : Nat) ({ cls := "TripleStore", name := "remove", desc := "(JJJ)I" } : Jvm.MethodName)) ∈ lw_tbl := lw_at lw_m3 120 rfl
theorem w663 : (Jvm.Cond.instanceMethod ({ cls := "TripleStore", name := "remove", desc := "(JJJ)I" } : Jvm.MethodName)) ∈ lw_tbl := lw_at lw_m3 121 rfl
theorem w664 : (Jvm.Cond.selects "TripleStore" ({ cls := "TripleStore", name := "remove", desc := "(JJJ)I" } : Jvm.MethodName) ({ cls := "TripleStore", name := "remove", desc := "(JJJ)I" } : Jvm.MethodName)) ∈ lw_tbl := lw_at lw_m3 122 rfl
theorem w665 : (Jvm.Cond.code ({ cls := "TripleStore", name := "remove", desc := "(JJJ)I" } : Jvm.MethodName) prog_1_method_10_code (9 : Nat) (Option.some Jvm.ClassFile.FieldType.int)) ∈ lw_tbl := lw_at lw_m3 123 rfl
theorem w666 : (Jvm.Cond.methodLink "TripleStore" (138 : Nat) ({ cls := "TripleStore", name := "take", desc := "(I)V" } : Jvm.MethodName)) ∈ lw_tbl := lw_at lw_m3 124 rfl
theorem w667 : (Jvm.Cond.privateMethod ({ cls := "TripleStore", name := "take", desc := "(I)V" } : Jvm.MethodName)) ∈ lw_tbl := lw_at lw_m3 125 rfl
theorem w668 : (Jvm.Cond.instanceMethod ({ cls := "TripleStore", name := "take", desc := "(I)V" } : Jvm.MethodName)) ∈ lw_tbl := lw_at lw_m3 126 rfl
theorem w669 : (Jvm.Cond.code ({ cls := "TripleStore", name := "take", desc := "(I)V" } : Jvm.MethodName) prog_1_method_6_code (2 : Nat) (Option.none : Option Jvm.ClassFile.FieldType)) ∈ lw_tbl := lw_at lw_m3 127 rfl
theorem w670 : (Jvm.Cond.methodLink "TripleStoreLaw" (70 : Nat) ({ cls := "TripleStoreLaw", name := "begin", desc := "(LTripleStore;[J)I" } : Jvm.MethodName)) ∈ lw_tbl := lw_at lw_m3 128 rfl
theorem w671 : (Jvm.Cond.static ({ cls := "TripleStoreLaw", name := "begin", desc := "(LTripleStore;[J)I" } : Jvm.MethodName)) ∈ lw_tbl := lw_at lw_m3 129 rfl
theorem w672 : (Jvm.Cond.codeWith ({ cls := "TripleStoreLaw", name := "begin", desc := "(LTripleStore;[J)I" } : Jvm.MethodName) method_5_code (3 : Nat) (Option.some Jvm.ClassFile.FieldType.int) [((0 : Nat), (8 : Nat), (11 : Nat), (15 : Nat))]) ∈ lw_tbl := lw_at lw_m3 130 rfl
theorem w673 : (Jvm.Cond.methodLink "TripleStoreLaw" (20 : Nat) ({ cls := "TripleStore", name := "begin", desc := "()I" } : Jvm.MethodName)) ∈ lw_tbl := lw_at lw_m3 131 rfl
theorem w674 : (Jvm.Cond.instanceMethod ({ cls := "TripleStore", name := "begin", desc := "()I" } : Jvm.MethodName)) ∈ lw_tbl := lw_at lw_m3 132 rfl
theorem w675 : (Jvm.Cond.selects "TripleStore" ({ cls := "TripleStore", name := "begin", desc := "()I" } : Jvm.MethodName) ({ cls := "TripleStore", name := "begin", desc := "()I" } : Jvm.MethodName)) ∈ lw_tbl := lw_at lw_m3 133 rfl
theorem w676 : (Jvm.Cond.code ({ cls := "TripleStore", name := "begin", desc := "()I" } : Jvm.MethodName) prog_1_method_11_code (1 : Nat) (Option.some Jvm.ClassFile.FieldType.int)) ∈ lw_tbl := lw_at lw_m3 134 rfl
theorem w677 : (Jvm.Cond.methodLink "TripleStoreLaw" (74 : Nat) ({ cls := "TripleStoreLaw", name := "commit", desc := "(LTripleStore;[J)I" } : Jvm.MethodName)) ∈ lw_tbl := lw_at lw_m3 135 rfl
theorem w678 : (Jvm.Cond.static ({ cls := "TripleStoreLaw", name := "commit", desc := "(LTripleStore;[J)I" } : Jvm.MethodName)) ∈ lw_tbl := lw_at lw_m3 136 rfl
theorem w679 : (Jvm.Cond.codeWith ({ cls := "TripleStoreLaw", name := "commit", desc := "(LTripleStore;[J)I" } : Jvm.MethodName) method_6_code (3 : Nat) (Option.some Jvm.ClassFile.FieldType.int) [((0 : Nat), (8 : Nat), (11 : Nat), (15 : Nat))]) ∈ lw_tbl := lw_at lw_m3 137 rfl
theorem w680 : (Jvm.Cond.methodLink "TripleStoreLaw" (24 : Nat) ({ cls := "TripleStore", name := "commit", desc := "()I" } : Jvm.MethodName)) ∈ lw_tbl := lw_at lw_m3 138 rfl
theorem w681 : (Jvm.Cond.instanceMethod ({ cls := "TripleStore", name := "commit", desc := "()I" } : Jvm.MethodName)) ∈ lw_tbl := lw_at lw_m3 139 rfl
theorem w682 : (Jvm.Cond.selects "TripleStore" ({ cls := "TripleStore", name := "commit", desc := "()I" } : Jvm.MethodName) ({ cls := "TripleStore", name := "commit", desc := "()I" } : Jvm.MethodName)) ∈ lw_tbl := lw_at lw_m3 140 rfl
theorem w683 : (Jvm.Cond.code ({ cls := "TripleStore", name := "commit", desc := "()I" } : Jvm.MethodName) prog_1_method_13_code (2 : Nat) (Option.some Jvm.ClassFile.FieldType.int)) ∈ lw_tbl := lw_at lw_m3 141 rfl
theorem w684 : (Jvm.Cond.methodLink "TripleStore" (141 : Nat) ({ cls := "TripleStore", name := "needOpen", desc := "()V" } : Jvm.MethodName)) ∈ lw_tbl := lw_at lw_m3 142 rfl
theorem w685 : (Jvm.Cond.privateMethod ({ cls := "TripleStore", name := "needOpen", desc := "()V" } : Jvm.MethodName)) ∈ lw_tbl := lw_at lw_m3 143 rfl
theorem w686 : (Jvm.Cond.instanceMethod ({ cls := "TripleStore", name := "needOpen", desc := "()V" } : Jvm.MethodName)) ∈ lw_tbl := lw_at lw_m3 144 rfl
theorem w687 : (Jvm.Cond.code ({ cls := "TripleStore", name := "needOpen", desc := "()V" } : Jvm.MethodName) prog_1_method_12_code (1 : Nat) (Option.none : Option Jvm.ClassFile.FieldType)) ∈ lw_tbl := lw_at lw_m3 145 rfl
theorem w688 : (Jvm.Cond.methodLink "TripleStoreLaw" (77 : Nat) ({ cls := "TripleStoreLaw", name := "rollback", desc := "(LTripleStore;[J)I" } : Jvm.MethodName)) ∈ lw_tbl := lw_at lw_m3 146 rfl
theorem w689 : (Jvm.Cond.static ({ cls := "TripleStoreLaw", name := "rollback", desc := "(LTripleStore;[J)I" } : Jvm.MethodName)) ∈ lw_tbl := lw_at lw_m3 147 rfl
theorem w690 : (Jvm.Cond.codeWith ({ cls := "TripleStoreLaw", name := "rollback", desc := "(LTripleStore;[J)I" } : Jvm.MethodName) method_7_code (3 : Nat) (Option.some Jvm.ClassFile.FieldType.int) [((0 : Nat), (8 : Nat), (11 : Nat), (15 : Nat))]) ∈ lw_tbl := lw_at lw_m3 148 rfl
theorem w691 : (Jvm.Cond.methodLink "TripleStoreLaw" (27 : Nat) ({ cls := "TripleStore", name := "rollback", desc := "()I" } : Jvm.MethodName)) ∈ lw_tbl := lw_at lw_m3 149 rfl
theorem w692 : (Jvm.Cond.instanceMethod ({ cls := "TripleStore", name := "rollback", desc := "()I" } : Jvm.MethodName)) ∈ lw_tbl := lw_at lw_m3 150 rfl
theorem w693 : (Jvm.Cond.selects "TripleStore" ({ cls := "TripleStore", name := "rollback", desc := "()I" } : Jvm.MethodName) ({ cls := "TripleStore", name := "rollback", desc := "()I" } : Jvm.MethodName)) ∈ lw_tbl := lw_at lw_m3 151 rfl
theorem w694 : (Jvm.Cond.code ({ cls := "TripleStore", name := "rollback", desc := "()I" } : Jvm.MethodName) prog_1_method_16_code (1 : Nat) (Option.some Jvm.ClassFile.FieldType.int)) ∈ lw_tbl := lw_at lw_m3 152 rfl
theorem w695 : (Jvm.Cond.methodLink "TripleStore" (157 : Nat) ({ cls := "TripleStore", name := "undoOpen", desc := "()I" } : Jvm.MethodName)) ∈ lw_tbl := lw_at lw_m3 153 rfl
theorem w696 : (Jvm.Cond.privateMethod ({ cls := "TripleStore", name := "undoOpen", desc := "()I" } : Jvm.MethodName)) ∈ lw_tbl := lw_at lw_m3 154 rfl
theorem w697 : (Jvm.Cond.instanceMethod ({ cls := "TripleStore", name := "undoOpen", desc := "()I" } : Jvm.MethodName)) ∈ lw_tbl := lw_at lw_m3 155 rfl
theorem w698 : (Jvm.Cond.code ({ cls := "TripleStore", name := "undoOpen", desc := "()I" } : Jvm.MethodName) prog_1_method_15_code (2 : Nat) (Option.some Jvm.ClassFile.FieldType.int)) ∈ lw_tbl := lw_at lw_m3 156 rfl
theorem w699 : (Jvm.Cond.methodLink "TripleStore" (154 : Nat) ({ cls := "TripleStore", name := "undo", desc := "(LTripleStore$Change;)V" } : Jvm.MethodName)) ∈ lw_tbl := lw_at lw_m3 157 rfl
theorem w700 : (Jvm.Cond.privateMethod ({ cls := "TripleStore", name := "undo", desc := "(LTripleStore$Change;)V" } : Jvm.MethodName)) ∈ lw_tbl := lw_at lw_m3 158 rfl
theorem w701 : (Jvm.Cond.instanceMethod ({ cls := "TripleStore", name := "undo", desc := "(LTripleStore$Change;)V" } : Jvm.MethodName)) ∈ lw_tbl := lw_at lw_m3 159 rfl
theorem w702 : (Jvm.Cond.code ({ cls := "TripleStore", name := "undo", desc := "(LTripleStore$Change;)V" } : Jvm.MethodName) prog_1_method_14_code (3 : Nat) (Option.none : Option Jvm.ClassFile.FieldType)) ∈ lw_tbl := lw_at lw_m3 160 rfl
theorem w703 : (Jvm.Cond.methodLink "TripleStoreLaw" (84 : Nat) ({ cls := "TripleStoreLaw", name := "crash", desc := "(LTripleStore;I[J)I" } : Jvm.MethodName)) ∈ lw_tbl := lw_at lw_m3 161 rfl
theorem w704 : (Jvm.Cond.static ({ cls := "TripleStoreLaw", name := "crash", desc := "(LTripleStore;I[J)I" } : Jvm.MethodName)) ∈ lw_tbl := lw_at lw_m3 162 rfl
theorem w705 : (Jvm.Cond.codeWith ({ cls := "TripleStoreLaw", name := "crash", desc := "(LTripleStore;I[J)I" } : Jvm.MethodName) method_8_code (4 : Nat) (Option.some Jvm.ClassFile.FieldType.int) [((0 : Nat), (9 : Nat), (12 : Nat), (13 : Nat))]) ∈ lw_tbl := lw_at lw_m3 163 rfl
theorem w706 : (Jvm.Cond.methodLink "TripleStoreLaw" (30 : Nat) ({ cls := "TripleStore", name := "crash", desc := "(I)I" } : Jvm.MethodName)) ∈ lw_tbl := lw_at lw_m3 164 rfl
theorem w707 : (Jvm.Cond.instanceMethod ({ cls := "TripleStore", name := "crash", desc := "(I)I" } : Jvm.MethodName)) ∈ lw_tbl := lw_at lw_m3 165 rfl
theorem w708 : (Jvm.Cond.selects "TripleStore" ({ cls := "TripleStore", name := "crash", desc := "(I)I" } : Jvm.MethodName) ({ cls := "TripleStore", name := "crash", desc := "(I)I" } : Jvm.MethodName)) ∈ lw_tbl := lw_at lw_m3 166 rfl
theorem w709 : (Jvm.Cond.code ({ cls := "TripleStore", name := "crash", desc := "(I)I" } : Jvm.MethodName) prog_1_method_19_code (4 : Nat) (Option.some Jvm.ClassFile.FieldType.int)) ∈ lw_tbl := lw_at lw_m3 167 rfl
theorem w710 : (Jvm.Cond.methodLink "TripleStore" (163 : Nat) ({ cls := "TripleStore", name := "undoFrom", desc := "(LTripleStore$Commit;)V" } : Jvm.MethodName)) ∈ lw_tbl := lw_at lw_m3 168 rfl
theorem w711 : (Jvm.Cond.privateMethod ({ cls := "TripleStore", name := "undoFrom", desc := "(LTripleStore$Commit;)V" } : Jvm.MethodName)) ∈ lw_tbl := lw_at lw_m3 169 rfl
theorem w712 : (Jvm.Cond.instanceMethod ({ cls := "TripleStore", name := "undoFrom", desc := "(LTripleStore$Commit;)V" } : Jvm.MethodName)) ∈ lw_tbl := lw_at lw_m3 170 rfl
theorem w713 : (Jvm.Cond.code ({ cls := "TripleStore", name := "undoFrom", desc := "(LTripleStore$Commit;)V" } : Jvm.MethodName) prog_1_method_18_code (5 : Nat) (Option.none : Option Jvm.ClassFile.FieldType)) ∈ lw_tbl := lw_at lw_m3 171 rfl
theorem w714 : (Jvm.Cond.arrayOver (Jvm.ClassFile.FieldType.object "TripleStore$Commit")) ∈ lw_tbl := lw_at lw_m3 172 rfl
theorem w715 : (Jvm.Cond.methodLink "TripleStore" (167 : Nat) ({ cls := "TripleStore", name := "sync", desc := "()I" } : Jvm.MethodName)) ∈ lw_tbl := lw_at lw_m3 173 rfl
theorem w716 : (Jvm.Cond.methodLink "TripleStoreLaw" (88 : Nat) ({ cls := "TripleStoreLaw", name := "append", desc := "(LTripleStore;JI[J)I" } : Jvm.MethodName)) ∈ lw_tbl := lw_at lw_m3 174 rfl
theorem w717 : (Jvm.Cond.static ({ cls := "TripleStoreLaw", name := "append", desc := "(LTripleStore;JI[J)I" } : Jvm.MethodName)) ∈ lw_tbl := lw_at lw_m3 175 rfl
theorem w718 : (Jvm.Cond.codeWith ({ cls := "TripleStoreLaw", name := "append", desc := "(LTripleStore;JI[J)I" } : Jvm.MethodName) method_9_code (6 : Nat) (Option.some Jvm.ClassFile.FieldType.int) [((0 : Nat), (11 : Nat), (14 : Nat), (13 : Nat)), ((0 : Nat), (11 : Nat), (18 : Nat), (15 : Nat))]) ∈ lw_tbl := lw_at lw_m3 176 rfl
theorem w719 : (Jvm.Cond.methodLink "TripleStoreLaw" (34 : Nat) ({ cls := "TripleStore", name := "append", desc := "(JI)I" } : Jvm.MethodName)) ∈ lw_tbl := lw_at lw_m3 177 rfl
theorem w720 : (Jvm.Cond.instanceMethod ({ cls := "TripleStore", name := "append", desc := "(JI)I" } : Jvm.MethodName)) ∈ lw_tbl := lw_at lw_m3 178 rfl
theorem w721 : (Jvm.Cond.selects "TripleStore" ({ cls := "TripleStore", name := "append", desc := "(JI)I" } : Jvm.MethodName) ({ cls := "TripleStore", name := "append", desc := "(JI)I" } : Jvm.MethodName)) ∈ lw_tbl := lw_at lw_m3 179 rfl
theorem w722 : (Jvm.Cond.code ({ cls := "TripleStore", name := "append", desc := "(JI)I" } : Jvm.MethodName) prog_1_method_20_code (6 : Nat) (Option.some Jvm.ClassFile.FieldType.int)) ∈ lw_tbl := lw_at lw_m3 180 rfl
theorem w723 : (Jvm.Cond.methodLink "TripleStoreLaw" (92 : Nat) ({ cls := "TripleStoreLaw", name := "ask", desc := "(LTripleStore;[J)I" } : Jvm.MethodName)) ∈ lw_tbl := lw_at lw_m3 181 rfl
theorem w724 : (Jvm.Cond.static ({ cls := "TripleStoreLaw", name := "ask", desc := "(LTripleStore;[J)I" } : Jvm.MethodName)) ∈ lw_tbl := lw_at lw_m3 182 rfl
theorem w725 : (Jvm.Cond.codeWith ({ cls := "TripleStoreLaw", name := "ask", desc := "(LTripleStore;[J)I" } : Jvm.MethodName) method_10_code (3 : Nat) (Option.some Jvm.ClassFile.FieldType.int) [((0 : Nat), (8 : Nat), (11 : Nat), (13 : Nat)), ((0 : Nat), (8 : Nat), (14 : Nat), (15 : Nat))]) ∈ lw_tbl := lw_at lw_m3 183 rfl
theorem w726 : (Jvm.Cond.methodLink "TripleStoreLaw" (38 : Nat) ({ cls := "TripleStore", name := "ask", desc := "()I" } : Jvm.MethodName)) ∈ lw_tbl := lw_at lw_m3 184 rfl
theorem w727 : (Jvm.Cond.instanceMethod ({ cls := "TripleStore", name := "ask", desc := "()I" } : Jvm.MethodName)) ∈ lw_tbl := lw_at lw_m3 185 rfl
theorem w728 : (Jvm.Cond.selects "TripleStore" ({ cls := "TripleStore", name := "ask", desc := "()I" } : Jvm.MethodName) ({ cls := "TripleStore", name := "ask", desc := "()I" } : Jvm.MethodName)) ∈ lw_tbl := lw_at lw_m3 186 rfl
theorem w729 : (Jvm.Cond.code ({ cls := "TripleStore", name := "ask", desc := "()I" } : Jvm.MethodName) prog_1_method_22_code (5 : Nat) (Option.some Jvm.ClassFile.FieldType.int)) ∈ lw_tbl := lw_at lw_m3 187 rfl
theorem w730 : (Jvm.Cond.methodLink "TripleStore" (188 : Nat) ({ cls := "java/lang/StringBuilder", name := "setLength", desc := "(I)V" } : Jvm.MethodName)) ∈ lw_tbl := lw_at lw_m3 188 rfl
theorem w731 : (Jvm.Cond.instanceMethod ({ cls := "java/lang/StringBuilder", name := "setLength", desc := "(I)V" } : Jvm.MethodName)) ∈ lw_tbl := lw_at lw_m3 189 rfl
theorem w732 : (Jvm.Cond.selects "java/lang/StringBuilder" ({ cls := "java/lang/StringBuilder", name := "setLength", desc := "(I)V" } : Jvm.MethodName) ({ cls := "java/lang/StringBuilder", name := "setLength", desc := "(I)V" } : Jvm.MethodName)) ∈ lw_tbl := lw_at lw_m3 190 rfl
theorem w733 : (Jvm.Cond.code ({ cls := "java/lang/StringBuilder", name := "setLength", desc := "(I)V" } : Jvm.MethodName) prog_41_method_89_code (2 : Nat) (Option.none : Option Jvm.ClassFile.FieldType)) ∈ lw_tbl := lw_at lw_m3 191 rfl
theorem w734 : (Jvm.Cond.methodLink "java/lang/StringBuilder" (333 : Nat) ({ cls := "java/lang/AbstractStringBuilder", name := "setLength", desc := "(I)V" } : Jvm.MethodName)) ∈ lw_tbl := lw_at lw_m3 192 rfl
theorem w735 : (Jvm.Cond.instanceMethod ({ cls := "java/lang/AbstractStringBuilder", name := "setLength", desc := "(I)V" } : Jvm.MethodName)) ∈ lw_tbl := lw_at lw_m3 193 rfl
theorem w736 : (Jvm.Cond.code ({ cls := "java/lang/AbstractStringBuilder", name := "setLength", desc := "(I)V" } : Jvm.MethodName) prog_28_method_13_code (2 : Nat) (Option.none : Option Jvm.ClassFile.FieldType)) ∈ lw_tbl := lw_at lw_m3 194 rfl
theorem w737 : (Jvm.Cond.methodLink "java/lang/AbstractStringBuilder" (133 : Nat) ({ cls := "java/lang/StringLatin1", name := "fillNull", desc := "([BII)V" } : Jvm.MethodName)) ∈ lw_tbl := lw_at lw_m3 195 rfl
theorem w738 : (Jvm.Cond.static ({ cls := "java/lang/StringLatin1", name := "fillNull", desc := "([BII)V" } : Jvm.MethodName)) ∈ lw_tbl := lw_at lw_m3 196 rfl
theorem w739 : (Jvm.Cond.code ({ cls := "java/lang/StringLatin1", name := "fillNull", desc := "([BII)V" } : Jvm.MethodName) prog_42_method_48_code (3 : Nat) (Option.none : Option Jvm.ClassFile.FieldType)) ∈ lw_tbl := lw_at lw_m3 197 rfl
theorem w740 : (Jvm.Cond.methodLink "java/lang/StringLatin1" (236 : Nat) ({ cls := "java/util/Arrays", name := "fill", desc := "([BIIB)V" } : Jvm.MethodName)) ∈ lw_tbl := lw_at lw_m3 198 rfl
theorem w741 : (Jvm.Cond.static ({ cls := "java/util/Arrays", name := "fill", desc := "([BIIB)V" } : Jvm.MethodName)) ∈ lw_tbl := lw_at lw_m3 199 rfl
theorem w742 : (Jvm.Cond.code ({ cls := "java/util/Arrays", name := "fill", desc := "([BIIB)V" } : Jvm.MethodName) prog_50_method_110_code (5 : Nat) (Option.none : Option Jvm.ClassFile.FieldType)) ∈ lw_tbl := lw_at lw_m3 200 rfl
theorem w743 : (Jvm.Cond.methodLink "java/util/Arrays" (13 : Nat) ({ cls := "java/util/Arrays", name := "rangeCheck", desc := "(III)V" } : Jvm.MethodName)) ∈ lw_tbl := lw_at lw_m3 201 rfl
theorem w744 : (Jvm.Cond.static ({ cls := "java/util/Arrays", name := "rangeCheck", desc := "(III)V" } : Jvm.MethodName)) ∈ lw_tbl := lw_at lw_m3 202 rfl
theorem w745 : (Jvm.Cond.code ({ cls := "java/util/Arrays", name := "rangeCheck", desc := "(III)V" } : Jvm.MethodName) prog_50_method_30_code (3 : Nat) (Option.none : Option Jvm.ClassFile.FieldType)) ∈ lw_tbl := lw_at lw_m3 203 rfl
theorem w746 : (Jvm.Cond.stringRef "java/util/Arrays" (48 : Nat) "fromIndex(") ∈ lw_tbl := lw_at lw_m3 204 rfl
theorem w747 : (Jvm.Cond.stringRef "java/util/Arrays" (57 : Nat) ") > toIndex(") ∈ lw_tbl := lw_at lw_m3 205 rfl
theorem w748 : (Jvm.Cond.stringRef "java/util/Arrays" (59 : Nat) ")") ∈ lw_tbl := lw_at lw_m3 206 rfl
theorem w749 : (Jvm.Cond.methodLink "java/lang/AbstractStringBuilder" (137 : Nat) ({ cls := "java/lang/StringUTF16", name := "fillNull", desc := "([BII)V" } : Jvm.MethodName)) ∈ lw_tbl := lw_at lw_m3 207 rfl
theorem w750 : (Jvm.Cond.static ({ cls := "java/lang/StringUTF16", name := "fillNull", desc := "([BII)V" } : Jvm.MethodName)) ∈ lw_tbl := lw_at lw_m3 208 rfl
theorem w751 : (Jvm.Cond.code ({ cls := "java/lang/StringUTF16", name := "fillNull", desc := "([BII)V" } : Jvm.MethodName) prog_43_method_70_code (3 : Nat) (Option.none : Option Jvm.ClassFile.FieldType)) ∈ lw_tbl := lw_at lw_m3 209 rfl
theorem w752 : (Jvm.Cond.methodLink "java/lang/StringUTF16" (380 : Nat) ({ cls := "java/util/Arrays", name := "fill", desc := "([BIIB)V" } : Jvm.MethodName)) ∈ lw_tbl := lw_at lw_m3 210 rfl
theorem w753 : (Jvm.Cond.classLink "TripleStore" (191 : Nat) "TripleStore$Reader") ∈ lw_tbl := lw_at lw_m3 211 rfl
theorem w754 : (Jvm.Cond.instantiable "TripleStore$Reader" (11 : Nat)) ∈ lw_tbl := lw_at lw_m3 212 rfl
theorem w755 : (Jvm.Cond.methodLink "TripleStore" (193 : Nat) ({ cls := "TripleStore$Reader", name := "<init>", desc := "(LTripleStore;Ljava/lang/String;)V" } : Jvm.MethodName)) ∈ lw_tbl := lw_at lw_m3 213 rfl
theorem w756 : (Jvm.Cond.instanceMethod ({ cls := "TripleStore$Reader", name := "<init>", desc := "(LTripleStore;Ljava/lang/String;)V" } : Jvm.MethodName)) ∈ lw_tbl := lw_at lw_m3 214 rfl
theorem w757 : (Jvm.Cond.code ({ cls := "TripleStore$Reader", name := "<init>", desc := "(LTripleStore;Ljava/lang/String;)V" } : Jvm.MethodName) prog_16_method_1_code (3 : Nat) (Option.none : Option Jvm.ClassFile.FieldType)) ∈ lw_tbl := lw_at lw_m3 215 rfl
theorem w758 : (Jvm.Cond.methodLink "TripleStore$Reader" (3 : Nat) ({ cls := "java/lang/Object", name := "<init>", desc := "()V" } : Jvm.MethodName)) ∈ lw_tbl := lw_at lw_m3 216 rfl
theorem w759 : (Jvm.Cond.classLink "TripleStore$Reader" (9 : Nat) "java/lang/String") ∈ lw_tbl := lw_at lw_m3 217 rfl
theorem w760 : (Jvm.Cond.arrayOver (Jvm.ClassFile.FieldType.object "java/lang/String")) ∈ lw_tbl := lw_at lw_m3 218 rfl
theorem w761 : (Jvm.Cond.methodLink "TripleStore$Reader" (25 : Nat) ({ cls := "TripleStore$Reader", name := "advance", desc := "()V" } : Jvm.MethodName)) ∈ lw_tbl := lw_at lw_m3 219 rfl
theorem w762 : (Jvm.Cond.privateMethod ({ cls := "TripleStore$Reader", name := "advance", desc := "()V" } : Jvm.MethodName)) ∈ lw_tbl := lw_at lw_m3 220 rfl
theorem w763 : (Jvm.Cond.instanceMethod ({ cls := "TripleStore$Reader", name := "advance", desc := "()V" } : Jvm.MethodName)) ∈ lw_tbl := lw_at lw_m3 221 rfl
theorem w764 : (Jvm.Cond.code ({ cls := "TripleStore$Reader", name := "advance", desc := "()V" } : Jvm.MethodName) prog_16_method_8_code (3 : Nat) (Option.none : Option Jvm.ClassFile.FieldType)) ∈ lw_tbl := lw_at lw_m3 222 rfl
theorem w765 : (Jvm.Cond.methodLink "TripleStore$Reader" (68 : Nat) ({ cls := "java/lang/String", name := "length", desc := "()I" } : Jvm.MethodName)) ∈ lw_tbl := lw_at lw_m3 223 rfl
theorem w766 : (Jvm.Cond.methodLink "TripleStore$Reader" (71 : Nat) ({ cls := "java/lang/String", name := "charAt", desc := "(I)C" } : Jvm.MethodName)) ∈ lw_tbl := lw_at lw_m3 224 rfl
theorem w767 : (Jvm.Cond.instanceMethod ({ cls := "java/lang/String", name := "charAt", desc := "(I)C" } : Jvm.MethodName)) ∈ lw_tbl := lw_at lw_m3 225 rfl
theorem w768 : (Jvm.Cond.selects "java/lang/String" ({ cls := "java/lang/String", name := "charAt", desc := "(I)C" } : Jvm.MethodName) ({ cls := "java/lang/String", name := "charAt", desc := "(I)C" } : Jvm.MethodName)) ∈ lw_tbl := lw_at lw_m3 226 rfl
theorem w769 : (Jvm.Cond.code ({ cls := "java/lang/String", name := "charAt", desc := "(I)C" } : Jvm.MethodName) prog_40_method_56_code (2 : Nat) (Option.some Jvm.ClassFile.FieldType.char)) ∈ lw_tbl := lw_at lw_m3 227 rfl
theorem w770 : (Jvm.Cond.methodLink "java/lang/String" (492 : Nat) ({ cls := "java/lang/String", name := "isLatin1", desc := "()Z" } : Jvm.MethodName)) ∈ lw_tbl := lw_at lw_m3 228 rfl
theorem w771 : (Jvm.Cond.instanceMethod ({ cls := "java/lang/String", name := "isLatin1", desc := "()Z" } : Jvm.MethodName)) ∈ lw_tbl := lw_at lw_m3 229 rfl
theorem w772 : (Jvm.Cond.selects "java/lang/String" ({ cls := "java/lang/String", name := "isLatin1", desc := "()Z" } : Jvm.MethodName) ({ cls := "java/lang/String", name := "isLatin1", desc := "()Z" } : Jvm.MethodName)) ∈ lw_tbl := lw_at lw_m3 230 rfl
theorem w773 : (Jvm.Cond.code ({ cls := "java/lang/String", name := "isLatin1", desc := "()Z" } : Jvm.MethodName) prog_40_method_154_code (1 : Nat) (Option.some Jvm.ClassFile.FieldType.boolean)) ∈ lw_tbl := lw_at lw_m3 231 rfl
theorem w774 : (Jvm.Cond.methodLink "java/lang/String" (495 : Nat) ({ cls := "java/lang/StringLatin1", name := "charAt", desc := "([BI)C" } : Jvm.MethodName)) ∈ lw_tbl := lw_at lw_m3 232 rfl
theorem w775 : (Jvm.Cond.static ({ cls := "java/lang/StringLatin1", name := "charAt", desc := "([BI)C" } : Jvm.MethodName)) ∈ lw_tbl := lw_at lw_m3 233 rfl
theorem w776 : (Jvm.Cond.code ({ cls := "java/lang/StringLatin1", name := "charAt", desc := "([BI)C" } : Jvm.MethodName) prog_42_method_2_code (2 : Nat) (Option.some Jvm.ClassFile.FieldType.char)) ∈ lw_tbl := lw_at lw_m3 234 rfl
theorem w777 : (Jvm.Cond.methodLink "java/lang/StringLatin1" (9 : Nat) ({ cls := "java/lang/String", name := "checkIndex", desc := "(II)V" } : Jvm.MethodName)) ∈ lw_tbl := lw_at lw_m3 235 rfl
theorem w778 : (Jvm.Cond.methodLink "java/lang/String" (498 : Nat) ({ cls := "java/lang/StringUTF16", name := "charAt", desc := "([BI)C" } : Jvm.MethodName)) ∈ lw_tbl := lw_at lw_m3 236 rfl
theorem w779 : (Jvm.Cond.static ({ cls := "java/lang/StringUTF16", name := "charAt", desc := "([BI)C" } : Jvm.MethodName)) ∈ lw_tbl := lw_at lw_m3 237 rfl
theorem w780 : (Jvm.Cond.code ({ cls := "java/lang/StringUTF16", name := "charAt", desc := "([BI)C" } : Jvm.MethodName) prog_43_method_83_code (2 : Nat) (Option.some Jvm.ClassFile.FieldType.char)) ∈ lw_tbl := lw_at lw_m3 238 rfl
theorem w781 : (Jvm.Cond.stringRef "TripleStore$Reader" (85 : Nat) "") ∈ lw_tbl := lw_at lw_m3 239 rfl
theorem w782 : (Jvm.Cond.methodLink "TripleStore$Reader" (93 : Nat) ({ cls := "TripleStore$Reader", name := "kindOf", desc := "(C)I" } : Jvm.MethodName)) ∈ lw_tbl := lw_at lw_m4 0 rfl
theorem w783 : (Jvm.Cond.static ({ cls := "TripleStore$Reader", name := "kindOf", desc := "(C)I" } : Jvm.MethodName)) ∈ lw_tbl := lw_at lw_m4 1 rfl
theorem w784 : (Jvm.Cond.code ({ cls := "TripleStore$Reader", name := "kindOf", desc := "(C)I" } : Jvm.MethodName) prog_16_method_6_code (1 : Nat) (Option.some Jvm.ClassFile.FieldType.int)) ∈ lw_tbl := lw_at lw_m4 2 rfl
theorem w785 : (Jvm.Cond.methodLink "TripleStore$Reader" (75 : Nat) ({ cls := "TripleStore$Reader", name := "letter", desc := "(C)Z" } : Jvm.MethodName)) ∈ lw_tbl := lw_at lw_m4 3 rfl
theorem w786 : (Jvm.Cond.static ({ cls := "TripleStore$Reader", name := "letter", desc := "(C)Z" } : Jvm.MethodName)) ∈ lw_tbl := lw_at lw_m4 4 rfl
theorem w787 : (Jvm.Cond.code ({ cls := "TripleStore$Reader", name := "letter", desc := "(C)Z" } : Jvm.MethodName) prog_16_method_3_code (1 : Nat) (Option.some Jvm.ClassFile.FieldType.boolean)) ∈ lw_tbl := lw_at lw_m4 5 rfl
theorem w788 : (Jvm.Cond.methodLink "TripleStore$Reader" (97 : Nat) ({ cls := "TripleStore$Reader", name := "letters", desc := "()V" } : Jvm.MethodName)) ∈ lw_tbl := lw_at lw_m4 6 rfl
theorem w789 : (Jvm.Cond.privateMethod ({ cls := "TripleStore$Reader", name := "letters", desc := "()V" } : Jvm.MethodName)) ∈ lw_tbl := lw_at lw_m4 7 rfl
theorem w790 : (Jvm.Cond.instanceMethod ({ cls := "TripleStore$Reader", name := "letters", desc := "()V" } : Jvm.MethodName)) ∈ lw_tbl := lw_at lw_m4 8 rfl
theorem w791 : (Jvm.Cond.code ({ cls := "TripleStore$Reader", name := "letters", desc := "()V" } : Jvm.MethodName) prog_16_method_7_code (1 : Nat) (Option.none : Option Jvm.ClassFile.FieldType)) ∈ lw_tbl := lw_at lw_m4 9 rfl
theorem w792 : (Jvm.Cond.methodLink "TripleStore$Reader" (100 : Nat) ({ cls := "java/lang/String", name := "substring", desc := "(II)Ljava/lang/String;" } : Jvm.MethodName)) ∈ lw_tbl := lw_at lw_m4 10 rfl
theorem w793 : (Jvm.Cond.instanceMethod ({ cls := "java/lang/String", name := "substring", desc := "(II)Ljava/lang/String;" } : Jvm.MethodName)) ∈ lw_tbl := lw_at lw_m4 11 rfl
theorem w794 : (Jvm.Cond.selects "java/lang/String" ({ cls := "java/lang/String", name := "substring", desc := "(II)Ljava/lang/String;" } : Jvm.MethodName) ({ cls := "java/lang/String", name := "substring", desc := "(II)Ljava/lang/String;" } : Jvm.MethodName)) ∈ lw_tbl := lw_at lw_m4 12 rfl
theorem w795 : (Jvm.Cond.code ({ cls := "java/lang/String", name := "substring", desc := "(II)Ljava/lang/String;" } : Jvm.MethodName) prog_40_method_92_code (5 : Nat) (Option.some (Jvm.ClassFile.FieldType.object "java/lang/String"))) ∈ lw_tbl := lw_at lw_m4 13 rfl
theorem w796 : (Jvm.Cond.methodLink "java/lang/String" (505 : Nat) ({ cls := "java/lang/String", name := "length", desc := "()I" } : Jvm.MethodName)) ∈ lw_tbl := lw_at lw_m4 14 rfl
theorem w797 : (Jvm.Cond.methodLink "java/lang/String" (521 : Nat) ({ cls := "java/lang/String", name := "checkBoundsBeginEnd", desc := "(III)V" } : Jvm.MethodName)) ∈ lw_tbl := lw_at lw_m4 15 rfl
theorem w798 : (Jvm.Cond.methodLink "java/lang/String" (685 : Nat) ({ cls := "java/lang/StringLatin1", name := "newString", desc := "([BII)Ljava/lang/String;" } : Jvm.MethodName)) ∈ lw_tbl := lw_at lw_m4 16 rfl
theorem w799 : (Jvm.Cond.static ({ cls := "java/lang/StringLatin1", name := "newString", desc := "([BII)Ljava/lang/String;" } : Jvm.MethodName)) ∈ lw_tbl := lw_at lw_m4 17 rfl
theorem w800 : (Jvm.Cond.code ({ cls := "java/lang/StringLatin1", name := "newString", desc := "([BII)Ljava/lang/String;" } : Jvm.MethodName) prog_42_method_47_code (3 : Nat) (Option.some (Jvm.ClassFile.FieldType.object "java/lang/String"))) ∈ lw_tbl := lw_at lw_m4 18 rfl
theorem w801 : (Jvm.Cond.stringRef "java/lang/StringLatin1" (151 : Nat) "") ∈ lw_tbl := lw_at lw_m4 19 rfl
theorem w802 : (Jvm.Cond.classLink "java/lang/StringLatin1" (1 : Nat) "java/lang/String") ∈ lw_tbl := lw_at lw_m4 20 rfl
theorem w803 : (Jvm.Cond.methodLink "java/lang/StringLatin1" (232 : Nat) ({ cls := "java/util/Arrays", name := "copyOfRange", desc := "([BII)[B" } : Jvm.MethodName)) ∈ lw_tbl := lw_at lw_m4 21 rfl
theorem w804 : (Jvm.Cond.methodLink "java/lang/StringLatin1" (112 : Nat) ({ cls := "java/lang/String", name := "<init>", desc := "([BB)V" } : Jvm.MethodName)) ∈ lw_tbl := lw_at lw_m4 22 rfl
theorem w805 : (Jvm.Cond.instanceMethod ({ cls := "java/lang/String", name := "<init>", desc := "([BB)V" } : Jvm.MethodName)) ∈ lw_tbl := lw_at lw_m4 23 rfl
theorem w806 : (Jvm.Cond.code ({ cls := "java/lang/String", name := "<init>", desc := "([BB)V" } : Jvm.MethodName) prog_40_method_151_code (3 : Nat) (Option.none : Option Jvm.ClassFile.FieldType)) ∈ lw_tbl := lw_at lw_m4 24 rfl
theorem w807 : (Jvm.Cond.methodLink "java/lang/String" (689 : Nat) ({ cls := "java/lang/StringUTF16", name := "newString", desc := "([BII)Ljava/lang/String;" } : Jvm.MethodName)) ∈ lw_tbl := lw_at lw_m4 25 rfl
theorem w808 : (Jvm.Cond.static ({ cls := "java/lang/StringUTF16", name := "newString", desc := "([BII)Ljava/lang/String;" } : Jvm.MethodName)) ∈ lw_tbl := lw_at lw_m4 26 rfl
theorem w809 : (Jvm.Cond.code ({ cls := "java/lang/StringUTF16", name := "newString", desc := "([BII)Ljava/lang/String;" } : Jvm.MethodName) prog_43_method_69_code (5 : Nat) (Option.some (Jvm.ClassFile.FieldType.object "java/lang/String"))) ∈ lw_tbl := lw_at lw_m4 27 rfl
theorem w810 : (Jvm.Cond.stringRef "java/lang/StringUTF16" (295 : Nat) "") ∈ lw_tbl := lw_at lw_m4 28 rfl
theorem w811 : (Jvm.Cond.fieldLink "java/lang/StringUTF16" (251 : Nat) "java/lang/String" "COMPACT_STRINGS" "Z") ∈ lw_tbl := lw_at lw_m4 29 rfl
theorem w812 : (Jvm.Cond.methodLink "java/lang/StringUTF16" (257 : Nat) ({ cls := "java/lang/StringUTF16", name := "compress", desc := "([BII)[B" } : Jvm.MethodName)) ∈ lw_tbl := lw_at lw_m4 30 rfl
theorem w813 : (Jvm.Cond.methodLink "java/lang/StringUTF16" (259 : Nat) ({ cls := "java/lang/StringUTF16", name := "coderFromArrayLen", desc := "([BI)B" } : Jvm.MethodName)) ∈ lw_tbl := lw_at lw_m4 31 rfl
theorem w814 : (Jvm.Cond.classLink "java/lang/StringUTF16" (3 : Nat) "java/lang/String") ∈ lw_tbl := lw_at lw_m4 32 rfl
theorem w815 : (Jvm.Cond.methodLink "java/lang/StringUTF16" (263 : Nat) ({ cls := "java/lang/String", name := "<init>", desc := "([BB)V" } : Jvm.MethodName)) ∈ lw_tbl := lw_at lw_m4 33 rfl
theorem w816 : (Jvm.Cond.methodLink "TripleStore$Reader" (104 : Nat) ({ cls := "TripleStore$Reader", name := "key", desc := "(Ljava/lang/String;)Z" } : Jvm.MethodName)) ∈ lw_tbl := lw_at lw_m4 34 rfl
theorem w817 : (Jvm.Cond.static ({ cls := "TripleStore$Reader", name := "key", desc := "(Ljava/lang/String;)Z" } : Jvm.MethodName)) ∈ lw_tbl := lw_at lw_m4 35 rfl
theorem w818 : (Jvm.Cond.code ({ cls := "TripleStore$Reader", name := "key", desc := "(Ljava/lang/String;)Z" } : Jvm.MethodName) prog_16_method_5_code (3 : Nat) (Option.some Jvm.ClassFile.FieldType.boolean)) ∈ lw_tbl := lw_at lw_m4 36 rfl
theorem w819 : (Jvm.Cond.methodLink "TripleStore$Reader" (35 : Nat) ({ cls := "java/lang/String", name := "hashCode", desc := "()I" } : Jvm.MethodName)) ∈ lw_tbl := lw_at lw_m4 37 rfl
theorem w820 : (Jvm.Cond.instanceMethod ({ cls := "java/lang/String", name := "hashCode", desc := "()I" } : Jvm.MethodName)) ∈ lw_tbl := lw_at lw_m4 38 rfl
theorem w821 : (Jvm.Cond.selects "java/lang/String" ({ cls := "java/lang/String", name := "hashCode", desc := "()I" } : Jvm.MethodName) ({ cls := "java/lang/String", name := "hashCode", desc := "()I" } : Jvm.MethodName)) ∈ lw_tbl := lw_at lw_m4 39 rfl
theorem w822 : (Jvm.Cond.code ({ cls := "java/lang/String", name := "hashCode", desc := "()I" } : Jvm.MethodName) prog_40_method_78_code (2 : Nat) (Option.some Jvm.ClassFile.FieldType.int)) ∈ lw_tbl := lw_at lw_m4 40 rfl
theorem w823 : (Jvm.Cond.methodLink "java/lang/String" (628 : Nat) ({ cls := "java/lang/StringLatin1", name := "hashCode", desc := "([B)I" } : Jvm.MethodName)) ∈ lw_tbl := lw_at lw_m4 41 rfl
theorem w824 : (Jvm.Cond.static ({ cls := "java/lang/StringLatin1", name := "hashCode", desc := "([B)I" } : Jvm.MethodName)) ∈ lw_tbl := lw_at lw_m4 42 rfl
theorem w825 : (Jvm.Cond.code ({ cls := "java/lang/StringLatin1", name := "hashCode", desc := "([B)I" } : Jvm.MethodName) prog_42_method_21_code (1 : Nat) (Option.some Jvm.ClassFile.FieldType.int)) ∈ lw_tbl := lw_at lw_m4 43 rfl
theorem w826 : (Jvm.Cond.methodLink "java/lang/StringLatin1" (84 : Nat) ({ cls := "jdk/internal/util/ArraysSupport", name := "vectorizedHashCode", desc := "(Ljava/lang/Object;IIII)I" } : Jvm.MethodName)) ∈ lw_tbl := lw_at lw_m4 44 rfl
theorem w827 : (Jvm.Cond.static ({ cls := "jdk/internal/util/ArraysSupport", name := "vectorizedHashCode", desc := "(Ljava/lang/Object;IIII)I" } : Jvm.MethodName)) ∈ lw_tbl := lw_at lw_m4 45 rfl
theorem w828 : (Jvm.Cond.code ({ cls := "jdk/internal/util/ArraysSupport", name := "vectorizedHashCode", desc := "(Ljava/lang/Object;IIII)I" } : Jvm.MethodName) prog_53_method_4_code (5 : Nat) (Option.some Jvm.ClassFile.FieldType.int)) ∈ lw_tbl := lw_at lw_m4 46 rfl
theorem w829 : (Jvm.Cond.classLink "jdk/internal/util/ArraysSupport" (60 : Nat) "[B") ∈ lw_tbl := lw_at lw_m4 47 rfl
theorem w830 : (Jvm.Cond.methodLink "jdk/internal/util/ArraysSupport" (62 : Nat) ({ cls := "jdk/internal/util/ArraysSupport", name := "signedHashCode", desc := "(I[BII)I" } : Jvm.MethodName)) ∈ lw_tbl := lw_at lw_m4 48 rfl
theorem w831 : (Jvm.Cond.static ({ cls := "jdk/internal/util/ArraysSupport", name := "signedHashCode", desc := "(I[BII)I" } : Jvm.MethodName)) ∈ lw_tbl := lw_at lw_m4 49 rfl
theorem w832 : (Jvm.Cond.code ({ cls := "jdk/internal/util/ArraysSupport", name := "signedHashCode", desc := "(I[BII)I" } : Jvm.MethodName) prog_53_method_5_code (6 : Nat) (Option.some Jvm.ClassFile.FieldType.int)) ∈ lw_tbl := lw_at lw_m4 50 rfl
theorem w833 : (Jvm.Cond.methodLink "jdk/internal/util/ArraysSupport" (66 : Nat) ({ cls := "jdk/internal/util/ArraysSupport", name := "utf16hashCode", desc := "(I[BII)I" } : Jvm.MethodName)) ∈ lw_tbl := lw_at lw_m4 51 rfl
theorem w834 : (Jvm.Cond.static ({ cls := "jdk/internal/util/ArraysSupport", name := "utf16hashCode", desc := "(I[BII)I" } : Jvm.MethodName)) ∈ lw_tbl := lw_at lw_m4 52 rfl
theorem w835 : (Jvm.Cond.code ({ cls := "jdk/internal/util/ArraysSupport", name := "utf16hashCode", desc := "(I[BII)I" } : Jvm.MethodName) prog_53_method_10_code (6 : Nat) (Option.some Jvm.ClassFile.FieldType.int)) ∈ lw_tbl := lw_at lw_m4 53 rfl
theorem w836 : (Jvm.Cond.fieldLink "jdk/internal/util/ArraysSupport" (106 : Nat) "jdk/internal/util/ArraysSupport" "JLA" "Ljdk/internal/access/JavaLangAccess;") ∈ lw_tbl := lw_at lw_m4 54 rfl
theorem w837 : (Jvm.Cond.laysStatic "jdk/internal/util/ArraysSupport" "JLA" "Ljdk/internal/access/JavaLangAccess;") ∈ lw_tbl := lw_at lw_m4 55 rfl
theorem w838 : (Jvm.Cond.interfaceEntry "jdk/internal/util/ArraysSupport" (110 : Nat)) ∈ lw_tbl := lw_at lw_m4 56 rfl
theorem w839 : (Jvm.Cond.methodLink "jdk/internal/util/ArraysSupport" (110 : Nat) ({ cls := "jdk/internal/access/JavaLangAccess", name := "getUTF16Char", desc := "([BI)C" } : Jvm.MethodName)) ∈ lw_tbl := lw_at lw_m4 57 rfl
theorem w840 : (Jvm.Cond.interfaceMethod "jdk/internal/access/JavaLangAccess" "jdk/internal/access/JavaLangAccess" "getUTF16Char" "([BI)C") ∈ lw_tbl := lw_at lw_m4 58 rfl
theorem w841 : (Jvm.Cond.declares ({ cls := "jdk/internal/access/JavaLangAccess", name := "getUTF16Char", desc := "([BI)C" } : Jvm.MethodName)) ∈ lw_tbl := lw_at lw_m4 59 rfl
theorem w842 : (Jvm.Cond.castable "java/lang/System$2" "jdk/internal/access/JavaLangAccess") ∈ lw_tbl := lw_at lw_m4 60 rfl
theorem w843 : (Jvm.Cond.selects "java/lang/System$2" ({ cls := "jdk/internal/access/JavaLangAccess", name := "getUTF16Char", desc := "([BI)C" } : Jvm.MethodName) ({ cls := "java/lang/System$2", name := "getUTF16Char", desc := "([BI)C" } : Jvm.MethodName)) ∈ lw_tbl := lw_at lw_m4 61 rfl
theorem w844 : (Jvm.Cond.unhidden "java/lang/System$2" "getUTF16Char" "([BI)C") ∈ lw_tbl := lw_at lw_m4 62 rfl
theorem w845 : (Jvm.Cond.instanceMethod ({ cls := "java/lang/System$2", name := "getUTF16Char", desc := "([BI)C" } : Jvm.MethodName)) ∈ lw_tbl := lw_at lw_m4 63 rfl
theorem w846 : (Jvm.Cond.publicMethod ({ cls := "java/lang/System$2", name := "getUTF16Char", desc := "([BI)C" } : Jvm.MethodName)) ∈ lw_tbl := lw_at lw_m4 64 rfl
theorem w847 : (Jvm.Cond.code ({ cls := "java/lang/System$2", name := "getUTF16Char", desc := "([BI)C" } : Jvm.MethodName) prog_45_method_45_code (3 : Nat) (Option.some Jvm.ClassFile.FieldType.char)) ∈ lw_tbl := lw_at lw_m4 65 rfl
theorem w848 : (Jvm.Cond.methodLink "java/lang/System$2" (185 : Nat) ({ cls := "java/lang/StringUTF16", name := "getChar", desc := "([BI)C" } : Jvm.MethodName)) ∈ lw_tbl := lw_at lw_m4 66 rfl
theorem w849 : (Jvm.Cond.classLink "jdk/internal/util/ArraysSupport" (69 : Nat) "[C") ∈ lw_tbl := lw_at lw_m4 67 rfl
theorem w850 : (Jvm.Cond.methodLink "jdk/internal/util/ArraysSupport" (71 : Nat) ({ cls := "jdk/internal/util/ArraysSupport", name := "hashCode", desc := "(I[CII)I" } : Jvm.MethodName)) ∈ lw_tbl := lw_at lw_m4 68 rfl
theorem w851 : (Jvm.Cond.static ({ cls := "jdk/internal/util/ArraysSupport", name := "hashCode", desc := "(I[CII)I" } : Jvm.MethodName)) ∈ lw_tbl := lw_at lw_m4 69 rfl
theorem w852 : (Jvm.Cond.code ({ cls := "jdk/internal/util/ArraysSupport", name := "hashCode", desc := "(I[CII)I" } : Jvm.MethodName) prog_53_method_7_code (6 : Nat) (Option.some Jvm.ClassFile.FieldType.int)) ∈ lw_tbl := lw_at lw_m4 70 rfl
theorem w853 : (Jvm.Cond.methodLink "jdk/internal/util/ArraysSupport" (75 : Nat) ({ cls := "jdk/internal/util/ArraysSupport", name := "hashCode", desc := "(I[BII)I" } : Jvm.MethodName)) ∈ lw_tbl := lw_at lw_m4 71 rfl
theorem w854 : (Jvm.Cond.static ({ cls := "jdk/internal/util/ArraysSupport", name := "hashCode", desc := "(I[BII)I" } : Jvm.MethodName)) ∈ lw_tbl := lw_at lw_m4 72 rfl
theorem w855 : (Jvm.Cond.code ({ cls := "jdk/internal/util/ArraysSupport", name := "hashCode", desc := "(I[BII)I" } : Jvm.MethodName) prog_53_method_6_code (6 : Nat) (Option.some Jvm.ClassFile.FieldType.int)) ∈ lw_tbl := lw_at lw_m4 73 rfl
theorem w856 : (Jvm.Cond.classLink "jdk/internal/util/ArraysSupport" (77 : Nat) "[S") ∈ lw_tbl := lw_at lw_m4 74 rfl
theorem w857 : (Jvm.Cond.methodLink "jdk/internal/util/ArraysSupport" (79 : Nat) ({ cls := "jdk/internal/util/ArraysSupport", name := "hashCode", desc := "(I[SII)I" } : Jvm.MethodName)) ∈ lw_tbl := lw_at lw_m4 75 rfl
theorem w858 : (Jvm.Cond.static ({ cls := "jdk/internal/util/ArraysSupport", name := "hashCode", desc := "(I[SII)I" } : Jvm.MethodName)) ∈ lw_tbl := lw_at lw_m4 76 rfl
theorem w859 : (Jvm.Cond.code ({ cls := "jdk/internal/util/ArraysSupport", name := "hashCode", desc := "(I[SII)I" } : Jvm.MethodName) prog_53_method_8_code (6 : Nat) (Option.some Jvm.ClassFile.FieldType.int)) ∈ lw_tbl := lw_at lw_m4 77 rfl
theorem w860 : (Jvm.Cond.classLink "jdk/internal/util/ArraysSupport" (82 : Nat) "[I") ∈ lw_tbl := lw_at lw_m4 78 rfl
theorem w861 : (Jvm.Cond.methodLink "jdk/internal/util/ArraysSupport" (84 : Nat) ({ cls := "jdk/internal/util/ArraysSupport", name := "hashCode", desc := "(I[III)I" } : Jvm.MethodName)) ∈ lw_tbl := lw_at lw_m4 79 rfl
theorem w862 : (Jvm.Cond.static ({ cls := "jdk/internal/util/ArraysSupport", name := "hashCode", desc := "(I[III)I" } : Jvm.MethodName)) ∈ lw_tbl := lw_at lw_m4 80 rfl
theorem w863 : (Jvm.Cond.code ({ cls := "jdk/internal/util/ArraysSupport", name := "hashCode", desc := "(I[III)I" } : Jvm.MethodName) prog_53_method_9_code (6 : Nat) (Option.some Jvm.ClassFile.FieldType.int)) ∈ lw_tbl := lw_at lw_m4 81 rfl
theorem w864 : (Jvm.Cond.classLink "jdk/internal/util/ArraysSupport" (87 : Nat) "java/lang/IllegalArgumentException") ∈ lw_tbl := lw_at lw_m4 82 rfl
theorem w865 : (Jvm.Cond.classLink "jdk/internal/util/ArraysSupport" (89 : Nat) "java/lang/StringBuilder") ∈ lw_tbl := lw_at lw_m4 83 rfl
theorem w866 : (Jvm.Cond.methodLink "jdk/internal/util/ArraysSupport" (91 : Nat) ({ cls := "java/lang/StringBuilder", name := "<init>", desc := "()V" } : Jvm.MethodName)) ∈ lw_tbl := lw_at lw_m4 84 rfl
theorem w867 : (Jvm.Cond.stringRef "jdk/internal/util/ArraysSupport" (92 : Nat) "unrecognized basic type: ") ∈ lw_tbl := lw_at lw_m4 85 rfl
theorem w868 : (Jvm.Cond.methodLink "jdk/internal/util/ArraysSupport" (94 : Nat) ({ cls := "java/lang/StringBuilder", name := "append", desc := "(Ljava/lang/String;)Ljava/lang/StringBuilder;" } : Jvm.MethodName)) ∈ lw_tbl := lw_at lw_m4 86 rfl
theorem w869 : (Jvm.Cond.methodLink "jdk/internal/util/ArraysSupport" (98 : Nat) ({ cls := "java/lang/StringBuilder", name := "append", desc := "(I)Ljava/lang/StringBuilder;" } : Jvm.MethodName)) ∈ lw_tbl := lw_at lw_m4 87 rfl
theorem w870 : (Jvm.Cond.methodLink "jdk/internal/util/ArraysSupport" (101 : Nat) ({ cls := "java/lang/StringBuilder", name := "toString", desc := "()Ljava/lang/String;" } : Jvm.MethodName)) ∈ lw_tbl := lw_at lw_m4 88 rfl
theorem w871 : (Jvm.Cond.methodLink "jdk/internal/util/ArraysSupport" (105 : Nat) ({ cls := "java/lang/IllegalArgumentException", name := "<init>", desc := "(Ljava/lang/String;)V" } : Jvm.MethodName)) ∈ lw_tbl := lw_at lw_m4 89 rfl
theorem w872 : (Jvm.Cond.methodLink "java/lang/String" (632 : Nat) ({ cls := "java/lang/StringUTF16", name := "hashCode", desc := "([B)I" } : Jvm.MethodName)) ∈ lw_tbl := lw_at lw_m4 90 rfl
theorem w873 : (Jvm.Cond.static ({ cls := "java/lang/StringUTF16", name := "hashCode", desc := "([B)I" } : Jvm.MethodName)) ∈ lw_tbl := lw_at lw_m4 91 rfl
theorem w874 : (Jvm.Cond.code ({ cls := "java/lang/StringUTF16", name := "hashCode", desc := "([B)I" } : Jvm.MethodName) prog_43_method_39_code (1 : Nat) (Option.some Jvm.ClassFile.FieldType.int)) ∈ lw_tbl := lw_at lw_m4 92 rfl
theorem w875 : (Jvm.Cond.methodLink "java/lang/StringUTF16" (220 : Nat) ({ cls := "jdk/internal/util/ArraysSupport", name := "vectorizedHashCode", desc := "(Ljava/lang/Object;IIII)I" } : Jvm.MethodName)) ∈ lw_tbl := lw_at lw_m4 93 rfl
theorem w876 : (Jvm.Cond.stringRef "TripleStore$Reader" (39 : Nat) "select") ∈ lw_tbl := lw_at lw_m4 94 rfl
theorem w877 : (Jvm.Cond.methodLink "TripleStore$Reader" (41 : Nat) ({ cls := "java/lang/String", name := "equals", desc := "(Ljava/lang/Object;)Z" } : Jvm.MethodName)) ∈ lw_tbl := lw_at lw_m4 95 rfl
theorem w878 : (Jvm.Cond.stringRef "TripleStore$Reader" (45 : Nat) "distinct") ∈ lw_tbl := lw_at lw_m4 96 rfl
theorem w879 : (Jvm.Cond.stringRef "TripleStore$Reader" (47 : Nat) "order") ∈ lw_tbl := lw_at lw_m4 97 rfl
theorem w880 : (Jvm.Cond.stringRef "TripleStore$Reader" (49 : Nat) "desc") ∈ lw_tbl := lw_at lw_m4 98 rfl
theorem w881 : (Jvm.Cond.stringRef "TripleStore$Reader" (51 : Nat) "limit") ∈ lw_tbl := lw_at lw_m4 99 rfl
theorem w882 : (Jvm.Cond.stringRef "TripleStore$Reader" (53 : Nat) "filter") ∈ lw_tbl := lw_at lw_m4 100 rfl
theorem w883 : (Jvm.Cond.stringRef "TripleStore$Reader" (55 : Nat) "optional") ∈ lw_tbl := lw_at lw_m4 101 rfl
theorem w884 : (Jvm.Cond.stringRef "TripleStore$Reader" (57 : Nat) "minus") ∈ lw_tbl := lw_at lw_m4 102 rfl
theorem w885 : (Jvm.Cond.stringRef "TripleStore$Reader" (59 : Nat) "union") ∈ lw_tbl := lw_at lw_m4 103 rfl
theorem w886 : (Jvm.Cond.stringRef "TripleStore$Reader" (61 : Nat) "not") ∈ lw_tbl := lw_at lw_m4 104 rfl
theorem w887 : (Jvm.Cond.stringRef "TripleStore$Reader" (63 : Nat) "bound") ∈ lw_tbl := lw_at lw_m4 105 rfl
theorem w888 : (Jvm.Cond.methodLink "TripleStore$Reader" (108 : Nat) ({ cls := "TripleStore$Reader", name := "digit", desc := "(C)Z" } : Jvm.MethodName)) ∈ lw_tbl := lw_at lw_m4 106 rfl
theorem w889 : (Jvm.Cond.static ({ cls := "TripleStore$Reader", name := "digit", desc := "(C)Z" } : Jvm.MethodName)) ∈ lw_tbl := lw_at lw_m4 107 rfl
theorem w890 : (Jvm.Cond.code ({ cls := "TripleStore$Reader", name := "digit", desc := "(C)Z" } : Jvm.MethodName) prog_16_method_4_code (1 : Nat) (Option.some Jvm.ClassFile.FieldType.boolean)) ∈ lw_tbl := lw_at lw_m4 108 rfl
theorem w891 : (Jvm.Cond.fieldLink "TripleStore$Reader" (17 : Nat) "TripleStore$Reader" "home" "LTripleStore;") ∈ lw_tbl := lw_at lw_m4 109 rfl
theorem w892 : (Jvm.Cond.fieldLink "TripleStore$Reader" (21 : Nat) "TripleStore$Reader" "text" "Ljava/lang/String;") ∈ lw_tbl := lw_at lw_m4 110 rfl
theorem w893 : (Jvm.Cond.fieldLink "TripleStore$Reader" (11 : Nat) "TripleStore$Reader" "names" "[Ljava/lang/String;") ∈ lw_tbl := lw_at lw_m4 111 rfl
theorem w894 : (Jvm.Cond.fieldLink "TripleStore$Reader" (118 : Nat) "TripleStore$Reader" "nameCount" "I") ∈ lw_tbl := lw_at lw_m4 112 rfl
theorem w895 : (Jvm.Cond.fieldLink "TripleStore$Reader" (90 : Nat) "TripleStore$Reader" "kind" "I") ∈ lw_tbl := lw_at lw_m4 113 rfl
theorem w896 : (Jvm.Cond.fieldLink "TripleStore$Reader" (87 : Nat) "TripleStore$Reader" "word" "Ljava/lang/String;") ∈ lw_tbl := lw_at lw_m4 114 rfl
theorem w897 : (Jvm.Cond.fieldLink "TripleStore$Reader" (82 : Nat) "TripleStore$Reader" "place" "I") ∈ lw_tbl := lw_at lw_m4 115 rfl
theorem w898 : (Jvm.Cond.fieldLink "TripleStore$Reader" (65 : Nat) "TripleStore$Reader" "at" "I") ∈ lw_tbl := lw_at lw_m4 116 rfl
theorem w899 : (Jvm.Cond.fieldLink "TripleStore$Reader" (79 : Nat) "TripleStore$Reader" "end" "I") ∈ lw_tbl := lw_at lw_m4 117 rfl
theorem w900 : (Jvm.Cond.fieldLink "TripleStore$Reader" (189 : Nat) "TripleStore$Reader" "elements" "I") ∈ lw_tbl := lw_at lw_m4 118 rfl
theorem w901 : (Jvm.Cond.fieldLink "TripleStore$Reader" (172 : Nat) "TripleStore$Reader" "deep" "I") ∈ lw_tbl := lw_at lw_m4 119 rfl
theorem w902 : (Jvm.Cond.laysFinal "TripleStore$Reader" "TripleStore$Reader" "home" "LTripleStore;") ∈ lw_tbl := lw_at lw_m4 120 rfl
theorem w903 : (Jvm.Cond.soleField "TripleStore$Reader" "home") ∈ lw_tbl := lw_at lw_m4 121 rfl
theorem w904 : (Jvm.Cond.laysFinal "TripleStore$Reader" "TripleStore$Reader" "text" "Ljava/lang/String;") ∈ lw_tbl := lw_at lw_m4 122 rfl
theorem w905 : (Jvm.Cond.soleField "TripleStore$Reader" "text") ∈ lw_tbl := lw_at lw_m4 123 rfl
theorem w906 : (Jvm.Cond.laysFinal "TripleStore$Reader" "TripleStore$Reader" "names" "[Ljava/lang/String;") ∈ lw_tbl := lw_at lw_m4 124 rfl
theorem w907 : (Jvm.Cond.soleField "TripleStore$Reader" "names") ∈ lw_tbl := lw_at lw_m4 125 rfl
theorem w908 : (Jvm.Cond.lays "TripleStore$Reader" "TripleStore$Reader" "nameCount" "I") ∈ lw_tbl := lw_at lw_m4 126 rfl
theorem w909 : (Jvm.Cond.soleField "TripleStore$Reader" "nameCount") ∈ lw_tbl := lw_at lw_m4 127 rfl
theorem w910 : (Jvm.Cond.lays "TripleStore$Reader" "TripleStore$Reader" "kind" "I") ∈ lw_tbl := lw_at lw_m4 128 rfl
theorem w911 : (Jvm.Cond.soleField "TripleStore$Reader" "kind") ∈ lw_tbl := lw_at lw_m4 129 rfl
theorem w912 : (Jvm.Cond.lays "TripleStore$Reader" "TripleStore$Reader" "word" "Ljava/lang/String;") ∈ lw_tbl := lw_at lw_m4 130 rfl
theorem w913 : (Jvm.Cond.soleField "TripleStore$Reader" "word") ∈ lw_tbl := lw_at lw_m4 131 rfl
theorem w914 : (Jvm.Cond.lays "TripleStore$Reader" "TripleStore$Reader" "place" "I") ∈ lw_tbl := lw_at lw_m4 132 rfl
theorem w915 : (Jvm.Cond.soleField "TripleStore$Reader" "place") ∈ lw_tbl := lw_at lw_m4 133 rfl
theorem w916 : (Jvm.Cond.lays "TripleStore$Reader" "TripleStore$Reader" "at" "I") ∈ lw_tbl := lw_at lw_m4 134 rfl
theorem w917 : (Jvm.Cond.soleField "TripleStore$Reader" "at") ∈ lw_tbl := lw_at lw_m4 135 rfl
theorem w918 : (Jvm.Cond.lays "TripleStore$Reader" "TripleStore$Reader" "end" "I") ∈ lw_tbl := lw_at lw_m4 136 rfl
theorem w919 : (Jvm.Cond.soleField "TripleStore$Reader" "end") ∈ lw_tbl := lw_at lw_m4 137 rfl
theorem w920 : (Jvm.Cond.lays "TripleStore$Reader" "TripleStore$Reader" "elements" "I") ∈ lw_tbl := lw_at lw_m4 138 rfl
theorem w921 : (Jvm.Cond.soleField "TripleStore$Reader" "elements") ∈ lw_tbl := lw_at lw_m4 139 rfl
theorem w922 : (Jvm.Cond.lays "TripleStore$Reader" "TripleStore$Reader" "deep" "I") ∈ lw_tbl := lw_at lw_m4 140 rfl
theorem w923 : (Jvm.Cond.soleField "TripleStore$Reader" "deep") ∈ lw_tbl := lw_at lw_m4 141 rfl
theorem w924 : (Jvm.Cond.superclass "TripleStore$Reader" "java/lang/Object") ∈ lw_tbl := lw_at lw_m4 142 rfl
theorem w925 : (Jvm.Cond.methodLink "TripleStore" (196 : Nat) ({ cls := "TripleStore$Reader", name := "read", desc := "()LTripleStore$Query;" } : Jvm.MethodName)) ∈ lw_tbl := lw_at lw_m4 143 rfl
theorem w926 : (Jvm.Cond.instanceMethod ({ cls := "TripleStore$Reader", name := "read", desc := "()LTripleStore$Query;" } : Jvm.MethodName)) ∈ lw_tbl := lw_at lw_m4 144 rfl
theorem w927 : (Jvm.Cond.selects "TripleStore$Reader" ({ cls := "TripleStore$Reader", name := "read", desc := "()LTripleStore$Query;" } : Jvm.MethodName) ({ cls := "TripleStore$Reader", name := "read", desc := "()LTripleStore$Query;" } : Jvm.MethodName)) ∈ lw_tbl := lw_at lw_m4 145 rfl
theorem w928 : (Jvm.Cond.code ({ cls := "TripleStore$Reader", name := "read", desc := "()LTripleStore$Query;" } : Jvm.MethodName) prog_16_method_15_code (5 : Nat) (Option.some (Jvm.ClassFile.FieldType.object "TripleStore$Query"))) ∈ lw_tbl := lw_at lw_m4 146 rfl
theorem w929 : (Jvm.Cond.classLink "TripleStore$Reader" (142 : Nat) "TripleStore$Query") ∈ lw_tbl := lw_at lw_m4 147 rfl
theorem w930 : (Jvm.Cond.instantiable "TripleStore$Query" (7 : Nat)) ∈ lw_tbl := lw_at lw_m4 148 rfl
theorem w931 : (Jvm.Cond.methodLinkNest "TripleStore$Reader" (144 : Nat) ({ cls := "TripleStore$Query", name := "<init>", desc := "()V" } : Jvm.MethodName) "TripleStore") ∈ lw_tbl := lw_at lw_m4 149 rfl
theorem w932 : (Jvm.Cond.instanceMethod ({ cls := "TripleStore$Query", name := "<init>", desc := "()V" } : Jvm.MethodName)) ∈ lw_tbl := lw_at lw_m4 150 rfl
theorem w933 : (Jvm.Cond.code ({ cls := "TripleStore$Query", name := "<init>", desc := "()V" } : Jvm.MethodName) prog_15_method_1_code (1 : Nat) (Option.none : Option Jvm.ClassFile.FieldType)) ∈ lw_tbl := lw_at lw_m4 151 rfl
theorem w934 : (Jvm.Cond.methodLink "TripleStore$Query" (3 : Nat) ({ cls := "java/lang/Object", name := "<init>", desc := "()V" } : Jvm.MethodName)) ∈ lw_tbl := lw_at lw_m4 152 rfl
theorem w935 : (Jvm.Cond.fieldLinkNest "TripleStore$Reader" (148 : Nat) "TripleStore$Query" "distinct" "Z" "TripleStore") ∈ lw_tbl := lw_at lw_m4 153 rfl
theorem w936 : (Jvm.Cond.fieldLinkNest "TripleStore" (170 : Nat) "TripleStore$Query" "distinct" "Z" "TripleStore") ∈ lw_tbl := lw_at lw_m4 154 rfl
theorem w937 : (Jvm.Cond.fieldLink "TripleStore$Query" (9 : Nat) "TripleStore$Query" "columns" "[I") ∈ lw_tbl := lw_at lw_m4 155 rfl
theorem w938 : (Jvm.Cond.fieldLinkNest "TripleStore$Row" (32 : Nat) "TripleStore$Query" "columns" "[I" "TripleStore") ∈ lw_tbl := lw_at lw_m4 156 rfl
theorem w939 : (Jvm.Cond.fieldLinkNest "TripleStore$Reader" (154 : Nat) "TripleStore$Query" "columns" "[I" "TripleStore") ∈ lw_tbl := lw_at lw_m4 157 rfl
theorem w940 : (Jvm.Cond.fieldLinkNest "TripleStore$Row" (24 : Nat) "TripleStore$Query" "columnCount" "I" "TripleStore") ∈ lw_tbl := lw_at lw_m4 158 rfl
theorem w941 : (Jvm.Cond.fieldLinkNest "TripleStore$Reader" (151 : Nat) "TripleStore$Query" "columnCount" "I" "TripleStore") ∈ lw_tbl := lw_at lw_m4 159 rfl
theorem w942 : (Jvm.Cond.fieldLinkNest "TripleStore" (200 : Nat) "TripleStore$Query" "columnCount" "I" "TripleStore") ∈ lw_tbl := lw_at lw_m4 160 rfl
theorem w943 : (Jvm.Cond.fieldLinkNest "TripleStore$Reader" (162 : Nat) "TripleStore$Query" "group" "LTripleStore$Group;" "TripleStore") ∈ lw_tbl := lw_at lw_m4 161 rfl
theorem w944 : (Jvm.Cond.fieldLinkNest "TripleStore" (206 : Nat) "TripleStore$Query" "group" "LTripleStore$Group;" "TripleStore") ∈ lw_tbl := lw_at lw_m4 162 rfl
theorem w945 : (Jvm.Cond.fieldLinkNest "TripleStore$Row" (7 : Nat) "TripleStore$Query" "order" "I" "TripleStore") ∈ lw_tbl := lw_at lw_m4 163 rfl
theorem w946 : (Jvm.Cond.fieldLink "TripleStore$Query" (15 : Nat) "TripleStore$Query" "order" "I") ∈ lw_tbl := lw_at lw_m4 164 rfl
theorem w947 : (Jvm.Cond.fieldLinkNest "TripleStore$Reader" (165 : Nat) "TripleStore$Query" "order" "I" "TripleStore") ∈ lw_tbl := lw_at lw_m4 165 rfl
theorem w948 : (Jvm.Cond.fieldLinkNest "TripleStore$Reader" (167 : Nat) "TripleStore$Query" "falling" "Z" "TripleStore") ∈ lw_tbl := lw_at lw_m4 166 rfl
theorem w949 : (Jvm.Cond.fieldLinkNest "TripleStore" (182 : Nat) "TripleStore$Query" "falling" "Z" "TripleStore") ∈ lw_tbl := lw_at lw_m4 167 rfl
theorem w950 : (Jvm.Cond.fieldLink "TripleStore$Query" (19 : Nat) "TripleStore$Query" "limit" "I") ∈ lw_tbl := lw_at lw_m4 168 rfl
theorem w951 : (Jvm.Cond.fieldLinkNest "TripleStore$Reader" (170 : Nat) "TripleStore$Query" "limit" "I" "TripleStore") ∈ lw_tbl := lw_at lw_m4 169 rfl
theorem w952 : (Jvm.Cond.fieldLinkNest "TripleStore" (229 : Nat) "TripleStore$Query" "limit" "I" "TripleStore") ∈ lw_tbl := lw_at lw_m4 170 rfl
theorem w953 : (Jvm.Cond.lays "TripleStore$Query" "TripleStore$Query" "distinct" "Z") ∈ lw_tbl := lw_at lw_m4 171 rfl
theorem w954 : (Jvm.Cond.soleField "TripleStore$Query" "distinct") ∈ lw_tbl := lw_at lw_m4 172 rfl
theorem w955 : (Jvm.Cond.laysFinal "TripleStore$Query" "TripleStore$Query" "columns" "[I") ∈ lw_tbl := lw_at lw_m4 173 rfl
theorem w956 : (Jvm.Cond.soleField "TripleStore$Query" "columns") ∈ lw_tbl := lw_at lw_m4 174 rfl
theorem w957 : (Jvm.Cond.lays "TripleStore$Query" "TripleStore$Query" "columnCount" "I") ∈ lw_tbl := lw_at lw_m4 175 rfl
theorem w958 : (Jvm.Cond.soleField "TripleStore$Query" "columnCount") ∈ lw_tbl := lw_at lw_m4 176 rfl
theorem w959 : (Jvm.Cond.lays "TripleStore$Query" "TripleStore$Query" "group" "LTripleStore$Group;") ∈ lw_tbl := lw_at lw_m4 177 rfl
theorem w960 : (Jvm.Cond.soleField "TripleStore$Query" "group") ∈ lw_tbl := lw_at lw_m4 178 rfl
theorem w961 : (Jvm.Cond.lays "TripleStore$Query" "TripleStore$Query" "order" "I") ∈ lw_tbl := lw_at lw_m4 179 rfl
theorem w962 : (Jvm.Cond.soleField "TripleStore$Query" "order") ∈ lw_tbl := lw_at lw_m4 180 rfl
theorem w963 : (Jvm.Cond.lays "TripleStore$Query" "TripleStore$Query" "falling" "Z") ∈ lw_tbl := lw_at lw_m4 181 rfl
theorem w964 : (Jvm.Cond.soleField "TripleStore$Query" "falling") ∈ lw_tbl := lw_at lw_m4 182 rfl
theorem w965 : (Jvm.Cond.lays "TripleStore$Query" "TripleStore$Query" "limit" "I") ∈ lw_tbl := lw_at lw_m4 183 rfl
theorem w966 : (Jvm.Cond.soleField "TripleStore$Query" "limit") ∈ lw_tbl := lw_at lw_m4 184 rfl
theorem w967 : (Jvm.Cond.superclass "TripleStore$Query" "java/lang/Object") ∈ lw_tbl := lw_at lw_m4 185 rfl
theorem w968 : (Jvm.Cond.arrayClass Jvm.ClassFile.FieldType.int) ∈ lw_tbl := lw_at lw_m4 186 rfl
theorem w969 : (Jvm.Cond.methodLink "TripleStore$Reader" (111 : Nat) ({ cls := "TripleStore$Reader", name := "isKey", desc := "(Ljava/lang/String;)Z" } : Jvm.MethodName)) ∈ lw_tbl := lw_at lw_m4 187 rfl
theorem w970 : (Jvm.Cond.privateMethod ({ cls := "TripleStore$Reader", name := "isKey", desc := "(Ljava/lang/String;)Z" } : Jvm.MethodName)) ∈ lw_tbl := lw_at lw_m4 188 rfl
theorem w971 : (Jvm.Cond.instanceMethod ({ cls := "TripleStore$Reader", name := "isKey", desc := "(Ljava/lang/String;)Z" } : Jvm.MethodName)) ∈ lw_tbl := lw_at lw_m4 189 rfl
theorem w972 : (Jvm.Cond.code ({ cls := "TripleStore$Reader", name := "isKey", desc := "(Ljava/lang/String;)Z" } : Jvm.MethodName) prog_16_method_9_code (2 : Nat) (Option.some Jvm.ClassFile.FieldType.boolean)) ∈ lw_tbl := lw_at lw_m4 190 rfl
theorem w973 : (Jvm.Cond.methodLink "TripleStore$Reader" (114 : Nat) ({ cls := "TripleStore$Reader", name := "check", desc := "(ZI)V" } : Jvm.MethodName)) ∈ lw_tbl := lw_at lw_m4 191 rfl
theorem w974 : (Jvm.Cond.privateMethod ({ cls := "TripleStore$Reader", name := "check", desc := "(ZI)V" } : Jvm.MethodName)) ∈ lw_tbl := lw_at lw_m4 192 rfl
theorem w975 : (Jvm.Cond.instanceMethod ({ cls := "TripleStore$Reader", name := "check", desc := "(ZI)V" } : Jvm.MethodName)) ∈ lw_tbl := lw_at lw_m4 193 rfl
theorem w976 : (Jvm.Cond.code ({ cls := "TripleStore$Reader", name := "check", desc := "(ZI)V" } : Jvm.MethodName) prog_16_method_2_code (3 : Nat) (Option.none : Option Jvm.ClassFile.FieldType)) ∈ lw_tbl := lw_at lw_m4 194 rfl
theorem w977 : (Jvm.Cond.classLink "TripleStore$Reader" (32 : Nat) "java/lang/IllegalArgumentException") ∈ lw_tbl := lw_at lw_m4 195 rfl
theorem w978 : (Jvm.Cond.methodLink "TripleStore$Reader" (34 : Nat) ({ cls := "java/lang/IllegalArgumentException", name := "<init>", desc := "()V" } : Jvm.MethodName)) ∈ lw_tbl := lw_at lw_m4 196 rfl
theorem w979 : (Jvm.Cond.methodLink "TripleStore$Reader" (145 : Nat) ({ cls := "TripleStore$Reader", name := "takeKey", desc := "(Ljava/lang/String;)Z" } : Jvm.MethodName)) ∈ lw_tbl := lw_at lw_m4 197 rfl
theorem w980 : (Jvm.Cond.privateMethod ({ cls := "TripleStore$Reader", name := "takeKey", desc := "(Ljava/lang/String;)Z" } : Jvm.MethodName)) ∈ lw_tbl := lw_at lw_m4 198 rfl
theorem w981 : (Jvm.Cond.instanceMethod ({ cls := "TripleStore$Reader", name := "takeKey", desc := "(Ljava/lang/String;)Z" } : Jvm.MethodName)) ∈ lw_tbl := lw_at lw_m4 199 rfl
theorem w982 : (Jvm.Cond.code ({ cls := "TripleStore$Reader", name := "takeKey", desc := "(Ljava/lang/String;)Z" } : Jvm.MethodName) prog_16_method_10_code (2 : Nat) (Option.some Jvm.ClassFile.FieldType.boolean)) ∈ lw_tbl := lw_at lw_m4 200 rfl
theorem w983 : (Jvm.Cond.methodLink "TripleStore$Reader" (123 : Nat) ({ cls := "TripleStore$Reader", name := "variable", desc := "()I" } : Jvm.MethodName)) ∈ lw_tbl := lw_at lw_m4 201 rfl
theorem w984 : (Jvm.Cond.privateMethod ({ cls := "TripleStore$Reader", name := "variable", desc := "()I" } : Jvm.MethodName)) ∈ lw_tbl := lw_at lw_m4 202 rfl
theorem w985 : (Jvm.Cond.instanceMethod ({ cls := "TripleStore$Reader", name := "variable", desc := "()I" } : Jvm.MethodName)) ∈ lw_tbl := lw_at lw_m4 203 rfl
theorem w986 : (Jvm.Cond.code ({ cls := "TripleStore$Reader", name := "variable", desc := "()I" } : Jvm.MethodName) prog_16_method_13_code (2 : Nat) (Option.some Jvm.ClassFile.FieldType.int)) ∈ lw_tbl := lw_at lw_m4 204 rfl
theorem w987 : (Jvm.Cond.methodLink "TripleStore$Reader" (158 : Nat) ({ cls := "TripleStore$Reader", name := "group", desc := "()LTripleStore$Group;" } : Jvm.MethodName)) ∈ lw_tbl := lw_at lw_m4 205 rfl
theorem w988 : (Jvm.Cond.privateMethod ({ cls := "TripleStore$Reader", name := "group", desc := "()LTripleStore$Group;" } : Jvm.MethodName)) ∈ lw_tbl := lw_at lw_m4 206 rfl
theorem w989 : (Jvm.Cond.instanceMethod ({ cls := "TripleStore$Reader", name := "group", desc := "()LTripleStore$Group;" } : Jvm.MethodName)) ∈ lw_tbl := lw_at lw_m4 207 rfl
theorem w990 : (Jvm.Cond.code ({ cls := "TripleStore$Reader", name := "group", desc := "()LTripleStore$Group;" } : Jvm.MethodName) prog_16_method_16_code (2 : Nat) (Option.some (Jvm.ClassFile.FieldType.object "TripleStore$Group"))) ∈ lw_tbl := lw_at lw_m4 208 rfl
theorem w991 : (Jvm.Cond.classLink "TripleStore$Reader" (175 : Nat) "TripleStore$Group") ∈ lw_tbl := lw_at lw_m4 209 rfl
theorem w992 : (Jvm.Cond.instantiable "TripleStore$Group" (2 : Nat)) ∈ lw_tbl := lw_at lw_m4 210 rfl
theorem w993 : (Jvm.Cond.methodLinkNest "TripleStore$Reader" (177 : Nat) ({ cls := "TripleStore$Group", name := "<init>", desc := "()V" } : Jvm.MethodName) "TripleStore") ∈ lw_tbl := lw_at lw_m4 211 rfl
theorem w994 : (Jvm.Cond.instanceMethod ({ cls := "TripleStore$Group", name := "<init>", desc := "()V" } : Jvm.MethodName)) ∈ lw_tbl := lw_at lw_m4 212 rfl
theorem w995 : (Jvm.Cond.code ({ cls := "TripleStore$Group", name := "<init>", desc := "()V" } : Jvm.MethodName) prog_9_method_1_code (1 : Nat) (Option.none : Option Jvm.ClassFile.FieldType)) ∈ lw_tbl := lw_at lw_m4 213 rfl
theorem w996 : (Jvm.Cond.methodLink "TripleStore$Group" (1 : Nat) ({ cls := "java/lang/Object", name := "<init>", desc := "()V" } : Jvm.MethodName)) ∈ lw_tbl := lw_at lw_m4 214 rfl
theorem w997 : (Jvm.Cond.fieldLink "TripleStore$Group" (7 : Nat) "TripleStore$Group" "first" "LTripleStore$Element;") ∈ lw_tbl := lw_at lw_m4 215 rfl
theorem w998 : (Jvm.Cond.fieldLink "TripleStore$Group" (13 : Nat) "TripleStore$Group" "last" "LTripleStore$Element;") ∈ lw_tbl := lw_at lw_m4 216 rfl
theorem w999 : (Jvm.Cond.lays "TripleStore$Group" "TripleStore$Group" "first" "LTripleStore$Element;") ∈ lw_tbl := lw_at lw_m4 217 rfl
theorem w1000 : (Jvm.Cond.soleField "TripleStore$Group" "first") ∈ lw_tbl := lw_at lw_m4 218 rfl
theorem w1001 : (Jvm.Cond.lays "TripleStore$Group" "TripleStore$Group" "last" "LTripleStore$Element;") ∈ lw_tbl := lw_at lw_m4 219 rfl
theorem w1002 : (Jvm.Cond.soleField "TripleStore$Group" "last") ∈ lw_tbl := lw_at lw_m4 220 rfl
theorem w1003 : (Jvm.Cond.superclass "TripleStore$Group" "java/lang/Object") ∈ lw_tbl := lw_at lw_m4 221 rfl
theorem w1004 : (Jvm.Cond.methodLink "TripleStore$Reader" (178 : Nat) ({ cls := "TripleStore$Reader", name := "element", desc := "()LTripleStore$Element;" } : Jvm.MethodName)) ∈ lw_tbl := lw_at lw_m4 222 rfl
theorem w1005 : (Jvm.Cond.privateMethod ({ cls := "TripleStore$Reader", name := "element", desc := "()LTripleStore$Element;" } : Jvm.MethodName)) ∈ lw_tbl := lw_at lw_m4 223 rfl
theorem w1006 : (Jvm.Cond.instanceMethod ({ cls := "TripleStore$Reader", name := "element", desc := "()LTripleStore$Element;" } : Jvm.MethodName)) ∈ lw_tbl := lw_at lw_m4 224 rfl
theorem w1007 : (Jvm.Cond.code ({ cls := "TripleStore$Reader", name := "element", desc := "()LTripleStore$Element;" } : Jvm.MethodName) prog_16_method_17_code (3 : Nat) (Option.some (Jvm.ClassFile.FieldType.object "TripleStore$Element"))) ∈ lw_tbl := lw_at lw_m4 225 rfl
theorem w1008 : (Jvm.Cond.classLink "TripleStore$Reader" (192 : Nat) "TripleStore$Filter") ∈ lw_tbl := lw_at lw_m4 226 rfl
theorem w1009 : (Jvm.Cond.instantiable "TripleStore$Filter" (2 : Nat)) ∈ lw_tbl := lw_at lw_m4 227 rfl
theorem w1010 : (Jvm.Cond.methodLink "TripleStore$Reader" (194 : Nat) ({ cls := "TripleStore$Reader", name := "test", desc := "(I)LTripleStore$Test;" } : Jvm.MethodName)) ∈ lw_tbl := lw_at lw_m4 228 rfl
theorem w1011 : (Jvm.Cond.privateMethod ({ cls := "TripleStore$Reader", name := "test", desc := "(I)LTripleStore$Test;" } : Jvm.MethodName)) ∈ lw_tbl := lw_at lw_m4 229 rfl
theorem w1012 : (Jvm.Cond.instanceMethod ({ cls := "TripleStore$Reader", name := "test", desc := "(I)LTripleStore$Test;" } : Jvm.MethodName)) ∈ lw_tbl := lw_at lw_m4 230 rfl
theorem w1013 : (Jvm.Cond.code ({ cls := "TripleStore$Reader", name := "test", desc := "(I)LTripleStore$Test;" } : Jvm.MethodName) prog_16_method_18_code (4 : Nat) (Option.some (Jvm.ClassFile.FieldType.object "TripleStore$Test"))) ∈ lw_tbl := lw_at lw_m4 231 rfl
theorem w1014 : (Jvm.Cond.classLink "TripleStore$Reader" (226 : Nat) "TripleStore$Not") ∈ lw_tbl := lw_at lw_m4 232 rfl
theorem w1015 : (Jvm.Cond.instantiable "TripleStore$Not" (1 : Nat)) ∈ lw_tbl := lw_at lw_m4 233 rfl
theorem w1016 : (Jvm.Cond.methodLink "TripleStore$Reader" (228 : Nat) ({ cls := "TripleStore$Not", name := "<init>", desc := "(LTripleStore$Test;)V" } : Jvm.MethodName)) ∈ lw_tbl := lw_at lw_m4 234 rfl
theorem w1017 : (Jvm.Cond.instanceMethod ({ cls := "TripleStore$Not", name := "<init>", desc := "(LTripleStore$Test;)V" } : Jvm.MethodName)) ∈ lw_tbl := lw_at lw_m4 235 rfl
theorem w1018 : (Jvm.Cond.code ({ cls := "TripleStore$Not", name := "<init>", desc := "(LTripleStore$Test;)V" } : Jvm.MethodName) prog_11_method_1_code (2 : Nat) (Option.none : Option Jvm.ClassFile.FieldType)) ∈ lw_tbl := lw_at lw_m4 236 rfl
theorem w1019 : (Jvm.Cond.methodLinkNest "TripleStore$Not" (1 : Nat) ({ cls := "TripleStore$Test", name := "<init>", desc := "()V" } : Jvm.MethodName) "TripleStore") ∈ lw_tbl := lw_at lw_m4 237 rfl
theorem w1020 : (Jvm.Cond.instanceMethod ({ cls := "TripleStore$Test", name := "<init>", desc := "()V" } : Jvm.MethodName)) ∈ lw_tbl := lw_at lw_m4 238 rfl
theorem w1021 : (Jvm.Cond.code ({ cls := "TripleStore$Test", name := "<init>", desc := "()V" } : Jvm.MethodName) prog_21_method_1_code (1 : Nat) (Option.none : Option Jvm.ClassFile.FieldType)) ∈ lw_tbl := lw_at lw_m4 239 rfl
theorem w1022 : (Jvm.Cond.methodLink "TripleStore$Test" (1 : Nat) ({ cls := "java/lang/Object", name := "<init>", desc := "()V" } : Jvm.MethodName)) ∈ lw_tbl := lw_at lw_m5 0 rfl
theorem w1023 : (Jvm.Cond.fieldLink "TripleStore$Not" (7 : Nat) "TripleStore$Not" "test" "LTripleStore$Test;") ∈ lw_tbl := lw_at lw_m5 1 rfl
theorem w1024 : (Jvm.Cond.laysFinal "TripleStore$Not" "TripleStore$Not" "test" "LTripleStore$Test;") ∈ lw_tbl := lw_at lw_m5 2 rfl
theorem w1025 : (Jvm.Cond.soleField "TripleStore$Not" "test") ∈ lw_tbl := lw_at lw_m5 3 rfl
theorem w1026 : (Jvm.Cond.superclass "TripleStore$Not" "TripleStore$Test") ∈ lw_tbl := lw_at lw_m5 4 rfl
theorem w1027 : (Jvm.Cond.classLink "TripleStore$Reader" (229 : Nat) "TripleStore$Bound") ∈ lw_tbl := lw_at lw_m5 5 rfl
theorem w1028 : (Jvm.Cond.instantiable "TripleStore$Bound" (1 : Nat)) ∈ lw_tbl := lw_at lw_m5 6 rfl
theorem w1029 : (Jvm.Cond.methodLink "TripleStore$Reader" (231 : Nat) ({ cls := "TripleStore$Bound", name := "<init>", desc := "(I)V" } : Jvm.MethodName)) ∈ lw_tbl := lw_at lw_m5 7 rfl
theorem w1030 : (Jvm.Cond.instanceMethod ({ cls := "TripleStore$Bound", name := "<init>", desc := "(I)V" } : Jvm.MethodName)) ∈ lw_tbl := lw_at lw_m5 8 rfl
theorem w1031 : (Jvm.Cond.code ({ cls := "TripleStore$Bound", name := "<init>", desc := "(I)V" } : Jvm.MethodName) prog_2_method_1_code (2 : Nat) (Option.none : Option Jvm.ClassFile.FieldType)) ∈ lw_tbl := lw_at lw_m5 9 rfl
theorem w1032 : (Jvm.Cond.methodLinkNest "TripleStore$Bound" (1 : Nat) ({ cls := "TripleStore$Test", name := "<init>", desc := "()V" } : Jvm.MethodName) "TripleStore") ∈ lw_tbl := lw_at lw_m5 10 rfl
theorem w1033 : (Jvm.Cond.fieldLink "TripleStore$Bound" (7 : Nat) "TripleStore$Bound" "variable" "I") ∈ lw_tbl := lw_at lw_m5 11 rfl
theorem w1034 : (Jvm.Cond.laysFinal "TripleStore$Bound" "TripleStore$Bound" "variable" "I") ∈ lw_tbl := lw_at lw_m5 12 rfl
theorem w1035 : (Jvm.Cond.soleField "TripleStore$Bound" "variable") ∈ lw_tbl := lw_at lw_m5 13 rfl
theorem w1036 : (Jvm.Cond.superclass "TripleStore$Bound" "TripleStore$Test") ∈ lw_tbl := lw_at lw_m5 14 rfl
theorem w1037 : (Jvm.Cond.methodLink "TripleStore$Reader" (217 : Nat) ({ cls := "TripleStore$Reader", name := "side", desc := "()LTripleStore$Side;" } : Jvm.MethodName)) ∈ lw_tbl := lw_at lw_m5 15 rfl
theorem w1038 : (Jvm.Cond.privateMethod ({ cls := "TripleStore$Reader", name := "side", desc := "()LTripleStore$Side;" } : Jvm.MethodName)) ∈ lw_tbl := lw_at lw_m5 16 rfl
theorem w1039 : (Jvm.Cond.instanceMethod ({ cls := "TripleStore$Reader", name := "side", desc := "()LTripleStore$Side;" } : Jvm.MethodName)) ∈ lw_tbl := lw_at lw_m5 17 rfl
theorem w1040 : (Jvm.Cond.code ({ cls := "TripleStore$Reader", name := "side", desc := "()LTripleStore$Side;" } : Jvm.MethodName) prog_16_method_14_code (2 : Nat) (Option.some (Jvm.ClassFile.FieldType.object "TripleStore$Side"))) ∈ lw_tbl := lw_at lw_m5 18 rfl
theorem w1041 : (Jvm.Cond.classLink "TripleStore$Reader" (121 : Nat) "TripleStore$Side") ∈ lw_tbl := lw_at lw_m5 19 rfl
theorem w1042 : (Jvm.Cond.instantiable "TripleStore$Side" (2 : Nat)) ∈ lw_tbl := lw_at lw_m5 20 rfl
theorem w1043 : (Jvm.Cond.methodLink "TripleStore$Reader" (126 : Nat) ({ cls := "TripleStore$Side", name := "<init>", desc := "(LTripleStore$Term;I)V" } : Jvm.MethodName)) ∈ lw_tbl := lw_at lw_m5 21 rfl
theorem w1044 : (Jvm.Cond.instanceMethod ({ cls := "TripleStore$Side", name := "<init>", desc := "(LTripleStore$Term;I)V" } : Jvm.MethodName)) ∈ lw_tbl := lw_at lw_m5 22 rfl
theorem w1045 : (Jvm.Cond.code ({ cls := "TripleStore$Side", name := "<init>", desc := "(LTripleStore$Term;I)V" } : Jvm.MethodName) prog_18_method_1_code (3 : Nat) (Option.none : Option Jvm.ClassFile.FieldType)) ∈ lw_tbl := lw_at lw_m5 23 rfl
theorem w1046 : (Jvm.Cond.methodLink "TripleStore$Side" (1 : Nat) ({ cls := "java/lang/Object", name := "<init>", desc := "()V" } : Jvm.MethodName)) ∈ lw_tbl := lw_at lw_m5 24 rfl
theorem w1047 : (Jvm.Cond.fieldLink "TripleStore$Side" (7 : Nat) "TripleStore$Side" "term" "LTripleStore$Term;") ∈ lw_tbl := lw_at lw_m5 25 rfl
theorem w1048 : (Jvm.Cond.fieldLinkNest "TripleStore$Pattern" (34 : Nat) "TripleStore$Side" "term" "LTripleStore$Term;" "TripleStore") ∈ lw_tbl := lw_at lw_m5 26 rfl
theorem w1049 : (Jvm.Cond.fieldLink "TripleStore$Side" (13 : Nat) "TripleStore$Side" "variable" "I") ∈ lw_tbl := lw_at lw_m5 27 rfl
theorem w1050 : (Jvm.Cond.fieldLinkNest "TripleStore$Pattern" (41 : Nat) "TripleStore$Side" "variable" "I" "TripleStore") ∈ lw_tbl := lw_at lw_m5 28 rfl
theorem w1051 : (Jvm.Cond.laysFinal "TripleStore$Side" "TripleStore$Side" "term" "LTripleStore$Term;") ∈ lw_tbl := lw_at lw_m5 29 rfl
theorem w1052 : (Jvm.Cond.soleField "TripleStore$Side" "term") ∈ lw_tbl := lw_at lw_m5 30 rfl
theorem w1053 : (Jvm.Cond.laysFinal "TripleStore$Side" "TripleStore$Side" "variable" "I") ∈ lw_tbl := lw_at lw_m5 31 rfl
theorem w1054 : (Jvm.Cond.soleField "TripleStore$Side" "variable") ∈ lw_tbl := lw_at lw_m5 32 rfl
theorem w1055 : (Jvm.Cond.superclass "TripleStore$Side" "java/lang/Object") ∈ lw_tbl := lw_at lw_m5 33 rfl
theorem w1056 : (Jvm.Cond.classLink "TripleStore$Reader" (129 : Nat) "TripleStore$Numeral") ∈ lw_tbl := lw_at lw_m5 34 rfl
theorem w1057 : (Jvm.Cond.methodLink "TripleStore$Reader" (131 : Nat) ({ cls := "TripleStore$Reader", name := "number", desc := "()I" } : Jvm.MethodName)) ∈ lw_tbl := lw_at lw_m5 35 rfl
theorem w1058 : (Jvm.Cond.privateMethod ({ cls := "TripleStore$Reader", name := "number", desc := "()I" } : Jvm.MethodName)) ∈ lw_tbl := lw_at lw_m5 36 rfl
theorem w1059 : (Jvm.Cond.instanceMethod ({ cls := "TripleStore$Reader", name := "number", desc := "()I" } : Jvm.MethodName)) ∈ lw_tbl := lw_at lw_m5 37 rfl
theorem w1060 : (Jvm.Cond.code ({ cls := "TripleStore$Reader", name := "number", desc := "()I" } : Jvm.MethodName) prog_16_method_12_code (3 : Nat) (Option.some Jvm.ClassFile.FieldType.int)) ∈ lw_tbl := lw_at lw_m5 38 rfl
theorem w1061 : (Jvm.Cond.methodLink "TripleStore$Reader" (134 : Nat) ({ cls := "TripleStore$Numeral", name := "<init>", desc := "(I)V" } : Jvm.MethodName)) ∈ lw_tbl := lw_at lw_m5 39 rfl
theorem w1062 : (Jvm.Cond.classLink "TripleStore$Reader" (137 : Nat) "TripleStore$Word") ∈ lw_tbl := lw_at lw_m5 40 rfl
theorem w1063 : (Jvm.Cond.methodLink "TripleStore$Reader" (139 : Nat) ({ cls := "TripleStore$Word", name := "<init>", desc := "(Ljava/lang/String;)V" } : Jvm.MethodName)) ∈ lw_tbl := lw_at lw_m5 41 rfl
theorem w1064 : (Jvm.Cond.classLink "TripleStore$Reader" (232 : Nat) "TripleStore$Comparison") ∈ lw_tbl := lw_at lw_m5 42 rfl
theorem w1065 : (Jvm.Cond.instantiable "TripleStore$Comparison" (3 : Nat)) ∈ lw_tbl := lw_at lw_m5 43 rfl
theorem w1066 : (Jvm.Cond.methodLink "TripleStore$Reader" (234 : Nat) ({ cls := "TripleStore$Comparison", name := "<init>", desc := "(LTripleStore$Side;CLTripleStore$Side;)V" } : Jvm.MethodName)) ∈ lw_tbl := lw_at lw_m5 44 rfl
theorem w1067 : (Jvm.Cond.instanceMethod ({ cls := "TripleStore$Comparison", name := "<init>", desc := "(LTripleStore$Side;CLTripleStore$Side;)V" } : Jvm.MethodName)) ∈ lw_tbl := lw_at lw_m5 45 rfl
theorem w1068 : (Jvm.Cond.code ({ cls := "TripleStore$Comparison", name := "<init>", desc := "(LTripleStore$Side;CLTripleStore$Side;)V" } : Jvm.MethodName) prog_5_method_1_code (4 : Nat) (Option.none : Option Jvm.ClassFile.FieldType)) ∈ lw_tbl := lw_at lw_m5 46 rfl
theorem w1069 : (Jvm.Cond.methodLinkNest "TripleStore$Comparison" (1 : Nat) ({ cls := "TripleStore$Test", name := "<init>", desc := "()V" } : Jvm.MethodName) "TripleStore") ∈ lw_tbl := lw_at lw_m5 47 rfl
theorem w1070 : (Jvm.Cond.fieldLink "TripleStore$Comparison" (7 : Nat) "TripleStore$Comparison" "left" "LTripleStore$Side;") ∈ lw_tbl := lw_at lw_m5 48 rfl
theorem w1071 : (Jvm.Cond.fieldLink "TripleStore$Comparison" (13 : Nat) "TripleStore$Comparison" "sign" "C") ∈ lw_tbl := lw_at lw_m5 49 rfl
theorem w1072 : (Jvm.Cond.fieldLink "TripleStore$Comparison" (17 : Nat) "TripleStore$Comparison" "right" "LTripleStore$Side;") ∈ lw_tbl := lw_at lw_m5 50 rfl
theorem w1073 : (Jvm.Cond.laysFinal "TripleStore$Comparison" "TripleStore$Comparison" "left" "LTripleStore$Side;") ∈ lw_tbl := lw_at lw_m5 51 rfl
theorem w1074 : (Jvm.Cond.soleField "TripleStore$Comparison" "left") ∈ lw_tbl := lw_at lw_m5 52 rfl
theorem w1075 : (Jvm.Cond.laysFinal "TripleStore$Comparison" "TripleStore$Comparison" "sign" "C") ∈ lw_tbl := lw_at lw_m5 53 rfl
theorem w1076 : (Jvm.Cond.soleField "TripleStore$Comparison" "sign") ∈ lw_tbl := lw_at lw_m5 54 rfl
theorem w1077 : (Jvm.Cond.laysFinal "TripleStore$Comparison" "TripleStore$Comparison" "right" "LTripleStore$Side;") ∈ lw_tbl := lw_at lw_m5 55 rfl
theorem w1078 : (Jvm.Cond.soleField "TripleStore$Comparison" "right") ∈ lw_tbl := lw_at lw_m5 56 rfl
theorem w1079 : (Jvm.Cond.superclass "TripleStore$Comparison" "TripleStore$Test") ∈ lw_tbl := lw_at lw_m5 57 rfl
theorem w1080 : (Jvm.Cond.methodLink "TripleStore$Reader" (198 : Nat) ({ cls := "TripleStore$Filter", name := "<init>", desc := "(LTripleStore$Test;)V" } : Jvm.MethodName)) ∈ lw_tbl := lw_at lw_m5 58 rfl
theorem w1081 : (Jvm.Cond.instanceMethod ({ cls := "TripleStore$Filter", name := "<init>", desc := "(LTripleStore$Test;)V" } : Jvm.MethodName)) ∈ lw_tbl := lw_at lw_m5 59 rfl
theorem w1082 : (Jvm.Cond.code ({ cls := "TripleStore$Filter", name := "<init>", desc := "(LTripleStore$Test;)V" } : Jvm.MethodName) prog_7_method_1_code (2 : Nat) (Option.none : Option Jvm.ClassFile.FieldType)) ∈ lw_tbl := lw_at lw_m5 60 rfl
theorem w1083 : (Jvm.Cond.methodLinkNest "TripleStore$Filter" (1 : Nat) ({ cls := "TripleStore$Element", name := "<init>", desc := "()V" } : Jvm.MethodName) "TripleStore") ∈ lw_tbl := lw_at lw_m5 61 rfl
theorem w1084 : (Jvm.Cond.instanceMethod ({ cls := "TripleStore$Element", name := "<init>", desc := "()V" } : Jvm.MethodName)) ∈ lw_tbl := lw_at lw_m5 62 rfl
theorem w1085 : (Jvm.Cond.code ({ cls := "TripleStore$Element", name := "<init>", desc := "()V" } : Jvm.MethodName) prog_6_method_1_code (1 : Nat) (Option.none : Option Jvm.ClassFile.FieldType)) ∈ lw_tbl := lw_at lw_m5 63 rfl
theorem w1086 : (Jvm.Cond.methodLink "TripleStore$Element" (1 : Nat) ({ cls := "java/lang/Object", name := "<init>", desc := "()V" } : Jvm.MethodName)) ∈ lw_tbl := lw_at lw_m5 64 rfl
theorem w1087 : (Jvm.Cond.fieldLink "TripleStore$Filter" (7 : Nat) "TripleStore$Filter" "test" "LTripleStore$Test;") ∈ lw_tbl := lw_at lw_m5 65 rfl
theorem w1088 : (Jvm.Cond.fieldLinkNest "TripleStore$Group" (16 : Nat) "TripleStore$Element" "next" "LTripleStore$Element;" "TripleStore") ∈ lw_tbl := lw_at lw_m5 66 rfl
theorem w1089 : (Jvm.Cond.laysFinal "TripleStore$Filter" "TripleStore$Filter" "test" "LTripleStore$Test;") ∈ lw_tbl := lw_at lw_m5 67 rfl
theorem w1090 : (Jvm.Cond.soleField "TripleStore$Filter" "test") ∈ lw_tbl := lw_at lw_m5 68 rfl
theorem w1091 : (Jvm.Cond.lays "TripleStore$Filter" "TripleStore$Element" "next" "LTripleStore$Element;") ∈ lw_tbl := lw_at lw_m5 69 rfl
theorem w1092 : (Jvm.Cond.soleField "TripleStore$Element" "next") ∈ lw_tbl := lw_at lw_m5 70 rfl
theorem w1093 : (Jvm.Cond.superclass "TripleStore$Filter" "TripleStore$Element") ∈ lw_tbl := lw_at lw_m5 71 rfl
theorem w1094 : (Jvm.Cond.classLink "TripleStore$Reader" (201 : Nat) "TripleStore$Optional") ∈ lw_tbl := lw_at lw_m5 72 rfl
theorem w1095 : (Jvm.Cond.instantiable "TripleStore$Optional" (2 : Nat)) ∈ lw_tbl := lw_at lw_m5 73 rfl
theorem w1096 : (Jvm.Cond.methodLink "TripleStore$Reader" (203 : Nat) ({ cls := "TripleStore$Optional", name := "<init>", desc := "(LTripleStore$Group;)V" } : Jvm.MethodName)) ∈ lw_tbl := lw_at lw_m5 74 rfl
theorem w1097 : (Jvm.Cond.instanceMethod ({ cls := "TripleStore$Optional", name := "<init>", desc := "(LTripleStore$Group;)V" } : Jvm.MethodName)) ∈ lw_tbl := lw_at lw_m5 75 rfl
theorem w1098 : (Jvm.Cond.code ({ cls := "TripleStore$Optional", name := "<init>", desc := "(LTripleStore$Group;)V" } : Jvm.MethodName) prog_13_method_1_code (2 : Nat) (Option.none : Option Jvm.ClassFile.FieldType)) ∈ lw_tbl := lw_at lw_m5 76 rfl
theorem w1099 : (Jvm.Cond.methodLinkNest "TripleStore$Optional" (1 : Nat) ({ cls := "TripleStore$Element", name := "<init>", desc := "()V" } : Jvm.MethodName) "TripleStore") ∈ lw_tbl := lw_at lw_m5 77 rfl
theorem w1100 : (Jvm.Cond.fieldLink "TripleStore$Optional" (7 : Nat) "TripleStore$Optional" "group" "LTripleStore$Group;") ∈ lw_tbl := lw_at lw_m5 78 rfl
theorem w1101 : (Jvm.Cond.laysFinal "TripleStore$Optional" "TripleStore$Optional" "group" "LTripleStore$Group;") ∈ lw_tbl := lw_at lw_m5 79 rfl
theorem w1102 : (Jvm.Cond.soleField "TripleStore$Optional" "group") ∈ lw_tbl := lw_at lw_m5 80 rfl
theorem w1103 : (Jvm.Cond.lays "TripleStore$Optional" "TripleStore$Element" "next" "LTripleStore$Element;") ∈ lw_tbl := lw_at lw_m5 81 rfl
theorem w1104 : (Jvm.Cond.superclass "TripleStore$Optional" "TripleStore$Element") ∈ lw_tbl := lw_at lw_m5 82 rfl
theorem w1105 : (Jvm.Cond.classLink "TripleStore$Reader" (206 : Nat) "TripleStore$Minus") ∈ lw_tbl := lw_at lw_m5 83 rfl
theorem w1106 : (Jvm.Cond.instantiable "TripleStore$Minus" (2 : Nat)) ∈ lw_tbl := lw_at lw_m5 84 rfl
theorem w1107 : (Jvm.Cond.methodLink "TripleStore$Reader" (208 : Nat) ({ cls := "TripleStore$Minus", name := "<init>", desc := "(LTripleStore$Group;)V" } : Jvm.MethodName)) ∈ lw_tbl := lw_at lw_m5 85 rfl
theorem w1108 : (Jvm.Cond.instanceMethod ({ cls := "TripleStore$Minus", name := "<init>", desc := "(LTripleStore$Group;)V" } : Jvm.MethodName)) ∈ lw_tbl := lw_at lw_m5 86 rfl
theorem w1109 : (Jvm.Cond.code ({ cls := "TripleStore$Minus", name := "<init>", desc := "(LTripleStore$Group;)V" } : Jvm.MethodName) prog_10_method_1_code (2 : Nat) (Option.none : Option Jvm.ClassFile.FieldType)) ∈ lw_tbl := lw_at lw_m5 87 rfl
theorem w1110 : (Jvm.Cond.methodLinkNest "TripleStore$Minus" (1 : Nat) ({ cls := "TripleStore$Element", name := "<init>", desc := "()V" } : Jvm.MethodName) "TripleStore") ∈ lw_tbl := lw_at lw_m5 88 rfl
theorem w1111 : (Jvm.Cond.fieldLink "TripleStore$Minus" (7 : Nat) "TripleStore$Minus" "group" "LTripleStore$Group;") ∈ lw_tbl := lw_at lw_m5 89 rfl
theorem w1112 : (Jvm.Cond.laysFinal "TripleStore$Minus" "TripleStore$Minus" "group" "LTripleStore$Group;") ∈ lw_tbl := lw_at lw_m5 90 rfl
theorem w1113 : (Jvm.Cond.soleField "TripleStore$Minus" "group") ∈ lw_tbl := lw_at lw_m5 91 rfl
theorem w1114 : (Jvm.Cond.lays "TripleStore$Minus" "TripleStore$Element" "next" "LTripleStore$Element;") ∈ lw_tbl := lw_at lw_m5 92 rfl
theorem w1115 : (Jvm.Cond.superclass "TripleStore$Minus" "TripleStore$Element") ∈ lw_tbl := lw_at lw_m5 93 rfl
theorem w1116 : (Jvm.Cond.classLink "TripleStore$Reader" (209 : Nat) "TripleStore$Union") ∈ lw_tbl := lw_at lw_m5 94 rfl
theorem w1117 : (Jvm.Cond.instantiable "TripleStore$Union" (3 : Nat)) ∈ lw_tbl := lw_at lw_m5 95 rfl
theorem w1118 : (Jvm.Cond.methodLinkNest "TripleStore$Reader" (211 : Nat) ({ cls := "TripleStore$Union", name := "<init>", desc := "()V" } : Jvm.MethodName) "TripleStore") ∈ lw_tbl := lw_at lw_m5 96 rfl
theorem w1119 : (Jvm.Cond.instanceMethod ({ cls := "TripleStore$Union", name := "<init>", desc := "()V" } : Jvm.MethodName)) ∈ lw_tbl := lw_at lw_m5 97 rfl
theorem w1120 : (Jvm.Cond.code ({ cls := "TripleStore$Union", name := "<init>", desc := "()V" } : Jvm.MethodName) prog_23_method_1_code (1 : Nat) (Option.none : Option Jvm.ClassFile.FieldType)) ∈ lw_tbl := lw_at lw_m5 98 rfl
theorem w1121 : (Jvm.Cond.methodLinkNest "TripleStore$Union" (1 : Nat) ({ cls := "TripleStore$Element", name := "<init>", desc := "()V" } : Jvm.MethodName) "TripleStore") ∈ lw_tbl := lw_at lw_m5 99 rfl
theorem w1122 : (Jvm.Cond.classLink "TripleStore$Union" (7 : Nat) "TripleStore$Group") ∈ lw_tbl := lw_at lw_m5 100 rfl
theorem w1123 : (Jvm.Cond.arrayOver (Jvm.ClassFile.FieldType.object "TripleStore$Group")) ∈ lw_tbl := lw_at lw_m5 101 rfl
theorem w1124 : (Jvm.Cond.fieldLink "TripleStore$Union" (9 : Nat) "TripleStore$Union" "groups" "[LTripleStore$Group;") ∈ lw_tbl := lw_at lw_m5 102 rfl
theorem w1125 : (Jvm.Cond.fieldLink "TripleStore$Union" (15 : Nat) "TripleStore$Union" "count" "I") ∈ lw_tbl := lw_at lw_m5 103 rfl
theorem w1126 : (Jvm.Cond.fieldLinkNest "TripleStore$Reader" (214 : Nat) "TripleStore$Union" "count" "I" "TripleStore") ∈ lw_tbl := lw_at lw_m5 104 rfl
theorem w1127 : (Jvm.Cond.laysFinal "TripleStore$Union" "TripleStore$Union" "groups" "[LTripleStore$Group;") ∈ lw_tbl := lw_at lw_m5 105 rfl
theorem w1128 : (Jvm.Cond.soleField "TripleStore$Union" "groups") ∈ lw_tbl := lw_at lw_m5 106 rfl
theorem w1129 : (Jvm.Cond.lays "TripleStore$Union" "TripleStore$Union" "count" "I") ∈ lw_tbl := lw_at lw_m5 107 rfl
theorem w1130 : (Jvm.Cond.soleField "TripleStore$Union" "count") ∈ lw_tbl := lw_at lw_m5 108 rfl
theorem w1131 : (Jvm.Cond.lays "TripleStore$Union" "TripleStore$Element" "next" "LTripleStore$Element;") ∈ lw_tbl := lw_at lw_m5 109 rfl
theorem w1132 : (Jvm.Cond.superclass "TripleStore$Union" "TripleStore$Element") ∈ lw_tbl := lw_at lw_m5 110 rfl
theorem w1133 : (Jvm.Cond.methodLink "TripleStore$Reader" (212 : Nat) ({ cls := "TripleStore$Union", name := "add", desc := "(LTripleStore$Group;)V" } : Jvm.MethodName)) ∈ lw_tbl := lw_at lw_m5 111 rfl
theorem w1134 : (Jvm.Cond.instanceMethod ({ cls := "TripleStore$Union", name := "add", desc := "(LTripleStore$Group;)V" } : Jvm.MethodName)) ∈ lw_tbl := lw_at lw_m5 112 rfl
theorem w1135 : (Jvm.Cond.selects "TripleStore$Union" ({ cls := "TripleStore$Union", name := "add", desc := "(LTripleStore$Group;)V" } : Jvm.MethodName) ({ cls := "TripleStore$Union", name := "add", desc := "(LTripleStore$Group;)V" } : Jvm.MethodName)) ∈ lw_tbl := lw_at lw_m5 113 rfl
theorem w1136 : (Jvm.Cond.code ({ cls := "TripleStore$Union", name := "add", desc := "(LTripleStore$Group;)V" } : Jvm.MethodName) prog_23_method_2_code (2 : Nat) (Option.none : Option Jvm.ClassFile.FieldType)) ∈ lw_tbl := lw_at lw_m5 114 rfl
theorem w1137 : (Jvm.Cond.arrayOver (Jvm.ClassFile.FieldType.object "TripleStore$Side")) ∈ lw_tbl := lw_at lw_m5 115 rfl
theorem w1138 : (Jvm.Cond.classLink "TripleStore$Reader" (221 : Nat) "TripleStore$Pattern") ∈ lw_tbl := lw_at lw_m5 116 rfl
theorem w1139 : (Jvm.Cond.instantiable "TripleStore$Pattern" (2 : Nat)) ∈ lw_tbl := lw_at lw_m5 117 rfl
theorem w1140 : (Jvm.Cond.methodLink "TripleStore$Reader" (223 : Nat) ({ cls := "TripleStore$Pattern", name := "<init>", desc := "([LTripleStore$Side;)V" } : Jvm.MethodName)) ∈ lw_tbl := lw_at lw_m5 118 rfl
theorem w1141 : (Jvm.Cond.instanceMethod ({ cls := "TripleStore$Pattern", name := "<init>", desc := "([LTripleStore$Side;)V" } : Jvm.MethodName)) ∈ lw_tbl := lw_at lw_m5 119 rfl
theorem w1142 : (Jvm.Cond.code ({ cls := "TripleStore$Pattern", name := "<init>", desc := "([LTripleStore$Side;)V" } : Jvm.MethodName) prog_14_method_1_code (2 : Nat) (Option.none : Option Jvm.ClassFile.FieldType)) ∈ lw_tbl := lw_at lw_m5 120 rfl
theorem w1143 : (Jvm.Cond.methodLinkNest "TripleStore$Pattern" (1 : Nat) ({ cls := "TripleStore$Element", name := "<init>", desc := "()V" } : Jvm.MethodName) "TripleStore") ∈ lw_tbl := lw_at lw_m5 121 rfl
theorem w1144 : (Jvm.Cond.fieldLink "TripleStore$Pattern" (7 : Nat) "TripleStore$Pattern" "sides" "[LTripleStore$Side;") ∈ lw_tbl := lw_at lw_m5 122 rfl
theorem w1145 : (Jvm.Cond.laysFinal "TripleStore$Pattern" "TripleStore$Pattern" "sides" "[LTripleStore$Side;") ∈ lw_tbl := lw_at lw_m5 123 rfl
theorem w1146 : (Jvm.Cond.soleField "TripleStore$Pattern" "sides") ∈ lw_tbl := lw_at lw_m5 124 rfl
theorem w1147 : (Jvm.Cond.lays "TripleStore$Pattern" "TripleStore$Element" "next" "LTripleStore$Element;") ∈ lw_tbl := lw_at lw_m5 125 rfl
theorem w1148 : (Jvm.Cond.superclass "TripleStore$Pattern" "TripleStore$Element") ∈ lw_tbl := lw_at lw_m5 126 rfl
theorem w1149 : (Jvm.Cond.methodLink "TripleStore$Reader" (182 : Nat) ({ cls := "TripleStore$Group", name := "add", desc := "(LTripleStore$Element;)V" } : Jvm.MethodName)) ∈ lw_tbl := lw_at lw_m5 127 rfl
theorem w1150 : (Jvm.Cond.instanceMethod ({ cls := "TripleStore$Group", name := "add", desc := "(LTripleStore$Element;)V" } : Jvm.MethodName)) ∈ lw_tbl := lw_at lw_m5 128 rfl
theorem w1151 : (Jvm.Cond.selects "TripleStore$Group" ({ cls := "TripleStore$Group", name := "add", desc := "(LTripleStore$Element;)V" } : Jvm.MethodName) ({ cls := "TripleStore$Group", name := "add", desc := "(LTripleStore$Element;)V" } : Jvm.MethodName)) ∈ lw_tbl := lw_at lw_m5 129 rfl
theorem w1152 : (Jvm.Cond.code ({ cls := "TripleStore$Group", name := "add", desc := "(LTripleStore$Element;)V" } : Jvm.MethodName) prog_9_method_2_code (2 : Nat) (Option.none : Option Jvm.ClassFile.FieldType)) ∈ lw_tbl := lw_at lw_m5 130 rfl
theorem w1153 : (Jvm.Cond.methodLink "TripleStore$Reader" (186 : Nat) ({ cls := "TripleStore$Reader", name := "need", desc := "(I)V" } : Jvm.MethodName)) ∈ lw_tbl := lw_at lw_m5 131 rfl
theorem w1154 : (Jvm.Cond.privateMethod ({ cls := "TripleStore$Reader", name := "need", desc := "(I)V" } : Jvm.MethodName)) ∈ lw_tbl := lw_at lw_m5 132 rfl
theorem w1155 : (Jvm.Cond.instanceMethod ({ cls := "TripleStore$Reader", name := "need", desc := "(I)V" } : Jvm.MethodName)) ∈ lw_tbl := lw_at lw_m5 133 rfl
theorem w1156 : (Jvm.Cond.code ({ cls := "TripleStore$Reader", name := "need", desc := "(I)V" } : Jvm.MethodName) prog_16_method_11_code (2 : Nat) (Option.none : Option Jvm.ClassFile.FieldType)) ∈ lw_tbl := lw_at lw_m5 134 rfl
theorem w1157 : (Jvm.Cond.methodLink "TripleStore" (210 : Nat) ({ cls := "TripleStore$Group", name := "find", desc := "(LTripleStore;)LTripleStore$Found;" } : Jvm.MethodName)) ∈ lw_tbl := lw_at lw_m5 135 rfl
theorem w1158 : (Jvm.Cond.instanceMethod ({ cls := "TripleStore$Group", name := "find", desc := "(LTripleStore;)LTripleStore$Found;" } : Jvm.MethodName)) ∈ lw_tbl := lw_at lw_m5 136 rfl
theorem w1159 : (Jvm.Cond.selects "TripleStore$Group" ({ cls := "TripleStore$Group", name := "find", desc := "(LTripleStore;)LTripleStore$Found;" } : Jvm.MethodName) ({ cls := "TripleStore$Group", name := "find", desc := "(LTripleStore;)LTripleStore$Found;" } : Jvm.MethodName)) ∈ lw_tbl := lw_at lw_m5 137 rfl
theorem w1160 : (Jvm.Cond.code ({ cls := "TripleStore$Group", name := "find", desc := "(LTripleStore;)LTripleStore$Found;" } : Jvm.MethodName) prog_9_method_3_code (4 : Nat) (Option.some (Jvm.ClassFile.FieldType.object "TripleStore$Found"))) ∈ lw_tbl := lw_at lw_m5 138 rfl
theorem w1161 : (Jvm.Cond.classLink "TripleStore$Group" (21 : Nat) "TripleStore$Found") ∈ lw_tbl := lw_at lw_m5 139 rfl
theorem w1162 : (Jvm.Cond.instantiable "TripleStore$Found" (2 : Nat)) ∈ lw_tbl := lw_at lw_m5 140 rfl
theorem w1163 : (Jvm.Cond.methodLinkNest "TripleStore$Group" (23 : Nat) ({ cls := "TripleStore$Found", name := "<init>", desc := "()V" } : Jvm.MethodName) "TripleStore") ∈ lw_tbl := lw_at lw_m5 141 rfl
theorem w1164 : (Jvm.Cond.instanceMethod ({ cls := "TripleStore$Found", name := "<init>", desc := "()V" } : Jvm.MethodName)) ∈ lw_tbl := lw_at lw_m5 142 rfl
theorem w1165 : (Jvm.Cond.code ({ cls := "TripleStore$Found", name := "<init>", desc := "()V" } : Jvm.MethodName) prog_8_method_1_code (1 : Nat) (Option.none : Option Jvm.ClassFile.FieldType)) ∈ lw_tbl := lw_at lw_m5 143 rfl
theorem w1166 : (Jvm.Cond.methodLink "TripleStore$Found" (3 : Nat) ({ cls := "java/lang/Object", name := "<init>", desc := "()V" } : Jvm.MethodName)) ∈ lw_tbl := lw_at lw_m5 144 rfl
theorem w1167 : (Jvm.Cond.classLink "TripleStore$Found" (9 : Nat) "TripleStore$Solution") ∈ lw_tbl := lw_at lw_m5 145 rfl
theorem w1168 : (Jvm.Cond.arrayOver (Jvm.ClassFile.FieldType.object "TripleStore$Solution")) ∈ lw_tbl := lw_at lw_m5 146 rfl
theorem w1169 : (Jvm.Cond.fieldLink "TripleStore$Found" (11 : Nat) "TripleStore$Found" "all" "[LTripleStore$Solution;") ∈ lw_tbl := lw_at lw_m5 147 rfl
theorem w1170 : (Jvm.Cond.fieldLinkNest "TripleStore$Minus" (19 : Nat) "TripleStore$Found" "all" "[LTripleStore$Solution;" "TripleStore") ∈ lw_tbl := lw_at lw_m5 148 rfl
theorem w1171 : (Jvm.Cond.fieldLinkNest "TripleStore$Optional" (26 : Nat) "TripleStore$Found" "all" "[LTripleStore$Solution;" "TripleStore") ∈ lw_tbl := lw_at lw_m5 149 rfl
theorem w1172 : (Jvm.Cond.fieldLinkNest "TripleStore$Filter" (20 : Nat) "TripleStore$Found" "all" "[LTripleStore$Solution;" "TripleStore") ∈ lw_tbl := lw_at lw_m5 150 rfl
theorem w1173 : (Jvm.Cond.fieldLinkNest "TripleStore$Union" (27 : Nat) "TripleStore$Found" "all" "[LTripleStore$Solution;" "TripleStore") ∈ lw_tbl := lw_at lw_m5 151 rfl
theorem w1174 : (Jvm.Cond.fieldLinkNest "TripleStore" (218 : Nat) "TripleStore$Found" "all" "[LTripleStore$Solution;" "TripleStore") ∈ lw_tbl := lw_at lw_m5 152 rfl
theorem w1175 : (Jvm.Cond.fieldLink "TripleStore$Found" (17 : Nat) "TripleStore$Found" "count" "I") ∈ lw_tbl := lw_at lw_m5 153 rfl
theorem w1176 : (Jvm.Cond.fieldLinkNest "TripleStore$Minus" (13 : Nat) "TripleStore$Found" "count" "I" "TripleStore") ∈ lw_tbl := lw_at lw_m5 154 rfl
theorem w1177 : (Jvm.Cond.fieldLinkNest "TripleStore$Optional" (22 : Nat) "TripleStore$Found" "count" "I" "TripleStore") ∈ lw_tbl := lw_at lw_m5 155 rfl
theorem w1178 : (Jvm.Cond.fieldLinkNest "TripleStore$Filter" (16 : Nat) "TripleStore$Found" "count" "I" "TripleStore") ∈ lw_tbl := lw_at lw_m5 156 rfl
theorem w1179 : (Jvm.Cond.fieldLinkNest "TripleStore$Union" (26 : Nat) "TripleStore$Found" "count" "I" "TripleStore") ∈ lw_tbl := lw_at lw_m5 157 rfl
theorem w1180 : (Jvm.Cond.fieldLinkNest "TripleStore" (215 : Nat) "TripleStore$Found" "count" "I" "TripleStore") ∈ lw_tbl := lw_at lw_m5 158 rfl
theorem w1181 : (Jvm.Cond.laysFinal "TripleStore$Found" "TripleStore$Found" "all" "[LTripleStore$Solution;") ∈ lw_tbl := lw_at lw_m5 159 rfl
theorem w1182 : (Jvm.Cond.soleField "TripleStore$Found" "all") ∈ lw_tbl := lw_at lw_m5 160 rfl
theorem w1183 : (Jvm.Cond.lays "TripleStore$Found" "TripleStore$Found" "count" "I") ∈ lw_tbl := lw_at lw_m5 161 rfl
theorem w1184 : (Jvm.Cond.soleField "TripleStore$Found" "count") ∈ lw_tbl := lw_at lw_m5 162 rfl
theorem w1185 : (Jvm.Cond.superclass "TripleStore$Found" "java/lang/Object") ∈ lw_tbl := lw_at lw_m5 163 rfl
theorem w1186 : (Jvm.Cond.classLink "TripleStore$Group" (24 : Nat) "TripleStore$Solution") ∈ lw_tbl := lw_at lw_m5 164 rfl
theorem w1187 : (Jvm.Cond.instantiable "TripleStore$Solution" (1 : Nat)) ∈ lw_tbl := lw_at lw_m5 165 rfl
theorem w1188 : (Jvm.Cond.methodLinkNest "TripleStore$Group" (26 : Nat) ({ cls := "TripleStore$Solution", name := "<init>", desc := "()V" } : Jvm.MethodName) "TripleStore") ∈ lw_tbl := lw_at lw_m5 166 rfl
theorem w1189 : (Jvm.Cond.instanceMethod ({ cls := "TripleStore$Solution", name := "<init>", desc := "()V" } : Jvm.MethodName)) ∈ lw_tbl := lw_at lw_m5 167 rfl
theorem w1190 : (Jvm.Cond.code ({ cls := "TripleStore$Solution", name := "<init>", desc := "()V" } : Jvm.MethodName) prog_19_method_1_code (1 : Nat) (Option.none : Option Jvm.ClassFile.FieldType)) ∈ lw_tbl := lw_at lw_m5 168 rfl
theorem w1191 : (Jvm.Cond.methodLink "TripleStore$Solution" (1 : Nat) ({ cls := "java/lang/Object", name := "<init>", desc := "()V" } : Jvm.MethodName)) ∈ lw_tbl := lw_at lw_m5 169 rfl
theorem w1192 : (Jvm.Cond.classLink "TripleStore$Solution" (7 : Nat) "TripleStore$Term") ∈ lw_tbl := lw_at lw_m5 170 rfl
theorem w1193 : (Jvm.Cond.fieldLink "TripleStore$Solution" (9 : Nat) "TripleStore$Solution" "given" "[LTripleStore$Term;") ∈ lw_tbl := lw_at lw_m5 171 rfl
theorem w1194 : (Jvm.Cond.fieldLinkNest "TripleStore$Row" (13 : Nat) "TripleStore$Solution" "given" "[LTripleStore$Term;" "TripleStore") ∈ lw_tbl := lw_at lw_m5 172 rfl
theorem w1195 : (Jvm.Cond.fieldLinkNest "TripleStore$Bound" (13 : Nat) "TripleStore$Solution" "given" "[LTripleStore$Term;" "TripleStore") ∈ lw_tbl := lw_at lw_m5 173 rfl
theorem w1196 : (Jvm.Cond.fieldLinkNest "TripleStore$Side" (17 : Nat) "TripleStore$Solution" "given" "[LTripleStore$Term;" "TripleStore") ∈ lw_tbl := lw_at lw_m5 174 rfl
theorem w1197 : (Jvm.Cond.fieldLinkNest "TripleStore$Pattern" (38 : Nat) "TripleStore$Solution" "given" "[LTripleStore$Term;" "TripleStore") ∈ lw_tbl := lw_at lw_m5 175 rfl
theorem w1198 : (Jvm.Cond.laysFinal "TripleStore$Solution" "TripleStore$Solution" "given" "[LTripleStore$Term;") ∈ lw_tbl := lw_at lw_m5 176 rfl
theorem w1199 : (Jvm.Cond.soleField "TripleStore$Solution" "given") ∈ lw_tbl := lw_at lw_m5 177 rfl
theorem w1200 : (Jvm.Cond.superclass "TripleStore$Solution" "java/lang/Object") ∈ lw_tbl := lw_at lw_m5 178 rfl
theorem w1201 : (Jvm.Cond.methodLink "TripleStore$Group" (27 : Nat) ({ cls := "TripleStore$Found", name := "add", desc := "(LTripleStore$Solution;)V" } : Jvm.MethodName)) ∈ lw_tbl := lw_at lw_m5 179 rfl
theorem w1202 : (Jvm.Cond.instanceMethod ({ cls := "TripleStore$Found", name := "add", desc := "(LTripleStore$Solution;)V" } : Jvm.MethodName)) ∈ lw_tbl := lw_at lw_m5 180 rfl
theorem w1203 : (Jvm.Cond.selects "TripleStore$Found" ({ cls := "TripleStore$Found", name := "add", desc := "(LTripleStore$Solution;)V" } : Jvm.MethodName) ({ cls := "TripleStore$Found", name := "add", desc := "(LTripleStore$Solution;)V" } : Jvm.MethodName)) ∈ lw_tbl := lw_at lw_m5 181 rfl
theorem w1204 : (Jvm.Cond.code ({ cls := "TripleStore$Found", name := "add", desc := "(LTripleStore$Solution;)V" } : Jvm.MethodName) prog_8_method_2_code (2 : Nat) (Option.none : Option Jvm.ClassFile.FieldType)) ∈ lw_tbl := lw_at lw_m5 182 rfl
theorem w1205 : (Jvm.Cond.classLink "TripleStore$Found" (21 : Nat) "java/lang/IllegalStateException") ∈ lw_tbl := lw_at lw_m5 183 rfl
theorem w1206 : (Jvm.Cond.methodLink "TripleStore$Found" (23 : Nat) ({ cls := "java/lang/IllegalStateException", name := "<init>", desc := "()V" } : Jvm.MethodName)) ∈ lw_tbl := lw_at lw_m5 184 rfl
theorem w1207 : (Jvm.Cond.methodLink "TripleStore$Group" (31 : Nat) ({ cls := "TripleStore$Element", name := "apply", desc := "(LTripleStore$Found;LTripleStore;)LTripleStore$Found;" } : Jvm.MethodName)) ∈ lw_tbl := lw_at lw_m5 185 rfl
theorem w1208 : (Jvm.Cond.declares ({ cls := "TripleStore$Element", name := "apply", desc := "(LTripleStore$Found;LTripleStore;)LTripleStore$Found;" } : Jvm.MethodName)) ∈ lw_tbl := lw_at lw_m5 186 rfl
theorem w1209 : (Jvm.Cond.sameMethod "TripleStore$Element" "TripleStore$Element" "apply" "(LTripleStore$Found;LTripleStore;)LTripleStore$Found;") ∈ lw_tbl := lw_at lw_m5 187 rfl
theorem w1210 : (Jvm.Cond.selects "TripleStore$Filter" ({ cls := "TripleStore$Element", name := "apply", desc := "(LTripleStore$Found;LTripleStore;)LTripleStore$Found;" } : Jvm.MethodName) ({ cls := "TripleStore$Filter", name := "apply", desc := "(LTripleStore$Found;LTripleStore;)LTripleStore$Found;" } : Jvm.MethodName)) ∈ lw_tbl := lw_at lw_m5 188 rfl
theorem w1211 : (Jvm.Cond.instanceMethod ({ cls := "TripleStore$Filter", name := "apply", desc := "(LTripleStore$Found;LTripleStore;)LTripleStore$Found;" } : Jvm.MethodName)) ∈ lw_tbl := lw_at lw_m5 189 rfl
theorem w1212 : (Jvm.Cond.code ({ cls := "TripleStore$Filter", name := "apply", desc := "(LTripleStore$Found;LTripleStore;)LTripleStore$Found;" } : Jvm.MethodName) prog_7_method_2_code (3 : Nat) (Option.some (Jvm.ClassFile.FieldType.object "TripleStore$Found"))) ∈ lw_tbl := lw_at lw_m5 190 rfl
theorem w1213 : (Jvm.Cond.selects "TripleStore$Minus" ({ cls := "TripleStore$Element", name := "apply", desc := "(LTripleStore$Found;LTripleStore;)LTripleStore$Found;" } : Jvm.MethodName) ({ cls := "TripleStore$Minus", name := "apply", desc := "(LTripleStore$Found;LTripleStore;)LTripleStore$Found;" } : Jvm.MethodName)) ∈ lw_tbl := lw_at lw_m5 191 rfl
theorem w1214 : (Jvm.Cond.instanceMethod ({ cls := "TripleStore$Minus", name := "apply", desc := "(LTripleStore$Found;LTripleStore;)LTripleStore$Found;" } : Jvm.MethodName)) ∈ lw_tbl := lw_at lw_m5 192 rfl
theorem w1215 : (Jvm.Cond.code ({ cls := "TripleStore$Minus", name := "apply", desc := "(LTripleStore$Found;LTripleStore;)LTripleStore$Found;" } : Jvm.MethodName) prog_10_method_3_code (6 : Nat) (Option.some (Jvm.ClassFile.FieldType.object "TripleStore$Found"))) ∈ lw_tbl := lw_at lw_m5 193 rfl
theorem w1216 : (Jvm.Cond.methodLink "TripleStore$Minus" (32 : Nat) ({ cls := "TripleStore$Group", name := "find", desc := "(LTripleStore;)LTripleStore$Found;" } : Jvm.MethodName)) ∈ lw_tbl := lw_at lw_m5 194 rfl
theorem w1217 : (Jvm.Cond.classLink "TripleStore$Minus" (14 : Nat) "TripleStore$Found") ∈ lw_tbl := lw_at lw_m5 195 rfl
theorem w1218 : (Jvm.Cond.methodLinkNest "TripleStore$Minus" (38 : Nat) ({ cls := "TripleStore$Found", name := "<init>", desc := "()V" } : Jvm.MethodName) "TripleStore") ∈ lw_tbl := lw_at lw_m5 196 rfl
theorem w1219 : (Jvm.Cond.methodLink "TripleStore$Minus" (39 : Nat) ({ cls := "TripleStore$Minus", name := "excluded", desc := "(LTripleStore$Solution;LTripleStore$Found;)Z" } : Jvm.MethodName)) ∈ lw_tbl := lw_at lw_m5 197 rfl
theorem w1220 : (Jvm.Cond.static ({ cls := "TripleStore$Minus", name := "excluded", desc := "(LTripleStore$Solution;LTripleStore$Found;)Z" } : Jvm.MethodName)) ∈ lw_tbl := lw_at lw_m5 198 rfl
theorem w1221 : (Jvm.Cond.code ({ cls := "TripleStore$Minus", name := "excluded", desc := "(LTripleStore$Solution;LTripleStore$Found;)Z" } : Jvm.MethodName) prog_10_method_2_code (3 : Nat) (Option.some Jvm.ClassFile.FieldType.boolean)) ∈ lw_tbl := lw_at lw_m5 199 rfl
theorem w1222 : (Jvm.Cond.methodLink "TripleStore$Minus" (23 : Nat) ({ cls := "TripleStore$Solution", name := "compatible", desc := "(LTripleStore$Solution;)Z" } : Jvm.MethodName)) ∈ lw_tbl := lw_at lw_m5 200 rfl
theorem w1223 : (Jvm.Cond.instanceMethod ({ cls := "TripleStore$Solution", name := "compatible", desc := "(LTripleStore$Solution;)Z" } : Jvm.MethodName)) ∈ lw_tbl := lw_at lw_m5 201 rfl
theorem w1224 : (Jvm.Cond.selects "TripleStore$Solution" ({ cls := "TripleStore$Solution", name := "compatible", desc := "(LTripleStore$Solution;)Z" } : Jvm.MethodName) ({ cls := "TripleStore$Solution", name := "compatible", desc := "(LTripleStore$Solution;)Z" } : Jvm.MethodName)) ∈ lw_tbl := lw_at lw_m5 202 rfl
theorem w1225 : (Jvm.Cond.code ({ cls := "TripleStore$Solution", name := "compatible", desc := "(LTripleStore$Solution;)Z" } : Jvm.MethodName) prog_19_method_2_code (3 : Nat) (Option.some Jvm.ClassFile.FieldType.boolean)) ∈ lw_tbl := lw_at lw_m5 203 rfl
theorem w1226 : (Jvm.Cond.methodLink "TripleStore$Solution" (15 : Nat) ({ cls := "TripleStore$Term", name := "same", desc := "(LTripleStore$Term;)Z" } : Jvm.MethodName)) ∈ lw_tbl := lw_at lw_m5 204 rfl
theorem w1227 : (Jvm.Cond.methodLink "TripleStore$Minus" (29 : Nat) ({ cls := "TripleStore$Solution", name := "shares", desc := "(LTripleStore$Solution;)Z" } : Jvm.MethodName)) ∈ lw_tbl := lw_at lw_m5 205 rfl
theorem w1228 : (Jvm.Cond.instanceMethod ({ cls := "TripleStore$Solution", name := "shares", desc := "(LTripleStore$Solution;)Z" } : Jvm.MethodName)) ∈ lw_tbl := lw_at lw_m5 206 rfl
theorem w1229 : (Jvm.Cond.selects "TripleStore$Solution" ({ cls := "TripleStore$Solution", name := "shares", desc := "(LTripleStore$Solution;)Z" } : Jvm.MethodName) ({ cls := "TripleStore$Solution", name := "shares", desc := "(LTripleStore$Solution;)Z" } : Jvm.MethodName)) ∈ lw_tbl := lw_at lw_m5 207 rfl
theorem w1230 : (Jvm.Cond.code ({ cls := "TripleStore$Solution", name := "shares", desc := "(LTripleStore$Solution;)Z" } : Jvm.MethodName) prog_19_method_3_code (3 : Nat) (Option.some Jvm.ClassFile.FieldType.boolean)) ∈ lw_tbl := lw_at lw_m5 208 rfl
theorem w1231 : (Jvm.Cond.methodLink "TripleStore$Minus" (43 : Nat) ({ cls := "TripleStore$Found", name := "add", desc := "(LTripleStore$Solution;)V" } : Jvm.MethodName)) ∈ lw_tbl := lw_at lw_m5 209 rfl
theorem w1232 : (Jvm.Cond.selects "TripleStore$Optional" ({ cls := "TripleStore$Element", name := "apply", desc := "(LTripleStore$Found;LTripleStore;)LTripleStore$Found;" } : Jvm.MethodName) ({ cls := "TripleStore$Optional", name := "apply", desc := "(LTripleStore$Found;LTripleStore;)LTripleStore$Found;" } : Jvm.MethodName)) ∈ lw_tbl := lw_at lw_m5 210 rfl
theorem w1233 : (Jvm.Cond.instanceMethod ({ cls := "TripleStore$Optional", name := "apply", desc := "(LTripleStore$Found;LTripleStore;)LTripleStore$Found;" } : Jvm.MethodName)) ∈ lw_tbl := lw_at lw_m5 211 rfl
theorem w1234 : (Jvm.Cond.code ({ cls := "TripleStore$Optional", name := "apply", desc := "(LTripleStore$Found;LTripleStore;)LTripleStore$Found;" } : Jvm.MethodName) prog_13_method_2_code (8 : Nat) (Option.some (Jvm.ClassFile.FieldType.object "TripleStore$Found"))) ∈ lw_tbl := lw_at lw_m5 212 rfl
theorem w1235 : (Jvm.Cond.methodLink "TripleStore$Optional" (13 : Nat) ({ cls := "TripleStore$Group", name := "find", desc := "(LTripleStore;)LTripleStore$Found;" } : Jvm.MethodName)) ∈ lw_tbl := lw_at lw_m5 213 rfl
theorem w1236 : (Jvm.Cond.classLink "TripleStore$Optional" (19 : Nat) "TripleStore$Found") ∈ lw_tbl := lw_at lw_m5 214 rfl
theorem w1237 : (Jvm.Cond.methodLinkNest "TripleStore$Optional" (21 : Nat) ({ cls := "TripleStore$Found", name := "<init>", desc := "()V" } : Jvm.MethodName) "TripleStore") ∈ lw_tbl := lw_at lw_m5 215 rfl
theorem w1238 : (Jvm.Cond.methodLink "TripleStore$Optional" (30 : Nat) ({ cls := "TripleStore$Solution", name := "compatible", desc := "(LTripleStore$Solution;)Z" } : Jvm.MethodName)) ∈ lw_tbl := lw_at lw_m5 216 rfl
theorem w1239 : (Jvm.Cond.methodLink "TripleStore$Optional" (36 : Nat) ({ cls := "TripleStore$Solution", name := "join", desc := "(LTripleStore$Solution;)LTripleStore$Solution;" } : Jvm.MethodName)) ∈ lw_tbl := lw_at lw_m5 217 rfl
theorem w1240 : (Jvm.Cond.instanceMethod ({ cls := "TripleStore$Solution", name := "join", desc := "(LTripleStore$Solution;)LTripleStore$Solution;" } : Jvm.MethodName)) ∈ lw_tbl := lw_at lw_m5 218 rfl
theorem w1241 : (Jvm.Cond.selects "TripleStore$Solution" ({ cls := "TripleStore$Solution", name := "join", desc := "(LTripleStore$Solution;)LTripleStore$Solution;" } : Jvm.MethodName) ({ cls := "TripleStore$Solution", name := "join", desc := "(LTripleStore$Solution;)LTripleStore$Solution;" } : Jvm.MethodName)) ∈ lw_tbl := lw_at lw_m5 219 rfl
theorem w1242 : (Jvm.Cond.code ({ cls := "TripleStore$Solution", name := "join", desc := "(LTripleStore$Solution;)LTripleStore$Solution;" } : Jvm.MethodName) prog_19_method_4_code (4 : Nat) (Option.some (Jvm.ClassFile.FieldType.object "TripleStore$Solution"))) ∈ lw_tbl := lw_at lw_m5 220 rfl
theorem w1243 : (Jvm.Cond.classLink "TripleStore$Solution" (10 : Nat) "TripleStore$Solution") ∈ lw_tbl := lw_at lw_m5 221 rfl
theorem w1244 : (Jvm.Cond.methodLink "TripleStore$Solution" (19 : Nat) ({ cls := "TripleStore$Solution", name := "<init>", desc := "()V" } : Jvm.MethodName)) ∈ lw_tbl := lw_at lw_m5 222 rfl
theorem w1245 : (Jvm.Cond.methodLink "TripleStore$Optional" (40 : Nat) ({ cls := "TripleStore$Found", name := "add", desc := "(LTripleStore$Solution;)V" } : Jvm.MethodName)) ∈ lw_tbl := lw_at lw_m5 223 rfl
theorem w1246 : (Jvm.Cond.selects "TripleStore$Pattern" ({ cls := "TripleStore$Element", name := "apply", desc := "(LTripleStore$Found;LTripleStore;)LTripleStore$Found;" } : Jvm.MethodName) ({ cls := "TripleStore$Pattern", name := "apply", desc := "(LTripleStore$Found;LTripleStore;)LTripleStore$Found;" } : Jvm.MethodName)) ∈ lw_tbl := lw_at lw_m5 224 rfl
theorem w1247 : (Jvm.Cond.instanceMethod ({ cls := "TripleStore$Pattern", name := "apply", desc := "(LTripleStore$Found;LTripleStore;)LTripleStore$Found;" } : Jvm.MethodName)) ∈ lw_tbl := lw_at lw_m5 225 rfl
theorem w1248 : (Jvm.Cond.code ({ cls := "TripleStore$Pattern", name := "apply", desc := "(LTripleStore$Found;LTripleStore;)LTripleStore$Found;" } : Jvm.MethodName) prog_14_method_3_code (6 : Nat) (Option.some (Jvm.ClassFile.FieldType.object "TripleStore$Found"))) ∈ lw_tbl := lw_at lw_m5 226 rfl
theorem w1249 : (Jvm.Cond.classLink "TripleStore$Pattern" (45 : Nat) "TripleStore$Found") ∈ lw_tbl := lw_at lw_m5 227 rfl
theorem w1250 : (Jvm.Cond.methodLinkNest "TripleStore$Pattern" (47 : Nat) ({ cls := "TripleStore$Found", name := "<init>", desc := "()V" } : Jvm.MethodName) "TripleStore") ∈ lw_tbl := lw_at lw_m5 228 rfl
theorem w1251 : (Jvm.Cond.methodLink "TripleStore$Pattern" (57 : Nat) ({ cls := "TripleStore$Pattern", name := "match", desc := "(LTripleStore$Triple;)LTripleStore$Solution;" } : Jvm.MethodName)) ∈ lw_tbl := lw_at lw_m5 229 rfl
theorem w1252 : (Jvm.Cond.privateMethod ({ cls := "TripleStore$Pattern", name := "match", desc := "(LTripleStore$Triple;)LTripleStore$Solution;" } : Jvm.MethodName)) ∈ lw_tbl := lw_at lw_m5 230 rfl
theorem w1253 : (Jvm.Cond.instanceMethod ({ cls := "TripleStore$Pattern", name := "match", desc := "(LTripleStore$Triple;)LTripleStore$Solution;" } : Jvm.MethodName)) ∈ lw_tbl := lw_at lw_m5 231 rfl
theorem w1254 : (Jvm.Cond.code ({ cls := "TripleStore$Pattern", name := "match", desc := "(LTripleStore$Triple;)LTripleStore$Solution;" } : Jvm.MethodName) prog_14_method_2_code (5 : Nat) (Option.some (Jvm.ClassFile.FieldType.object "TripleStore$Solution"))) ∈ lw_tbl := lw_at lw_m5 232 rfl
theorem w1255 : (Jvm.Cond.classLink "TripleStore$Pattern" (13 : Nat) "TripleStore$Solution") ∈ lw_tbl := lw_at lw_m5 233 rfl
theorem w1256 : (Jvm.Cond.methodLinkNest "TripleStore$Pattern" (15 : Nat) ({ cls := "TripleStore$Solution", name := "<init>", desc := "()V" } : Jvm.MethodName) "TripleStore") ∈ lw_tbl := lw_at lw_m5 234 rfl
theorem w1257 : (Jvm.Cond.methodLink "TripleStore$Pattern" (16 : Nat) ({ cls := "TripleStore$Side", name := "in", desc := "(LTripleStore$Solution;)LTripleStore$Term;" } : Jvm.MethodName)) ∈ lw_tbl := lw_at lw_m5 235 rfl
theorem w1258 : (Jvm.Cond.instanceMethod ({ cls := "TripleStore$Side", name := "in", desc := "(LTripleStore$Solution;)LTripleStore$Term;" } : Jvm.MethodName)) ∈ lw_tbl := lw_at lw_m5 236 rfl
theorem w1259 : (Jvm.Cond.selects "TripleStore$Side" ({ cls := "TripleStore$Side", name := "in", desc := "(LTripleStore$Solution;)LTripleStore$Term;" } : Jvm.MethodName) ({ cls := "TripleStore$Side", name := "in", desc := "(LTripleStore$Solution;)LTripleStore$Term;" } : Jvm.MethodName)) ∈ lw_tbl := lw_at lw_m5 237 rfl
theorem w1260 : (Jvm.Cond.code ({ cls := "TripleStore$Side", name := "in", desc := "(LTripleStore$Solution;)LTripleStore$Term;" } : Jvm.MethodName) prog_18_method_2_code (2 : Nat) (Option.some (Jvm.ClassFile.FieldType.object "TripleStore$Term"))) ∈ lw_tbl := lw_at lw_m5 238 rfl
theorem w1261 : (Jvm.Cond.methodLink "TripleStore$Pattern" (28 : Nat) ({ cls := "TripleStore$Term", name := "same", desc := "(LTripleStore$Term;)Z" } : Jvm.MethodName)) ∈ lw_tbl := lw_at lw_m5 239 rfl
theorem w1262 : (Jvm.Cond.methodLink "TripleStore$Pattern" (61 : Nat) ({ cls := "TripleStore$Found", name := "add", desc := "(LTripleStore$Solution;)V" } : Jvm.MethodName)) ∈ lw_tbl := lw_at lw_m6 0 rfl
theorem w1263 : (Jvm.Cond.methodLink "TripleStore$Pattern" (65 : Nat) ({ cls := "TripleStore$Found", name := "joined", desc := "(LTripleStore$Found;)LTripleStore$Found;" } : Jvm.MethodName)) ∈ lw_tbl := lw_at lw_m6 1 rfl
theorem w1264 : (Jvm.Cond.instanceMethod ({ cls := "TripleStore$Found", name := "joined", desc := "(LTripleStore$Found;)LTripleStore$Found;" } : Jvm.MethodName)) ∈ lw_tbl := lw_at lw_m6 2 rfl
theorem w1265 : (Jvm.Cond.selects "TripleStore$Found" ({ cls := "TripleStore$Found", name := "joined", desc := "(LTripleStore$Found;)LTripleStore$Found;" } : Jvm.MethodName) ({ cls := "TripleStore$Found", name := "joined", desc := "(LTripleStore$Found;)LTripleStore$Found;" } : Jvm.MethodName)) ∈ lw_tbl := lw_at lw_m6 3 rfl
theorem w1266 : (Jvm.Cond.code ({ cls := "TripleStore$Found", name := "joined", desc := "(LTripleStore$Found;)LTripleStore$Found;" } : Jvm.MethodName) prog_8_method_3_code (5 : Nat) (Option.some (Jvm.ClassFile.FieldType.object "TripleStore$Found"))) ∈ lw_tbl := lw_at lw_m6 4 rfl
theorem w1267 : (Jvm.Cond.classLink "TripleStore$Found" (12 : Nat) "TripleStore$Found") ∈ lw_tbl := lw_at lw_m6 5 rfl
theorem w1268 : (Jvm.Cond.methodLink "TripleStore$Found" (24 : Nat) ({ cls := "TripleStore$Found", name := "<init>", desc := "()V" } : Jvm.MethodName)) ∈ lw_tbl := lw_at lw_m6 6 rfl
theorem w1269 : (Jvm.Cond.methodLink "TripleStore$Found" (25 : Nat) ({ cls := "TripleStore$Solution", name := "compatible", desc := "(LTripleStore$Solution;)Z" } : Jvm.MethodName)) ∈ lw_tbl := lw_at lw_m6 7 rfl
theorem w1270 : (Jvm.Cond.methodLink "TripleStore$Found" (29 : Nat) ({ cls := "TripleStore$Solution", name := "join", desc := "(LTripleStore$Solution;)LTripleStore$Solution;" } : Jvm.MethodName)) ∈ lw_tbl := lw_at lw_m6 8 rfl
theorem w1271 : (Jvm.Cond.methodLink "TripleStore$Found" (33 : Nat) ({ cls := "TripleStore$Found", name := "add", desc := "(LTripleStore$Solution;)V" } : Jvm.MethodName)) ∈ lw_tbl := lw_at lw_m6 9 rfl
theorem w1272 : (Jvm.Cond.selects "TripleStore$Union" ({ cls := "TripleStore$Element", name := "apply", desc := "(LTripleStore$Found;LTripleStore;)LTripleStore$Found;" } : Jvm.MethodName) ({ cls := "TripleStore$Union", name := "apply", desc := "(LTripleStore$Found;LTripleStore;)LTripleStore$Found;" } : Jvm.MethodName)) ∈ lw_tbl := lw_at lw_m6 10 rfl
theorem w1273 : (Jvm.Cond.instanceMethod ({ cls := "TripleStore$Union", name := "apply", desc := "(LTripleStore$Found;LTripleStore;)LTripleStore$Found;" } : Jvm.MethodName)) ∈ lw_tbl := lw_at lw_m6 11 rfl
theorem w1274 : (Jvm.Cond.code ({ cls := "TripleStore$Union", name := "apply", desc := "(LTripleStore$Found;LTripleStore;)LTripleStore$Found;" } : Jvm.MethodName) prog_23_method_3_code (7 : Nat) (Option.some (Jvm.ClassFile.FieldType.object "TripleStore$Found"))) ∈ lw_tbl := lw_at lw_m6 12 rfl
theorem w1275 : (Jvm.Cond.classLink "TripleStore$Union" (19 : Nat) "TripleStore$Found") ∈ lw_tbl := lw_at lw_m6 13 rfl
theorem w1276 : (Jvm.Cond.methodLinkNest "TripleStore$Union" (21 : Nat) ({ cls := "TripleStore$Found", name := "<init>", desc := "()V" } : Jvm.MethodName) "TripleStore") ∈ lw_tbl := lw_at lw_m6 14 rfl
theorem w1277 : (Jvm.Cond.methodLink "TripleStore$Union" (22 : Nat) ({ cls := "TripleStore$Group", name := "find", desc := "(LTripleStore;)LTripleStore$Found;" } : Jvm.MethodName)) ∈ lw_tbl := lw_at lw_m6 15 rfl
theorem w1278 : (Jvm.Cond.methodLink "TripleStore$Union" (31 : Nat) ({ cls := "TripleStore$Found", name := "add", desc := "(LTripleStore$Solution;)V" } : Jvm.MethodName)) ∈ lw_tbl := lw_at lw_m6 16 rfl
theorem w1279 : (Jvm.Cond.methodLink "TripleStore$Union" (35 : Nat) ({ cls := "TripleStore$Found", name := "joined", desc := "(LTripleStore$Found;)LTripleStore$Found;" } : Jvm.MethodName)) ∈ lw_tbl := lw_at lw_m6 17 rfl
theorem w1280 : (Jvm.Cond.classLink "TripleStore$Group" (35 : Nat) "TripleStore$Filter") ∈ lw_tbl := lw_at lw_m6 18 rfl
theorem w1281 : (Jvm.Cond.methodLink "TripleStore$Group" (37 : Nat) ({ cls := "TripleStore$Filter", name := "filtered", desc := "(LTripleStore$Found;)LTripleStore$Found;" } : Jvm.MethodName)) ∈ lw_tbl := lw_at lw_m6 19 rfl
theorem w1282 : (Jvm.Cond.instanceMethod ({ cls := "TripleStore$Filter", name := "filtered", desc := "(LTripleStore$Found;)LTripleStore$Found;" } : Jvm.MethodName)) ∈ lw_tbl := lw_at lw_m6 20 rfl
theorem w1283 : (Jvm.Cond.selects "TripleStore$Filter" ({ cls := "TripleStore$Filter", name := "filtered", desc := "(LTripleStore$Found;)LTripleStore$Found;" } : Jvm.MethodName) ({ cls := "TripleStore$Filter", name := "filtered", desc := "(LTripleStore$Found;)LTripleStore$Found;" } : Jvm.MethodName)) ∈ lw_tbl := lw_at lw_m6 21 rfl
theorem w1284 : (Jvm.Cond.code ({ cls := "TripleStore$Filter", name := "filtered", desc := "(LTripleStore$Found;)LTripleStore$Found;" } : Jvm.MethodName) prog_7_method_3_code (4 : Nat) (Option.some (Jvm.ClassFile.FieldType.object "TripleStore$Found"))) ∈ lw_tbl := lw_at lw_m6 22 rfl
theorem w1285 : (Jvm.Cond.classLink "TripleStore$Filter" (13 : Nat) "TripleStore$Found") ∈ lw_tbl := lw_at lw_m6 23 rfl
theorem w1286 : (Jvm.Cond.methodLinkNest "TripleStore$Filter" (15 : Nat) ({ cls := "TripleStore$Found", name := "<init>", desc := "()V" } : Jvm.MethodName) "TripleStore") ∈ lw_tbl := lw_at lw_m6 24 rfl
theorem w1287 : (Jvm.Cond.methodLink "TripleStore$Filter" (24 : Nat) ({ cls := "TripleStore$Test", name := "holds", desc := "(LTripleStore$Solution;)Z" } : Jvm.MethodName)) ∈ lw_tbl := lw_at lw_m6 25 rfl
theorem w1288 : (Jvm.Cond.declares ({ cls := "TripleStore$Test", name := "holds", desc := "(LTripleStore$Solution;)Z" } : Jvm.MethodName)) ∈ lw_tbl := lw_at lw_m6 26 rfl
theorem w1289 : (Jvm.Cond.sameMethod "TripleStore$Test" "TripleStore$Test" "holds" "(LTripleStore$Solution;)Z") ∈ lw_tbl := lw_at lw_m6 27 rfl
theorem w1290 : (Jvm.Cond.selects "TripleStore$Bound" ({ cls := "TripleStore$Test", name := "holds", desc := "(LTripleStore$Solution;)Z" } : Jvm.MethodName) ({ cls := "TripleStore$Bound", name := "holds", desc := "(LTripleStore$Solution;)Z" } : Jvm.MethodName)) ∈ lw_tbl := lw_at lw_m6 28 rfl
theorem w1291 : (Jvm.Cond.instanceMethod ({ cls := "TripleStore$Bound", name := "holds", desc := "(LTripleStore$Solution;)Z" } : Jvm.MethodName)) ∈ lw_tbl := lw_at lw_m6 29 rfl
theorem w1292 : (Jvm.Cond.code ({ cls := "TripleStore$Bound", name := "holds", desc := "(LTripleStore$Solution;)Z" } : Jvm.MethodName) prog_2_method_2_code (2 : Nat) (Option.some Jvm.ClassFile.FieldType.boolean)) ∈ lw_tbl := lw_at lw_m6 30 rfl
theorem w1293 : (Jvm.Cond.selects "TripleStore$Comparison" ({ cls := "TripleStore$Test", name := "holds", desc := "(LTripleStore$Solution;)Z" } : Jvm.MethodName) ({ cls := "TripleStore$Comparison", name := "holds", desc := "(LTripleStore$Solution;)Z" } : Jvm.MethodName)) ∈ lw_tbl := lw_at lw_m6 31 rfl
theorem w1294 : (Jvm.Cond.instanceMethod ({ cls := "TripleStore$Comparison", name := "holds", desc := "(LTripleStore$Solution;)Z" } : Jvm.MethodName)) ∈ lw_tbl := lw_at lw_m6 32 rfl
theorem w1295 : (Jvm.Cond.code ({ cls := "TripleStore$Comparison", name := "holds", desc := "(LTripleStore$Solution;)Z" } : Jvm.MethodName) prog_5_method_2_code (4 : Nat) (Option.some Jvm.ClassFile.FieldType.boolean)) ∈ lw_tbl := lw_at lw_m6 33 rfl
theorem w1296 : (Jvm.Cond.methodLink "TripleStore$Comparison" (20 : Nat) ({ cls := "TripleStore$Side", name := "in", desc := "(LTripleStore$Solution;)LTripleStore$Term;" } : Jvm.MethodName)) ∈ lw_tbl := lw_at lw_m6 34 rfl
theorem w1297 : (Jvm.Cond.methodLink "TripleStore$Comparison" (26 : Nat) ({ cls := "TripleStore$Term", name := "same", desc := "(LTripleStore$Term;)Z" } : Jvm.MethodName)) ∈ lw_tbl := lw_at lw_m6 35 rfl
theorem w1298 : (Jvm.Cond.methodLink "TripleStore$Comparison" (32 : Nat) ({ cls := "TripleStore$Term", name := "less", desc := "(LTripleStore$Term;)Z" } : Jvm.MethodName)) ∈ lw_tbl := lw_at lw_m6 36 rfl
theorem w1299 : (Jvm.Cond.declares ({ cls := "TripleStore$Term", name := "less", desc := "(LTripleStore$Term;)Z" } : Jvm.MethodName)) ∈ lw_tbl := lw_at lw_m6 37 rfl
theorem w1300 : (Jvm.Cond.sameMethod "TripleStore$Term" "TripleStore$Term" "less" "(LTripleStore$Term;)Z") ∈ lw_tbl := lw_at lw_m6 38 rfl
theorem w1301 : (Jvm.Cond.selects "TripleStore$Numeral" ({ cls := "TripleStore$Term", name := "less", desc := "(LTripleStore$Term;)Z" } : Jvm.MethodName) ({ cls := "TripleStore$Numeral", name := "less", desc := "(LTripleStore$Term;)Z" } : Jvm.MethodName)) ∈ lw_tbl := lw_at lw_m6 39 rfl
theorem w1302 : (Jvm.Cond.instanceMethod ({ cls := "TripleStore$Numeral", name := "less", desc := "(LTripleStore$Term;)Z" } : Jvm.MethodName)) ∈ lw_tbl := lw_at lw_m6 40 rfl
theorem w1303 : (Jvm.Cond.code ({ cls := "TripleStore$Numeral", name := "less", desc := "(LTripleStore$Term;)Z" } : Jvm.MethodName) prog_12_method_3_code (2 : Nat) (Option.some Jvm.ClassFile.FieldType.boolean)) ∈ lw_tbl := lw_at lw_m6 41 rfl
theorem w1304 : (Jvm.Cond.selects "TripleStore$Word" ({ cls := "TripleStore$Term", name := "less", desc := "(LTripleStore$Term;)Z" } : Jvm.MethodName) ({ cls := "TripleStore$Word", name := "less", desc := "(LTripleStore$Term;)Z" } : Jvm.MethodName)) ∈ lw_tbl := lw_at lw_m6 42 rfl
theorem w1305 : (Jvm.Cond.instanceMethod ({ cls := "TripleStore$Word", name := "less", desc := "(LTripleStore$Term;)Z" } : Jvm.MethodName)) ∈ lw_tbl := lw_at lw_m6 43 rfl
theorem w1306 : (Jvm.Cond.code ({ cls := "TripleStore$Word", name := "less", desc := "(LTripleStore$Term;)Z" } : Jvm.MethodName) prog_24_method_3_code (4 : Nat) (Option.some Jvm.ClassFile.FieldType.boolean)) ∈ lw_tbl := lw_at lw_m6 44 rfl
theorem w1307 : (Jvm.Cond.methodLink "TripleStore$Word" (19 : Nat) ({ cls := "java/lang/String", name := "length", desc := "()I" } : Jvm.MethodName)) ∈ lw_tbl := lw_at lw_m6 45 rfl
theorem w1308 : (Jvm.Cond.methodLink "TripleStore$Word" (23 : Nat) ({ cls := "java/lang/String", name := "charAt", desc := "(I)C" } : Jvm.MethodName)) ∈ lw_tbl := lw_at lw_m6 46 rfl
theorem w1309 : (Jvm.Cond.selects "TripleStore$Not" ({ cls := "TripleStore$Test", name := "holds", desc := "(LTripleStore$Solution;)Z" } : Jvm.MethodName) ({ cls := "TripleStore$Not", name := "holds", desc := "(LTripleStore$Solution;)Z" } : Jvm.MethodName)) ∈ lw_tbl := lw_at lw_m6 47 rfl
theorem w1310 : (Jvm.Cond.instanceMethod ({ cls := "TripleStore$Not", name := "holds", desc := "(LTripleStore$Solution;)Z" } : Jvm.MethodName)) ∈ lw_tbl := lw_at lw_m6 48 rfl
theorem w1311 : (Jvm.Cond.code ({ cls := "TripleStore$Not", name := "holds", desc := "(LTripleStore$Solution;)Z" } : Jvm.MethodName) prog_11_method_2_code (2 : Nat) (Option.some Jvm.ClassFile.FieldType.boolean)) ∈ lw_tbl := lw_at lw_m6 49 rfl
theorem w1312 : (Jvm.Cond.methodLink "TripleStore$Not" (13 : Nat) ({ cls := "TripleStore$Test", name := "holds", desc := "(LTripleStore$Solution;)Z" } : Jvm.MethodName)) ∈ lw_tbl := lw_at lw_m6 50 rfl
theorem w1313 : (Jvm.Cond.methodLink "TripleStore$Filter" (30 : Nat) ({ cls := "TripleStore$Found", name := "add", desc := "(LTripleStore$Solution;)V" } : Jvm.MethodName)) ∈ lw_tbl := lw_at lw_m6 51 rfl
theorem w1314 : (Jvm.Cond.instantiable "TripleStore$Row" (2 : Nat)) ∈ lw_tbl := lw_at lw_m6 52 rfl
theorem w1315 : (Jvm.Cond.methodLink "TripleStore" (222 : Nat) ({ cls := "TripleStore$Row", name := "<init>", desc := "(LTripleStore$Query;LTripleStore$Solution;)V" } : Jvm.MethodName)) ∈ lw_tbl := lw_at lw_m6 53 rfl
theorem w1316 : (Jvm.Cond.instanceMethod ({ cls := "TripleStore$Row", name := "<init>", desc := "(LTripleStore$Query;LTripleStore$Solution;)V" } : Jvm.MethodName)) ∈ lw_tbl := lw_at lw_m6 54 rfl
theorem w1317 : (Jvm.Cond.code ({ cls := "TripleStore$Row", name := "<init>", desc := "(LTripleStore$Query;LTripleStore$Solution;)V" } : Jvm.MethodName) prog_17_method_1_code (4 : Nat) (Option.none : Option Jvm.ClassFile.FieldType)) ∈ lw_tbl := lw_at lw_m6 55 rfl
theorem w1318 : (Jvm.Cond.methodLink "TripleStore$Row" (1 : Nat) ({ cls := "java/lang/Object", name := "<init>", desc := "()V" } : Jvm.MethodName)) ∈ lw_tbl := lw_at lw_m6 56 rfl
theorem w1319 : (Jvm.Cond.classLink "TripleStore$Row" (27 : Nat) "TripleStore$Term") ∈ lw_tbl := lw_at lw_m6 57 rfl
theorem w1320 : (Jvm.Cond.fieldLink "TripleStore$Row" (19 : Nat) "TripleStore$Row" "order" "LTripleStore$Term;") ∈ lw_tbl := lw_at lw_m6 58 rfl
theorem w1321 : (Jvm.Cond.fieldLink "TripleStore$Row" (29 : Nat) "TripleStore$Row" "cells" "[LTripleStore$Term;") ∈ lw_tbl := lw_at lw_m6 59 rfl
theorem w1322 : (Jvm.Cond.fieldLinkNest "TripleStore" (241 : Nat) "TripleStore$Row" "cells" "[LTripleStore$Term;" "TripleStore") ∈ lw_tbl := lw_at lw_m6 60 rfl
theorem w1323 : (Jvm.Cond.laysFinal "TripleStore$Row" "TripleStore$Row" "order" "LTripleStore$Term;") ∈ lw_tbl := lw_at lw_m6 61 rfl
theorem w1324 : (Jvm.Cond.soleField "TripleStore$Row" "order") ∈ lw_tbl := lw_at lw_m6 62 rfl
theorem w1325 : (Jvm.Cond.laysFinal "TripleStore$Row" "TripleStore$Row" "cells" "[LTripleStore$Term;") ∈ lw_tbl := lw_at lw_m6 63 rfl
theorem w1326 : (Jvm.Cond.soleField "TripleStore$Row" "cells") ∈ lw_tbl := lw_at lw_m6 64 rfl
theorem w1327 : (Jvm.Cond.superclass "TripleStore$Row" "java/lang/Object") ∈ lw_tbl := lw_at lw_m6 65 rfl
theorem w1328 : (Jvm.Cond.methodLink "TripleStore" (225 : Nat) ({ cls := "TripleStore", name := "enter", desc := "(LTripleStore$Row;LTripleStore$Query;)V" } : Jvm.MethodName)) ∈ lw_tbl := lw_at lw_m6 66 rfl
theorem w1329 : (Jvm.Cond.privateMethod ({ cls := "TripleStore", name := "enter", desc := "(LTripleStore$Row;LTripleStore$Query;)V" } : Jvm.MethodName)) ∈ lw_tbl := lw_at lw_m6 67 rfl
theorem w1330 : (Jvm.Cond.instanceMethod ({ cls := "TripleStore", name := "enter", desc := "(LTripleStore$Row;LTripleStore$Query;)V" } : Jvm.MethodName)) ∈ lw_tbl := lw_at lw_m6 68 rfl
theorem w1331 : (Jvm.Cond.code ({ cls := "TripleStore", name := "enter", desc := "(LTripleStore$Row;LTripleStore$Query;)V" } : Jvm.MethodName) prog_1_method_21_code (5 : Nat) (Option.none : Option Jvm.ClassFile.FieldType)) ∈ lw_tbl := lw_at lw_m6 69 rfl
theorem w1332 : (Jvm.Cond.methodLink "TripleStore" (178 : Nat) ({ cls := "TripleStore$Row", name := "cellsTo", desc := "(LTripleStore$Row;)I" } : Jvm.MethodName)) ∈ lw_tbl := lw_at lw_m6 70 rfl
theorem w1333 : (Jvm.Cond.instanceMethod ({ cls := "TripleStore$Row", name := "cellsTo", desc := "(LTripleStore$Row;)I" } : Jvm.MethodName)) ∈ lw_tbl := lw_at lw_m6 71 rfl
theorem w1334 : (Jvm.Cond.selects "TripleStore$Row" ({ cls := "TripleStore$Row", name := "cellsTo", desc := "(LTripleStore$Row;)I" } : Jvm.MethodName) ({ cls := "TripleStore$Row", name := "cellsTo", desc := "(LTripleStore$Row;)I" } : Jvm.MethodName)) ∈ lw_tbl := lw_at lw_m6 72 rfl
theorem w1335 : (Jvm.Cond.code ({ cls := "TripleStore$Row", name := "cellsTo", desc := "(LTripleStore$Row;)I" } : Jvm.MethodName) prog_17_method_3_code (4 : Nat) (Option.some Jvm.ClassFile.FieldType.int)) ∈ lw_tbl := lw_at lw_m6 73 rfl
theorem w1336 : (Jvm.Cond.methodLink "TripleStore$Row" (43 : Nat) ({ cls := "TripleStore$Row", name := "compare", desc := "(LTripleStore$Term;LTripleStore$Term;)I" } : Jvm.MethodName)) ∈ lw_tbl := lw_at lw_m6 74 rfl
theorem w1337 : (Jvm.Cond.static ({ cls := "TripleStore$Row", name := "compare", desc := "(LTripleStore$Term;LTripleStore$Term;)I" } : Jvm.MethodName)) ∈ lw_tbl := lw_at lw_m6 75 rfl
theorem w1338 : (Jvm.Cond.code ({ cls := "TripleStore$Row", name := "compare", desc := "(LTripleStore$Term;LTripleStore$Term;)I" } : Jvm.MethodName) prog_17_method_2_code (2 : Nat) (Option.some Jvm.ClassFile.FieldType.int)) ∈ lw_tbl := lw_at lw_m6 76 rfl
theorem w1339 : (Jvm.Cond.methodLink "TripleStore$Row" (36 : Nat) ({ cls := "TripleStore$Term", name := "less", desc := "(LTripleStore$Term;)Z" } : Jvm.MethodName)) ∈ lw_tbl := lw_at lw_m6 77 rfl
theorem w1340 : (Jvm.Cond.methodLink "TripleStore$Row" (40 : Nat) ({ cls := "TripleStore$Term", name := "same", desc := "(LTripleStore$Term;)Z" } : Jvm.MethodName)) ∈ lw_tbl := lw_at lw_m6 78 rfl
theorem w1341 : (Jvm.Cond.methodLink "TripleStore" (185 : Nat) ({ cls := "TripleStore$Row", name := "before", desc := "(LTripleStore$Row;Z)Z" } : Jvm.MethodName)) ∈ lw_tbl := lw_at lw_m6 79 rfl
theorem w1342 : (Jvm.Cond.instanceMethod ({ cls := "TripleStore$Row", name := "before", desc := "(LTripleStore$Row;Z)Z" } : Jvm.MethodName)) ∈ lw_tbl := lw_at lw_m6 80 rfl
theorem w1343 : (Jvm.Cond.selects "TripleStore$Row" ({ cls := "TripleStore$Row", name := "before", desc := "(LTripleStore$Row;Z)Z" } : Jvm.MethodName) ({ cls := "TripleStore$Row", name := "before", desc := "(LTripleStore$Row;Z)Z" } : Jvm.MethodName)) ∈ lw_tbl := lw_at lw_m6 81 rfl
theorem w1344 : (Jvm.Cond.code ({ cls := "TripleStore$Row", name := "before", desc := "(LTripleStore$Row;Z)Z" } : Jvm.MethodName) prog_17_method_4_code (4 : Nat) (Option.some Jvm.ClassFile.FieldType.boolean)) ∈ lw_tbl := lw_at lw_m6 82 rfl
theorem w1345 : (Jvm.Cond.methodLink "TripleStore$Row" (47 : Nat) ({ cls := "TripleStore$Row", name := "cellsTo", desc := "(LTripleStore$Row;)I" } : Jvm.MethodName)) ∈ lw_tbl := lw_at lw_m6 83 rfl
theorem w1346 : (Jvm.Cond.methodLink "TripleStore" (232 : Nat) ({ cls := "java/lang/Math", name := "min", desc := "(II)I" } : Jvm.MethodName)) ∈ lw_tbl := lw_at lw_m6 84 rfl
theorem w1347 : (Jvm.Cond.methodLink "TripleStoreLaw" (99 : Nat) ({ cls := "TripleStoreLaw", name := "cell", desc := "(LTripleStore;II[J)I" } : Jvm.MethodName)) ∈ lw_tbl := lw_at lw_m6 85 rfl
theorem w1348 : (Jvm.Cond.static ({ cls := "TripleStoreLaw", name := "cell", desc := "(LTripleStore;II[J)I" } : Jvm.MethodName)) ∈ lw_tbl := lw_at lw_m6 86 rfl
theorem w1349 : (Jvm.Cond.codeWith ({ cls := "TripleStoreLaw", name := "cell", desc := "(LTripleStore;II[J)I" } : Jvm.MethodName) method_11_code (5 : Nat) (Option.some Jvm.ClassFile.FieldType.int) [((0 : Nat), (9 : Nat), (12 : Nat), (45 : Nat)), ((0 : Nat), (9 : Nat), (16 : Nat), (47 : Nat))]) ∈ lw_tbl := lw_at lw_m6 87 rfl
theorem w1350 : (Jvm.Cond.classLink "TripleStoreLaw" (45 : Nat) "java/util/NoSuchElementException") ∈ lw_tbl := lw_at lw_m6 88 rfl
theorem w1351 : (Jvm.Cond.classLink "TripleStoreLaw" (47 : Nat) "java/lang/UnsupportedOperationException") ∈ lw_tbl := lw_at lw_m6 89 rfl
theorem w1352 : (Jvm.Cond.methodLink "TripleStoreLaw" (41 : Nat) ({ cls := "TripleStore", name := "cell", desc := "(II)J" } : Jvm.MethodName)) ∈ lw_tbl := lw_at lw_m6 90 rfl
theorem w1353 : (Jvm.Cond.instanceMethod ({ cls := "TripleStore", name := "cell", desc := "(II)J" } : Jvm.MethodName)) ∈ lw_tbl := lw_at lw_m6 91 rfl
theorem w1354 : (Jvm.Cond.selects "TripleStore" ({ cls := "TripleStore", name := "cell", desc := "(II)J" } : Jvm.MethodName) ({ cls := "TripleStore", name := "cell", desc := "(II)J" } : Jvm.MethodName)) ∈ lw_tbl := lw_at lw_m6 92 rfl
theorem w1355 : (Jvm.Cond.code ({ cls := "TripleStore", name := "cell", desc := "(II)J" } : Jvm.MethodName) prog_1_method_24_code (4 : Nat) (Option.some Jvm.ClassFile.FieldType.long)) ∈ lw_tbl := lw_at lw_m6 93 rfl
theorem w1356 : (Jvm.Cond.classLink "TripleStore" (238 : Nat) "java/util/NoSuchElementException") ∈ lw_tbl := lw_at lw_m6 94 rfl
theorem w1357 : (Jvm.Cond.instantiable "java/util/NoSuchElementException" (6 : Nat)) ∈ lw_tbl := lw_at lw_m6 95 rfl
theorem w1358 : (Jvm.Cond.castable "java/util/NoSuchElementException" "java/util/NoSuchElementException") ∈ lw_tbl := lw_at lw_m6 96 rfl
theorem w1359 : (Jvm.Cond.selects "java/util/NoSuchElementException" ({ cls := "java/lang/Throwable", name := "fillInStackTrace", desc := "(I)Ljava/lang/Throwable;" } : Jvm.MethodName) ({ cls := "java/lang/Throwable", name := "fillInStackTrace", desc := "(I)Ljava/lang/Throwable;" } : Jvm.MethodName)) ∈ lw_tbl := lw_at lw_m6 97 rfl
theorem w1360 : (Jvm.Cond.lays "java/util/NoSuchElementException" "java/lang/Throwable" "cause" "Ljava/lang/Throwable;") ∈ lw_tbl := lw_at lw_m6 98 rfl
theorem w1361 : (Jvm.Cond.lays "java/util/NoSuchElementException" "java/lang/Throwable" "stackTrace" "[Ljava/lang/StackTraceElement;") ∈ lw_tbl := lw_at lw_m6 99 rfl
theorem w1362 : (Jvm.Cond.lays "java/util/NoSuchElementException" "java/lang/Throwable" "suppressedExceptions" "Ljava/util/List;") ∈ lw_tbl := lw_at lw_m6 100 rfl
theorem w1363 : (Jvm.Cond.lays "java/util/NoSuchElementException" "java/lang/Throwable" "detailMessage" "Ljava/lang/String;") ∈ lw_tbl := lw_at lw_m6 101 rfl
theorem w1364 : (Jvm.Cond.lays "java/util/NoSuchElementException" "java/lang/Throwable" "backtrace" "Ljava/lang/Object;") ∈ lw_tbl := lw_at lw_m6 102 rfl
theorem w1365 : (Jvm.Cond.methodLink "TripleStore" (240 : Nat) ({ cls := "java/util/NoSuchElementException", name := "<init>", desc := "()V" } : Jvm.MethodName)) ∈ lw_tbl := lw_at lw_m6 103 rfl
theorem w1366 : (Jvm.Cond.instanceMethod ({ cls := "java/util/NoSuchElementException", name := "<init>", desc := "()V" } : Jvm.MethodName)) ∈ lw_tbl := lw_at lw_m6 104 rfl
theorem w1367 : (Jvm.Cond.code ({ cls := "java/util/NoSuchElementException", name := "<init>", desc := "()V" } : Jvm.MethodName) prog_51_method_1_code (1 : Nat) (Option.none : Option Jvm.ClassFile.FieldType)) ∈ lw_tbl := lw_at lw_m6 105 rfl
theorem w1368 : (Jvm.Cond.methodLink "java/util/NoSuchElementException" (1 : Nat) ({ cls := "java/lang/RuntimeException", name := "<init>", desc := "()V" } : Jvm.MethodName)) ∈ lw_tbl := lw_at lw_m6 106 rfl
theorem w1369 : (Jvm.Cond.lays "java/util/NoSuchElementException" "java/lang/Throwable" "depth" "I") ∈ lw_tbl := lw_at lw_m6 107 rfl
theorem w1370 : (Jvm.Cond.superclass "java/util/NoSuchElementException" "java/lang/RuntimeException") ∈ lw_tbl := lw_at lw_m6 108 rfl
theorem w1371 : (Jvm.Cond.classLink "TripleStore" (244 : Nat) "java/lang/UnsupportedOperationException") ∈ lw_tbl := lw_at lw_m6 109 rfl
theorem w1372 : (Jvm.Cond.instantiable "java/lang/UnsupportedOperationException" (6 : Nat)) ∈ lw_tbl := lw_at lw_m6 110 rfl
theorem w1373 : (Jvm.Cond.castable "java/lang/UnsupportedOperationException" "java/lang/UnsupportedOperationException") ∈ lw_tbl := lw_at lw_m6 111 rfl
theorem w1374 : (Jvm.Cond.selects "java/lang/UnsupportedOperationException" ({ cls := "java/lang/Throwable", name := "fillInStackTrace", desc := "(I)Ljava/lang/Throwable;" } : Jvm.MethodName) ({ cls := "java/lang/Throwable", name := "fillInStackTrace", desc := "(I)Ljava/lang/Throwable;" } : Jvm.MethodName)) ∈ lw_tbl := lw_at lw_m6 112 rfl
theorem w1375 : (Jvm.Cond.lays "java/lang/UnsupportedOperationException" "java/lang/Throwable" "cause" "Ljava/lang/Throwable;") ∈ lw_tbl := lw_at lw_m6 113 rfl
theorem w1376 : (Jvm.Cond.lays "java/lang/UnsupportedOperationException" "java/lang/Throwable" "stackTrace" "[Ljava/lang/StackTraceElement;") ∈ lw_tbl := lw_at lw_m6 114 rfl
theorem w1377 : (Jvm.Cond.lays "java/lang/UnsupportedOperationException" "java/lang/Throwable" "suppressedExceptions" "Ljava/util/List;") ∈ lw_tbl := lw_at lw_m6 115 rfl
theorem w1378 : (Jvm.Cond.lays "java/lang/UnsupportedOperationException" "java/lang/Throwable" "detailMessage" "Ljava/lang/String;") ∈ lw_tbl := lw_at lw_m6 116 rfl
theorem w1379 : (Jvm.Cond.lays "java/lang/UnsupportedOperationException" "java/lang/Throwable" "backtrace" "Ljava/lang/Object;") ∈ lw_tbl := lw_at lw_m6 117 rfl
theorem w1380 : (Jvm.Cond.methodLink "TripleStore" (246 : Nat) ({ cls := "java/lang/UnsupportedOperationException", name := "<init>", desc := "()V" } : Jvm.MethodName)) ∈ lw_tbl := lw_at lw_m6 118 rfl
theorem w1381 : (Jvm.Cond.instanceMethod ({ cls := "java/lang/UnsupportedOperationException", name := "<init>", desc := "()V" } : Jvm.MethodName)) ∈ lw_tbl := lw_at lw_m6 119 rfl
theorem w1382 : (Jvm.Cond.code ({ cls := "java/lang/UnsupportedOperationException", name := "<init>", desc := "()V" } : Jvm.MethodName) prog_47_method_1_code (1 : Nat) (Option.none : Option Jvm.ClassFile.FieldType)) ∈ lw_tbl := lw_at lw_m6 120 rfl
theorem w1383 : (Jvm.Cond.methodLink "java/lang/UnsupportedOperationException" (1 : Nat) ({ cls := "java/lang/RuntimeException", name := "<init>", desc := "()V" } : Jvm.MethodName)) ∈ lw_tbl := lw_at lw_m6 121 rfl
theorem w1384 : (Jvm.Cond.lays "java/lang/UnsupportedOperationException" "java/lang/Throwable" "depth" "I") ∈ lw_tbl := lw_at lw_m6 122 rfl
theorem w1385 : (Jvm.Cond.superclass "java/lang/UnsupportedOperationException" "java/lang/RuntimeException") ∈ lw_tbl := lw_at lw_m6 123 rfl
theorem w1386 : (Jvm.Cond.methodLink "TripleStore" (247 : Nat) ({ cls := "TripleStore$Term", name := "coded", desc := "()J" } : Jvm.MethodName)) ∈ lw_tbl := lw_at lw_m6 124 rfl
theorem w1387 : (Jvm.Cond.declares ({ cls := "TripleStore$Term", name := "coded", desc := "()J" } : Jvm.MethodName)) ∈ lw_tbl := lw_at lw_m6 125 rfl
theorem w1388 : (Jvm.Cond.sameMethod "TripleStore$Term" "TripleStore$Term" "coded" "()J") ∈ lw_tbl := lw_at lw_m6 126 rfl
theorem w1389 : (Jvm.Cond.selects "TripleStore$Numeral" ({ cls := "TripleStore$Term", name := "coded", desc := "()J" } : Jvm.MethodName) ({ cls := "TripleStore$Numeral", name := "coded", desc := "()J" } : Jvm.MethodName)) ∈ lw_tbl := lw_at lw_m6 127 rfl
theorem w1390 : (Jvm.Cond.instanceMethod ({ cls := "TripleStore$Numeral", name := "coded", desc := "()J" } : Jvm.MethodName)) ∈ lw_tbl := lw_at lw_m6 128 rfl
theorem w1391 : (Jvm.Cond.code ({ cls := "TripleStore$Numeral", name := "coded", desc := "()J" } : Jvm.MethodName) prog_12_method_4_code (1 : Nat) (Option.some Jvm.ClassFile.FieldType.long)) ∈ lw_tbl := lw_at lw_m6 129 rfl
theorem w1392 : (Jvm.Cond.constantLong "TripleStore$Numeral" (13 : Nat) (-1 : Int64)) ∈ lw_tbl := lw_at lw_m6 130 rfl
theorem w1393 : (Jvm.Cond.selects "TripleStore$Word" ({ cls := "TripleStore$Term", name := "coded", desc := "()J" } : Jvm.MethodName) ({ cls := "TripleStore$Word", name := "coded", desc := "()J" } : Jvm.MethodName)) ∈ lw_tbl := lw_at lw_m6 131 rfl
theorem w1394 : (Jvm.Cond.instanceMethod ({ cls := "TripleStore$Word", name := "coded", desc := "()J" } : Jvm.MethodName)) ∈ lw_tbl := lw_at lw_m6 132 rfl
theorem w1395 : (Jvm.Cond.code ({ cls := "TripleStore$Word", name := "coded", desc := "()J" } : Jvm.MethodName) prog_24_method_4_code (4 : Nat) (Option.some Jvm.ClassFile.FieldType.long)) ∈ lw_tbl := lw_at lw_m6 133 rfl
theorem w1396 : (Jvm.Cond.methodLink "TripleStoreLaw" (103 : Nat) ({ cls := "TripleStoreLaw", name := "count", desc := "(LTripleStore;I[J)I" } : Jvm.MethodName)) ∈ lw_tbl := lw_at lw_m6 134 rfl
theorem w1397 : (Jvm.Cond.static ({ cls := "TripleStoreLaw", name := "count", desc := "(LTripleStore;I[J)I" } : Jvm.MethodName)) ∈ lw_tbl := lw_at lw_m6 135 rfl
theorem w1398 : (Jvm.Cond.codeWith ({ cls := "TripleStoreLaw", name := "count", desc := "(LTripleStore;I[J)I" } : Jvm.MethodName) method_12_code (4 : Nat) (Option.some Jvm.ClassFile.FieldType.int) [((0 : Nat), (9 : Nat), (12 : Nat), (13 : Nat))]) ∈ lw_tbl := lw_at lw_m6 136 rfl
theorem w1399 : (Jvm.Cond.methodLink "TripleStoreLaw" (49 : Nat) ({ cls := "TripleStore", name := "count", desc := "(I)I" } : Jvm.MethodName)) ∈ lw_tbl := lw_at lw_m6 137 rfl
theorem w1400 : (Jvm.Cond.instanceMethod ({ cls := "TripleStore", name := "count", desc := "(I)I" } : Jvm.MethodName)) ∈ lw_tbl := lw_at lw_m6 138 rfl
theorem w1401 : (Jvm.Cond.selects "TripleStore" ({ cls := "TripleStore", name := "count", desc := "(I)I" } : Jvm.MethodName) ({ cls := "TripleStore", name := "count", desc := "(I)I" } : Jvm.MethodName)) ∈ lw_tbl := lw_at lw_m6 139 rfl
theorem w1402 : (Jvm.Cond.code ({ cls := "TripleStore", name := "count", desc := "(I)I" } : Jvm.MethodName) prog_1_method_25_code (2 : Nat) (Option.some Jvm.ClassFile.FieldType.int)) ∈ lw_tbl := lw_at lw_m6 140 rfl
theorem w1403 : (Jvm.Cond.classLink "TripleStoreLaw" (53 : Nat) "TripleStoreModel") ∈ lw_tbl := lw_at lw_m6 141 rfl
theorem w1404 : (Jvm.Cond.instantiable "TripleStoreModel" (59 : Nat)) ∈ lw_tbl := lw_at lw_m6 142 rfl
theorem w1405 : (Jvm.Cond.methodLink "TripleStoreLaw" (55 : Nat) ({ cls := "TripleStoreModel", name := "<init>", desc := "()V" } : Jvm.MethodName)) ∈ lw_tbl := lw_at lw_m6 143 rfl
theorem w1406 : (Jvm.Cond.instanceMethod ({ cls := "TripleStoreModel", name := "<init>", desc := "()V" } : Jvm.MethodName)) ∈ lw_tbl := lw_at lw_m6 144 rfl
theorem w1407 : (Jvm.Cond.code ({ cls := "TripleStoreModel", name := "<init>", desc := "()V" } : Jvm.MethodName) prog_26_method_1_code (1 : Nat) (Option.none : Option Jvm.ClassFile.FieldType)) ∈ lw_tbl := lw_at lw_m6 145 rfl
theorem w1408 : (Jvm.Cond.methodLink "TripleStoreModel" (1 : Nat) ({ cls := "java/lang/Object", name := "<init>", desc := "()V" } : Jvm.MethodName)) ∈ lw_tbl := lw_at lw_m6 146 rfl
theorem w1409 : (Jvm.Cond.fieldLink "TripleStoreModel" (7 : Nat) "TripleStoreModel" "triple" "[J") ∈ lw_tbl := lw_at lw_m6 147 rfl
theorem w1410 : (Jvm.Cond.fieldLink "TripleStoreModel" (102 : Nat) "TripleStoreModel" "triples" "I") ∈ lw_tbl := lw_at lw_m6 148 rfl
theorem w1411 : (Jvm.Cond.fieldLink "TripleStoreModel" (13 : Nat) "TripleStoreModel" "kept" "[J") ∈ lw_tbl := lw_at lw_m6 149 rfl
theorem w1412 : (Jvm.Cond.fieldLink "TripleStoreModel" (155 : Nat) "TripleStoreModel" "keptCount" "I") ∈ lw_tbl := lw_at lw_m6 150 rfl
theorem w1413 : (Jvm.Cond.fieldLink "TripleStoreModel" (16 : Nat) "TripleStoreModel" "change" "[J") ∈ lw_tbl := lw_at lw_m6 151 rfl
theorem w1414 : (Jvm.Cond.fieldLink "TripleStoreModel" (19 : Nat) "TripleStoreModel" "put" "[Z") ∈ lw_tbl := lw_at lw_m6 152 rfl
theorem w1415 : (Jvm.Cond.fieldLink "TripleStoreModel" (23 : Nat) "TripleStoreModel" "of" "[I") ∈ lw_tbl := lw_at lw_m6 153 rfl
theorem w1416 : (Jvm.Cond.fieldLink "TripleStoreModel" (117 : Nat) "TripleStoreModel" "changes" "I") ∈ lw_tbl := lw_at lw_m6 154 rfl
theorem w1417 : (Jvm.Cond.fieldLink "TripleStoreModel" (130 : Nat) "TripleStoreModel" "committed" "I") ∈ lw_tbl := lw_at lw_m6 155 rfl
theorem w1418 : (Jvm.Cond.fieldLink "TripleStoreModel" (120 : Nat) "TripleStoreModel" "unsynced" "I") ∈ lw_tbl := lw_at lw_m6 156 rfl
theorem w1419 : (Jvm.Cond.fieldLink "TripleStoreModel" (123 : Nat) "TripleStoreModel" "open" "Z") ∈ lw_tbl := lw_at lw_m6 157 rfl
theorem w1420 : (Jvm.Cond.fieldLink "TripleStoreModel" (148 : Nat) "TripleStoreModel" "openFrom" "I") ∈ lw_tbl := lw_at lw_m6 158 rfl
theorem w1421 : (Jvm.Cond.fieldLink "TripleStoreModel" (27 : Nat) "TripleStoreModel" "text" "[I") ∈ lw_tbl := lw_at lw_m6 159 rfl
theorem w1422 : (Jvm.Cond.fieldLink "TripleStoreModel" (161 : Nat) "TripleStoreModel" "length" "I") ∈ lw_tbl := lw_at lw_m6 160 rfl
theorem w1423 : (Jvm.Cond.fieldLink "TripleStoreModel" (30 : Nat) "TripleStoreModel" "fault" "I") ∈ lw_tbl := lw_at lw_m6 161 rfl
theorem w1424 : (Jvm.Cond.fieldLink "TripleStoreModel" (181 : Nat) "TripleStoreModel" "kind" "I") ∈ lw_tbl := lw_at lw_m6 162 rfl
theorem w1425 : (Jvm.Cond.fieldLink "TripleStoreModel" (164 : Nat) "TripleStoreModel" "token" "J") ∈ lw_tbl := lw_at lw_m6 163 rfl
theorem w1426 : (Jvm.Cond.fieldLink "TripleStoreModel" (178 : Nat) "TripleStoreModel" "start" "I") ∈ lw_tbl := lw_at lw_m6 164 rfl
theorem w1427 : (Jvm.Cond.fieldLink "TripleStoreModel" (172 : Nat) "TripleStoreModel" "end" "I") ∈ lw_tbl := lw_at lw_m6 165 rfl
theorem w1428 : (Jvm.Cond.fieldLink "TripleStoreModel" (175 : Nat) "TripleStoreModel" "behind" "I") ∈ lw_tbl := lw_at lw_m6 166 rfl
theorem w1429 : (Jvm.Cond.fieldLink "TripleStoreModel" (220 : Nat) "TripleStoreModel" "wrong" "I") ∈ lw_tbl := lw_at lw_m6 167 rfl
theorem w1430 : (Jvm.Cond.fieldLink "TripleStoreModel" (281 : Nat) "TripleStoreModel" "starts" "Z") ∈ lw_tbl := lw_at lw_m6 168 rfl
theorem w1431 : (Jvm.Cond.fieldLink "TripleStoreModel" (262 : Nat) "TripleStoreModel" "holds" "Z") ∈ lw_tbl := lw_at lw_m6 169 rfl
theorem w1432 : (Jvm.Cond.fieldLink "TripleStoreModel" (34 : Nat) "TripleStoreModel" "name" "[J") ∈ lw_tbl := lw_at lw_m6 170 rfl
theorem w1433 : (Jvm.Cond.fieldLink "TripleStoreModel" (229 : Nat) "TripleStoreModel" "names" "I") ∈ lw_tbl := lw_at lw_m6 171 rfl
theorem w1434 : (Jvm.Cond.fieldLink "TripleStoreModel" (259 : Nat) "TripleStoreModel" "elements" "I") ∈ lw_tbl := lw_at lw_m6 172 rfl
theorem w1435 : (Jvm.Cond.fieldLink "TripleStoreModel" (278 : Nat) "TripleStoreModel" "groups" "I") ∈ lw_tbl := lw_at lw_m6 173 rfl
theorem w1436 : (Jvm.Cond.fieldLink "TripleStoreModel" (250 : Nat) "TripleStoreModel" "depth" "I") ∈ lw_tbl := lw_at lw_m6 174 rfl
theorem w1437 : (Jvm.Cond.fieldLink "TripleStoreModel" (37 : Nat) "TripleStoreModel" "groupKind" "[I") ∈ lw_tbl := lw_at lw_m6 175 rfl
theorem w1438 : (Jvm.Cond.fieldLink "TripleStoreModel" (40 : Nat) "TripleStoreModel" "groupId" "[I") ∈ lw_tbl := lw_at lw_m6 176 rfl
theorem w1439 : (Jvm.Cond.fieldLink "TripleStoreModel" (43 : Nat) "TripleStoreModel" "op" "[I") ∈ lw_tbl := lw_at lw_m6 177 rfl
theorem w1440 : (Jvm.Cond.fieldLink "TripleStoreModel" (46 : Nat) "TripleStoreModel" "arg" "[I") ∈ lw_tbl := lw_at lw_m6 178 rfl
theorem w1441 : (Jvm.Cond.fieldLink "TripleStoreModel" (244 : Nat) "TripleStoreModel" "ops" "I") ∈ lw_tbl := lw_at lw_m6 179 rfl
theorem w1442 : (Jvm.Cond.fieldLink "TripleStoreModel" (49 : Nat) "TripleStoreModel" "side" "[I") ∈ lw_tbl := lw_at lw_m6 180 rfl
theorem w1443 : (Jvm.Cond.fieldLink "TripleStoreModel" (52 : Nat) "TripleStoreModel" "term" "[J") ∈ lw_tbl := lw_at lw_m6 181 rfl
theorem w1444 : (Jvm.Cond.fieldLink "TripleStoreModel" (268 : Nat) "TripleStoreModel" "patterns" "I") ∈ lw_tbl := lw_at lw_m6 182 rfl
theorem w1445 : (Jvm.Cond.fieldLink "TripleStoreModel" (55 : Nat) "TripleStoreModel" "testGroup" "[I") ∈ lw_tbl := lw_at lw_m6 183 rfl
theorem w1446 : (Jvm.Cond.fieldLink "TripleStoreModel" (58 : Nat) "TripleStoreModel" "testSign" "[I") ∈ lw_tbl := lw_at lw_m6 184 rfl
theorem w1447 : (Jvm.Cond.fieldLink "TripleStoreModel" (61 : Nat) "TripleStoreModel" "testNot" "[Z") ∈ lw_tbl := lw_at lw_m6 185 rfl
theorem w1448 : (Jvm.Cond.fieldLink "TripleStoreModel" (247 : Nat) "TripleStoreModel" "tests" "I") ∈ lw_tbl := lw_at lw_m6 186 rfl
theorem w1449 : (Jvm.Cond.fieldLink "TripleStoreModel" (64 : Nat) "TripleStoreModel" "wanted" "[I") ∈ lw_tbl := lw_at lw_m6 187 rfl
theorem w1450 : (Jvm.Cond.fieldLink "TripleStoreModel" (296 : Nat) "TripleStoreModel" "wantedCount" "I") ∈ lw_tbl := lw_at lw_m6 188 rfl
theorem w1451 : (Jvm.Cond.fieldLink "TripleStoreModel" (67 : Nat) "TripleStoreModel" "beside" "[I") ∈ lw_tbl := lw_at lw_m6 189 rfl
theorem w1452 : (Jvm.Cond.fieldLink "TripleStoreModel" (293 : Nat) "TripleStoreModel" "distinct" "Z") ∈ lw_tbl := lw_at lw_m6 190 rfl
theorem w1453 : (Jvm.Cond.fieldLink "TripleStoreModel" (302 : Nat) "TripleStoreModel" "orderBy" "I") ∈ lw_tbl := lw_at lw_m6 191 rfl
theorem w1454 : (Jvm.Cond.fieldLink "TripleStoreModel" (305 : Nat) "TripleStoreModel" "falls" "Z") ∈ lw_tbl := lw_at lw_m6 192 rfl
theorem w1455 : (Jvm.Cond.fieldLink "TripleStoreModel" (308 : Nat) "TripleStoreModel" "limit" "I") ∈ lw_tbl := lw_at lw_m6 193 rfl
theorem w1456 : (Jvm.Cond.fieldLink "TripleStoreModel" (70 : Nat) "TripleStoreModel" "value" "[J") ∈ lw_tbl := lw_at lw_m6 194 rfl
theorem w1457 : (Jvm.Cond.fieldLink "TripleStoreModel" (73 : Nat) "TripleStoreModel" "given" "[I") ∈ lw_tbl := lw_at lw_m6 195 rfl
theorem w1458 : (Jvm.Cond.fieldLink "TripleStoreModel" (76 : Nat) "TripleStoreModel" "size" "[I") ∈ lw_tbl := lw_at lw_m6 196 rfl
theorem w1459 : (Jvm.Cond.fieldLink "TripleStoreModel" (318 : Nat) "TripleStoreModel" "top" "I") ∈ lw_tbl := lw_at lw_m6 197 rfl
theorem w1460 : (Jvm.Cond.fieldLink "TripleStoreModel" (311 : Nat) "TripleStoreModel" "tooMany" "Z") ∈ lw_tbl := lw_at lw_m6 198 rfl
theorem w1461 : (Jvm.Cond.fieldLink "TripleStoreModel" (79 : Nat) "TripleStoreModel" "row" "[J") ∈ lw_tbl := lw_at lw_m6 199 rfl
theorem w1462 : (Jvm.Cond.fieldLink "TripleStoreModel" (82 : Nat) "TripleStoreModel" "rowGiven" "[I") ∈ lw_tbl := lw_at lw_m6 200 rfl
theorem w1463 : (Jvm.Cond.fieldLink "TripleStoreModel" (85 : Nat) "TripleStoreModel" "rowAt" "[I") ∈ lw_tbl := lw_at lw_m6 201 rfl
theorem w1464 : (Jvm.Cond.fieldLink "TripleStoreModel" (358 : Nat) "TripleStoreModel" "rows" "I") ∈ lw_tbl := lw_at lw_m6 202 rfl
theorem w1465 : (Jvm.Cond.fieldLink "TripleStoreModel" (88 : Nat) "TripleStoreModel" "column" "[I") ∈ lw_tbl := lw_at lw_m6 203 rfl
theorem w1466 : (Jvm.Cond.fieldLink "TripleStoreModel" (364 : Nat) "TripleStoreModel" "columns" "I") ∈ lw_tbl := lw_at lw_m6 204 rfl
theorem w1467 : (Jvm.Cond.fieldLink "TripleStoreModel" (91 : Nat) "TripleStoreModel" "code" "I") ∈ lw_tbl := lw_at lw_m6 205 rfl
theorem w1468 : (Jvm.Cond.laysFinal "TripleStoreModel" "TripleStoreModel" "triple" "[J") ∈ lw_tbl := lw_at lw_m6 206 rfl
theorem w1469 : (Jvm.Cond.soleField "TripleStoreModel" "triple") ∈ lw_tbl := lw_at lw_m6 207 rfl
theorem w1470 : (Jvm.Cond.lays "TripleStoreModel" "TripleStoreModel" "triples" "I") ∈ lw_tbl := lw_at lw_m6 208 rfl
theorem w1471 : (Jvm.Cond.soleField "TripleStoreModel" "triples") ∈ lw_tbl := lw_at lw_m6 209 rfl
theorem w1472 : (Jvm.Cond.laysFinal "TripleStoreModel" "TripleStoreModel" "kept" "[J") ∈ lw_tbl := lw_at lw_m6 210 rfl
theorem w1473 : (Jvm.Cond.soleField "TripleStoreModel" "kept") ∈ lw_tbl := lw_at lw_m6 211 rfl
theorem w1474 : (Jvm.Cond.lays "TripleStoreModel" "TripleStoreModel" "keptCount" "I") ∈ lw_tbl := lw_at lw_m6 212 rfl
theorem w1475 : (Jvm.Cond.soleField "TripleStoreModel" "keptCount") ∈ lw_tbl := lw_at lw_m6 213 rfl
theorem w1476 : (Jvm.Cond.laysFinal "TripleStoreModel" "TripleStoreModel" "change" "[J") ∈ lw_tbl := lw_at lw_m6 214 rfl
theorem w1477 : (Jvm.Cond.soleField "TripleStoreModel" "change") ∈ lw_tbl := lw_at lw_m6 215 rfl
theorem w1478 : (Jvm.Cond.laysFinal "TripleStoreModel" "TripleStoreModel" "put" "[Z") ∈ lw_tbl := lw_at lw_m6 216 rfl
theorem w1479 : (Jvm.Cond.soleField "TripleStoreModel" "put") ∈ lw_tbl := lw_at lw_m6 217 rfl
theorem w1480 : (Jvm.Cond.laysFinal "TripleStoreModel" "TripleStoreModel" "of" "[I") ∈ lw_tbl := lw_at lw_m6 218 rfl
theorem w1481 : (Jvm.Cond.soleField "TripleStoreModel" "of") ∈ lw_tbl := lw_at lw_m6 219 rfl
theorem w1482 : (Jvm.Cond.lays "TripleStoreModel" "TripleStoreModel" "changes" "I") ∈ lw_tbl := lw_at lw_m6 220 rfl
theorem w1483 : (Jvm.Cond.soleField "TripleStoreModel" "changes") ∈ lw_tbl := lw_at lw_m6 221 rfl
theorem w1484 : (Jvm.Cond.lays "TripleStoreModel" "TripleStoreModel" "committed" "I") ∈ lw_tbl := lw_at lw_m6 222 rfl
theorem w1485 : (Jvm.Cond.soleField "TripleStoreModel" "committed") ∈ lw_tbl := lw_at lw_m6 223 rfl
theorem w1486 : (Jvm.Cond.lays "TripleStoreModel" "TripleStoreModel" "unsynced" "I") ∈ lw_tbl := lw_at lw_m6 224 rfl
theorem w1487 : (Jvm.Cond.soleField "TripleStoreModel" "unsynced") ∈ lw_tbl := lw_at lw_m6 225 rfl
theorem w1488 : (Jvm.Cond.lays "TripleStoreModel" "TripleStoreModel" "open" "Z") ∈ lw_tbl := lw_at lw_m6 226 rfl
theorem w1489 : (Jvm.Cond.soleField "TripleStoreModel" "open") ∈ lw_tbl := lw_at lw_m6 227 rfl
theorem w1490 : (Jvm.Cond.lays "TripleStoreModel" "TripleStoreModel" "openFrom" "I") ∈ lw_tbl := lw_at lw_m6 228 rfl
theorem w1491 : (Jvm.Cond.soleField "TripleStoreModel" "openFrom") ∈ lw_tbl := lw_at lw_m6 229 rfl
theorem w1492 : (Jvm.Cond.laysFinal "TripleStoreModel" "TripleStoreModel" "text" "[I") ∈ lw_tbl := lw_at lw_m6 230 rfl
theorem w1493 : (Jvm.Cond.soleField "TripleStoreModel" "text") ∈ lw_tbl := lw_at lw_m6 231 rfl
theorem w1494 : (Jvm.Cond.lays "TripleStoreModel" "TripleStoreModel" "length" "I") ∈ lw_tbl := lw_at lw_m6 232 rfl
theorem w1495 : (Jvm.Cond.soleField "TripleStoreModel" "length") ∈ lw_tbl := lw_at lw_m6 233 rfl
theorem w1496 : (Jvm.Cond.lays "TripleStoreModel" "TripleStoreModel" "fault" "I") ∈ lw_tbl := lw_at lw_m6 234 rfl
theorem w1497 : (Jvm.Cond.soleField "TripleStoreModel" "fault") ∈ lw_tbl := lw_at lw_m6 235 rfl
theorem w1498 : (Jvm.Cond.lays "TripleStoreModel" "TripleStoreModel" "kind" "I") ∈ lw_tbl := lw_at lw_m6 236 rfl
theorem w1499 : (Jvm.Cond.soleField "TripleStoreModel" "kind") ∈ lw_tbl := lw_at lw_m6 237 rfl
theorem w1500 : (Jvm.Cond.lays "TripleStoreModel" "TripleStoreModel" "token" "J") ∈ lw_tbl := lw_at lw_m6 238 rfl
theorem w1501 : (Jvm.Cond.soleField "TripleStoreModel" "token") ∈ lw_tbl := lw_at lw_m6 239 rfl
theorem w1502 : (Jvm.Cond.lays "TripleStoreModel" "TripleStoreModel" "start" "I") ∈ lw_tbl := lw_at lw_m7 0 rfl
theorem w1503 : (Jvm.Cond.soleField "TripleStoreModel" "start") ∈ lw_tbl := lw_at lw_m7 1 rfl
theorem w1504 : (Jvm.Cond.lays "TripleStoreModel" "TripleStoreModel" "end" "I") ∈ lw_tbl := lw_at lw_m7 2 rfl
theorem w1505 : (Jvm.Cond.soleField "TripleStoreModel" "end") ∈ lw_tbl := lw_at lw_m7 3 rfl
theorem w1506 : (Jvm.Cond.lays "TripleStoreModel" "TripleStoreModel" "behind" "I") ∈ lw_tbl := lw_at lw_m7 4 rfl
theorem w1507 : (Jvm.Cond.soleField "TripleStoreModel" "behind") ∈ lw_tbl := lw_at lw_m7 5 rfl
theorem w1508 : (Jvm.Cond.lays "TripleStoreModel" "TripleStoreModel" "wrong" "I") ∈ lw_tbl := lw_at lw_m7 6 rfl
theorem w1509 : (Jvm.Cond.soleField "TripleStoreModel" "wrong") ∈ lw_tbl := lw_at lw_m7 7 rfl
theorem w1510 : (Jvm.Cond.lays "TripleStoreModel" "TripleStoreModel" "starts" "Z") ∈ lw_tbl := lw_at lw_m7 8 rfl
theorem w1511 : (Jvm.Cond.soleField "TripleStoreModel" "starts") ∈ lw_tbl := lw_at lw_m7 9 rfl
theorem w1512 : (Jvm.Cond.lays "TripleStoreModel" "TripleStoreModel" "holds" "Z") ∈ lw_tbl := lw_at lw_m7 10 rfl
theorem w1513 : (Jvm.Cond.soleField "TripleStoreModel" "holds") ∈ lw_tbl := lw_at lw_m7 11 rfl
theorem w1514 : (Jvm.Cond.laysFinal "TripleStoreModel" "TripleStoreModel" "name" "[J") ∈ lw_tbl := lw_at lw_m7 12 rfl
theorem w1515 : (Jvm.Cond.soleField "TripleStoreModel" "name") ∈ lw_tbl := lw_at lw_m7 13 rfl
theorem w1516 : (Jvm.Cond.lays "TripleStoreModel" "TripleStoreModel" "names" "I") ∈ lw_tbl := lw_at lw_m7 14 rfl
theorem w1517 : (Jvm.Cond.soleField "TripleStoreModel" "names") ∈ lw_tbl := lw_at lw_m7 15 rfl
theorem w1518 : (Jvm.Cond.lays "TripleStoreModel" "TripleStoreModel" "elements" "I") ∈ lw_tbl := lw_at lw_m7 16 rfl
theorem w1519 : (Jvm.Cond.soleField "TripleStoreModel" "elements") ∈ lw_tbl := lw_at lw_m7 17 rfl
theorem w1520 : (Jvm.Cond.lays "TripleStoreModel" "TripleStoreModel" "groups" "I") ∈ lw_tbl := lw_at lw_m7 18 rfl
theorem w1521 : (Jvm.Cond.soleField "TripleStoreModel" "groups") ∈ lw_tbl := lw_at lw_m7 19 rfl
theorem w1522 : (Jvm.Cond.lays "TripleStoreModel" "TripleStoreModel" "depth" "I") ∈ lw_tbl := lw_at lw_m7 20 rfl
theorem w1523 : (Jvm.Cond.soleField "TripleStoreModel" "depth") ∈ lw_tbl := lw_at lw_m7 21 rfl
theorem w1524 : (Jvm.Cond.laysFinal "TripleStoreModel" "TripleStoreModel" "groupKind" "[I") ∈ lw_tbl := lw_at lw_m7 22 rfl
theorem w1525 : (Jvm.Cond.soleField "TripleStoreModel" "groupKind") ∈ lw_tbl := lw_at lw_m7 23 rfl
theorem w1526 : (Jvm.Cond.laysFinal "TripleStoreModel" "TripleStoreModel" "groupId" "[I") ∈ lw_tbl := lw_at lw_m7 24 rfl
theorem w1527 : (Jvm.Cond.soleField "TripleStoreModel" "groupId") ∈ lw_tbl := lw_at lw_m7 25 rfl
theorem w1528 : (Jvm.Cond.laysFinal "TripleStoreModel" "TripleStoreModel" "op" "[I") ∈ lw_tbl := lw_at lw_m7 26 rfl
theorem w1529 : (Jvm.Cond.soleField "TripleStoreModel" "op") ∈ lw_tbl := lw_at lw_m7 27 rfl
theorem w1530 : (Jvm.Cond.laysFinal "TripleStoreModel" "TripleStoreModel" "arg" "[I") ∈ lw_tbl := lw_at lw_m7 28 rfl
theorem w1531 : (Jvm.Cond.soleField "TripleStoreModel" "arg") ∈ lw_tbl := lw_at lw_m7 29 rfl
theorem w1532 : (Jvm.Cond.lays "TripleStoreModel" "TripleStoreModel" "ops" "I") ∈ lw_tbl := lw_at lw_m7 30 rfl
theorem w1533 : (Jvm.Cond.soleField "TripleStoreModel" "ops") ∈ lw_tbl := lw_at lw_m7 31 rfl
theorem w1534 : (Jvm.Cond.laysFinal "TripleStoreModel" "TripleStoreModel" "side" "[I") ∈ lw_tbl := lw_at lw_m7 32 rfl
theorem w1535 : (Jvm.Cond.soleField "TripleStoreModel" "side") ∈ lw_tbl := lw_at lw_m7 33 rfl
theorem w1536 : (Jvm.Cond.laysFinal "TripleStoreModel" "TripleStoreModel" "term" "[J") ∈ lw_tbl := lw_at lw_m7 34 rfl
theorem w1537 : (Jvm.Cond.soleField "TripleStoreModel" "term") ∈ lw_tbl := lw_at lw_m7 35 rfl
theorem w1538 : (Jvm.Cond.lays "TripleStoreModel" "TripleStoreModel" "patterns" "I") ∈ lw_tbl := lw_at lw_m7 36 rfl
theorem w1539 : (Jvm.Cond.soleField "TripleStoreModel" "patterns") ∈ lw_tbl := lw_at lw_m7 37 rfl
theorem w1540 : (Jvm.Cond.laysFinal "TripleStoreModel" "TripleStoreModel" "testGroup" "[I") ∈ lw_tbl := lw_at lw_m7 38 rfl
theorem w1541 : (Jvm.Cond.soleField "TripleStoreModel" "testGroup") ∈ lw_tbl := lw_at lw_m7 39 rfl
theorem w1542 : (Jvm.Cond.laysFinal "TripleStoreModel" "TripleStoreModel" "testSign" "[I") ∈ lw_tbl := lw_at lw_m7 40 rfl
theorem w1543 : (Jvm.Cond.soleField "TripleStoreModel" "testSign") ∈ lw_tbl := lw_at lw_m7 41 rfl
theorem w1544 : (Jvm.Cond.laysFinal "TripleStoreModel" "TripleStoreModel" "testNot" "[Z") ∈ lw_tbl := lw_at lw_m7 42 rfl
theorem w1545 : (Jvm.Cond.soleField "TripleStoreModel" "testNot") ∈ lw_tbl := lw_at lw_m7 43 rfl
theorem w1546 : (Jvm.Cond.lays "TripleStoreModel" "TripleStoreModel" "tests" "I") ∈ lw_tbl := lw_at lw_m7 44 rfl
theorem w1547 : (Jvm.Cond.soleField "TripleStoreModel" "tests") ∈ lw_tbl := lw_at lw_m7 45 rfl
theorem w1548 : (Jvm.Cond.laysFinal "TripleStoreModel" "TripleStoreModel" "wanted" "[I") ∈ lw_tbl := lw_at lw_m7 46 rfl
theorem w1549 : (Jvm.Cond.soleField "TripleStoreModel" "wanted") ∈ lw_tbl := lw_at lw_m7 47 rfl
theorem w1550 : (Jvm.Cond.lays "TripleStoreModel" "TripleStoreModel" "wantedCount" "I") ∈ lw_tbl := lw_at lw_m7 48 rfl
theorem w1551 : (Jvm.Cond.soleField "TripleStoreModel" "wantedCount") ∈ lw_tbl := lw_at lw_m7 49 rfl
theorem w1552 : (Jvm.Cond.laysFinal "TripleStoreModel" "TripleStoreModel" "beside" "[I") ∈ lw_tbl := lw_at lw_m7 50 rfl
theorem w1553 : (Jvm.Cond.soleField "TripleStoreModel" "beside") ∈ lw_tbl := lw_at lw_m7 51 rfl
theorem w1554 : (Jvm.Cond.lays "TripleStoreModel" "TripleStoreModel" "distinct" "Z") ∈ lw_tbl := lw_at lw_m7 52 rfl
theorem w1555 : (Jvm.Cond.soleField "TripleStoreModel" "distinct") ∈ lw_tbl := lw_at lw_m7 53 rfl
theorem w1556 : (Jvm.Cond.lays "TripleStoreModel" "TripleStoreModel" "orderBy" "I") ∈ lw_tbl := lw_at lw_m7 54 rfl
theorem w1557 : (Jvm.Cond.soleField "TripleStoreModel" "orderBy") ∈ lw_tbl := lw_at lw_m7 55 rfl
theorem w1558 : (Jvm.Cond.lays "TripleStoreModel" "TripleStoreModel" "falls" "Z") ∈ lw_tbl := lw_at lw_m7 56 rfl
theorem w1559 : (Jvm.Cond.soleField "TripleStoreModel" "falls") ∈ lw_tbl := lw_at lw_m7 57 rfl
theorem w1560 : (Jvm.Cond.lays "TripleStoreModel" "TripleStoreModel" "limit" "I") ∈ lw_tbl := lw_at lw_m7 58 rfl
theorem w1561 : (Jvm.Cond.soleField "TripleStoreModel" "limit") ∈ lw_tbl := lw_at lw_m7 59 rfl
theorem w1562 : (Jvm.Cond.laysFinal "TripleStoreModel" "TripleStoreModel" "value" "[J") ∈ lw_tbl := lw_at lw_m7 60 rfl
theorem w1563 : (Jvm.Cond.soleField "TripleStoreModel" "value") ∈ lw_tbl := lw_at lw_m7 61 rfl
theorem w1564 : (Jvm.Cond.laysFinal "TripleStoreModel" "TripleStoreModel" "given" "[I") ∈ lw_tbl := lw_at lw_m7 62 rfl
theorem w1565 : (Jvm.Cond.soleField "TripleStoreModel" "given") ∈ lw_tbl := lw_at lw_m7 63 rfl
theorem w1566 : (Jvm.Cond.laysFinal "TripleStoreModel" "TripleStoreModel" "size" "[I") ∈ lw_tbl := lw_at lw_m7 64 rfl
theorem w1567 : (Jvm.Cond.soleField "TripleStoreModel" "size") ∈ lw_tbl := lw_at lw_m7 65 rfl
theorem w1568 : (Jvm.Cond.lays "TripleStoreModel" "TripleStoreModel" "top" "I") ∈ lw_tbl := lw_at lw_m7 66 rfl
theorem w1569 : (Jvm.Cond.soleField "TripleStoreModel" "top") ∈ lw_tbl := lw_at lw_m7 67 rfl
theorem w1570 : (Jvm.Cond.lays "TripleStoreModel" "TripleStoreModel" "tooMany" "Z") ∈ lw_tbl := lw_at lw_m7 68 rfl
theorem w1571 : (Jvm.Cond.soleField "TripleStoreModel" "tooMany") ∈ lw_tbl := lw_at lw_m7 69 rfl
theorem w1572 : (Jvm.Cond.laysFinal "TripleStoreModel" "TripleStoreModel" "row" "[J") ∈ lw_tbl := lw_at lw_m7 70 rfl
theorem w1573 : (Jvm.Cond.soleField "TripleStoreModel" "row") ∈ lw_tbl := lw_at lw_m7 71 rfl
theorem w1574 : (Jvm.Cond.laysFinal "TripleStoreModel" "TripleStoreModel" "rowGiven" "[I") ∈ lw_tbl := lw_at lw_m7 72 rfl
theorem w1575 : (Jvm.Cond.soleField "TripleStoreModel" "rowGiven") ∈ lw_tbl := lw_at lw_m7 73 rfl
theorem w1576 : (Jvm.Cond.laysFinal "TripleStoreModel" "TripleStoreModel" "rowAt" "[I") ∈ lw_tbl := lw_at lw_m7 74 rfl
theorem w1577 : (Jvm.Cond.soleField "TripleStoreModel" "rowAt") ∈ lw_tbl := lw_at lw_m7 75 rfl
theorem w1578 : (Jvm.Cond.lays "TripleStoreModel" "TripleStoreModel" "rows" "I") ∈ lw_tbl := lw_at lw_m7 76 rfl
theorem w1579 : (Jvm.Cond.soleField "TripleStoreModel" "rows") ∈ lw_tbl := lw_at lw_m7 77 rfl
theorem w1580 : (Jvm.Cond.laysFinal "TripleStoreModel" "TripleStoreModel" "column" "[I") ∈ lw_tbl := lw_at lw_m7 78 rfl
theorem w1581 : (Jvm.Cond.soleField "TripleStoreModel" "column") ∈ lw_tbl := lw_at lw_m7 79 rfl
theorem w1582 : (Jvm.Cond.lays "TripleStoreModel" "TripleStoreModel" "columns" "I") ∈ lw_tbl := lw_at lw_m7 80 rfl
theorem w1583 : (Jvm.Cond.soleField "TripleStoreModel" "columns") ∈ lw_tbl := lw_at lw_m7 81 rfl
theorem w1584 : (Jvm.Cond.lays "TripleStoreModel" "TripleStoreModel" "code" "I") ∈ lw_tbl := lw_at lw_m7 82 rfl
theorem w1585 : (Jvm.Cond.soleField "TripleStoreModel" "code") ∈ lw_tbl := lw_at lw_m7 83 rfl
theorem w1586 : (Jvm.Cond.superclass "TripleStoreModel" "java/lang/Object") ∈ lw_tbl := lw_at lw_m7 84 rfl
theorem w1587 : (Jvm.Cond.arrayClass Jvm.ClassFile.FieldType.long) ∈ lw_tbl := lw_at lw_m7 85 rfl
theorem w1588 : (Jvm.Cond.arrayClass Jvm.ClassFile.FieldType.boolean) ∈ lw_tbl := lw_at lw_m7 86 rfl
theorem w1589 : (Jvm.Cond.methodLink "TripleStoreLaw" (64 : Nat) ({ cls := "TripleStoreModel", name := "thrown", desc := "()I" } : Jvm.MethodName)) ∈ lw_tbl := lw_at lw_m7 87 rfl
theorem w1590 : (Jvm.Cond.instanceMethod ({ cls := "TripleStoreModel", name := "thrown", desc := "()I" } : Jvm.MethodName)) ∈ lw_tbl := lw_at lw_m7 88 rfl
theorem w1591 : (Jvm.Cond.selects "TripleStoreModel" ({ cls := "TripleStoreModel", name := "thrown", desc := "()I" } : Jvm.MethodName) ({ cls := "TripleStoreModel", name := "thrown", desc := "()I" } : Jvm.MethodName)) ∈ lw_tbl := lw_at lw_m7 89 rfl
theorem w1592 : (Jvm.Cond.code ({ cls := "TripleStoreModel", name := "thrown", desc := "()I" } : Jvm.MethodName) prog_26_method_2_code (1 : Nat) (Option.some Jvm.ClassFile.FieldType.int)) ∈ lw_tbl := lw_at lw_m7 90 rfl
theorem w1593 : (Jvm.Cond.methodLink "TripleStoreLaw" (63 : Nat) ({ cls := "TripleStoreModel", name := "add", desc := "(JJJ)I" } : Jvm.MethodName)) ∈ lw_tbl := lw_at lw_m7 91 rfl
theorem w1594 : (Jvm.Cond.instanceMethod ({ cls := "TripleStoreModel", name := "add", desc := "(JJJ)I" } : Jvm.MethodName)) ∈ lw_tbl := lw_at lw_m7 92 rfl
theorem w1595 : (Jvm.Cond.selects "TripleStoreModel" ({ cls := "TripleStoreModel", name := "add", desc := "(JJJ)I" } : Jvm.MethodName) ({ cls := "TripleStoreModel", name := "add", desc := "(JJJ)I" } : Jvm.MethodName)) ∈ lw_tbl := lw_at lw_m7 93 rfl
theorem w1596 : (Jvm.Cond.code ({ cls := "TripleStoreModel", name := "add", desc := "(JJJ)I" } : Jvm.MethodName) prog_26_method_13_code (7 : Nat) (Option.some Jvm.ClassFile.FieldType.int)) ∈ lw_tbl := lw_at lw_m7 94 rfl
theorem w1597 : (Jvm.Cond.methodLink "TripleStoreModel" (140 : Nat) ({ cls := "TripleStoreModel", name := "isTriple", desc := "(JJJ)Z" } : Jvm.MethodName)) ∈ lw_tbl := lw_at lw_m7 95 rfl
theorem w1598 : (Jvm.Cond.privateMethod ({ cls := "TripleStoreModel", name := "isTriple", desc := "(JJJ)Z" } : Jvm.MethodName)) ∈ lw_tbl := lw_at lw_m7 96 rfl
theorem w1599 : (Jvm.Cond.instanceMethod ({ cls := "TripleStoreModel", name := "isTriple", desc := "(JJJ)Z" } : Jvm.MethodName)) ∈ lw_tbl := lw_at lw_m7 97 rfl
theorem w1600 : (Jvm.Cond.code ({ cls := "TripleStoreModel", name := "isTriple", desc := "(JJJ)Z" } : Jvm.MethodName) prog_26_method_12_code (7 : Nat) (Option.some Jvm.ClassFile.FieldType.boolean)) ∈ lw_tbl := lw_at lw_m7 98 rfl
theorem w1601 : (Jvm.Cond.methodLink "TripleStoreModel" (133 : Nat) ({ cls := "TripleStoreModel", name := "isWord", desc := "(J)Z" } : Jvm.MethodName)) ∈ lw_tbl := lw_at lw_m7 99 rfl
theorem w1602 : (Jvm.Cond.static ({ cls := "TripleStoreModel", name := "isWord", desc := "(J)Z" } : Jvm.MethodName)) ∈ lw_tbl := lw_at lw_m7 100 rfl
theorem w1603 : (Jvm.Cond.code ({ cls := "TripleStoreModel", name := "isWord", desc := "(J)Z" } : Jvm.MethodName) prog_26_method_5_code (5 : Nat) (Option.some Jvm.ClassFile.FieldType.boolean)) ∈ lw_tbl := lw_at lw_m7 101 rfl
theorem w1604 : (Jvm.Cond.methodLink "TripleStoreModel" (94 : Nat) ({ cls := "TripleStoreModel", name := "in", desc := "(III)Z" } : Jvm.MethodName)) ∈ lw_tbl := lw_at lw_m7 102 rfl
theorem w1605 : (Jvm.Cond.static ({ cls := "TripleStoreModel", name := "in", desc := "(III)Z" } : Jvm.MethodName)) ∈ lw_tbl := lw_at lw_m7 103 rfl
theorem w1606 : (Jvm.Cond.code ({ cls := "TripleStoreModel", name := "in", desc := "(III)Z" } : Jvm.MethodName) prog_26_method_3_code (3 : Nat) (Option.some Jvm.ClassFile.FieldType.boolean)) ∈ lw_tbl := lw_at lw_m7 104 rfl
theorem w1607 : (Jvm.Cond.methodLink "TripleStoreModel" (137 : Nat) ({ cls := "TripleStoreModel", name := "isNumber", desc := "(J)Z" } : Jvm.MethodName)) ∈ lw_tbl := lw_at lw_m7 105 rfl
theorem w1608 : (Jvm.Cond.static ({ cls := "TripleStoreModel", name := "isNumber", desc := "(J)Z" } : Jvm.MethodName)) ∈ lw_tbl := lw_at lw_m7 106 rfl
theorem w1609 : (Jvm.Cond.code ({ cls := "TripleStoreModel", name := "isNumber", desc := "(J)Z" } : Jvm.MethodName) prog_26_method_6_code (2 : Nat) (Option.some Jvm.ClassFile.FieldType.boolean)) ∈ lw_tbl := lw_at lw_m7 107 rfl
theorem w1610 : (Jvm.Cond.constantLong "TripleStoreModel" (98 : Nat) (-1 : Int64)) ∈ lw_tbl := lw_at lw_m7 108 rfl
theorem w1611 : (Jvm.Cond.constantLong "TripleStoreModel" (100 : Nat) (-10000 : Int64)) ∈ lw_tbl := lw_at lw_m7 109 rfl
theorem w1612 : (Jvm.Cond.methodLink "TripleStoreModel" (109 : Nat) ({ cls := "TripleStoreModel", name := "good", desc := "(ZI)Z" } : Jvm.MethodName)) ∈ lw_tbl := lw_at lw_m7 110 rfl
theorem w1613 : (Jvm.Cond.privateMethod ({ cls := "TripleStoreModel", name := "good", desc := "(ZI)Z" } : Jvm.MethodName)) ∈ lw_tbl := lw_at lw_m7 111 rfl
theorem w1614 : (Jvm.Cond.instanceMethod ({ cls := "TripleStoreModel", name := "good", desc := "(ZI)Z" } : Jvm.MethodName)) ∈ lw_tbl := lw_at lw_m7 112 rfl
theorem w1615 : (Jvm.Cond.code ({ cls := "TripleStoreModel", name := "good", desc := "(ZI)Z" } : Jvm.MethodName) prog_26_method_4_code (3 : Nat) (Option.some Jvm.ClassFile.FieldType.boolean)) ∈ lw_tbl := lw_at lw_m7 113 rfl
theorem w1616 : (Jvm.Cond.methodLink "TripleStoreModel" (144 : Nat) ({ cls := "TripleStoreModel", name := "does", desc := "(ZJJJ)I" } : Jvm.MethodName)) ∈ lw_tbl := lw_at lw_m7 114 rfl
theorem w1617 : (Jvm.Cond.privateMethod ({ cls := "TripleStoreModel", name := "does", desc := "(ZJJJ)I" } : Jvm.MethodName)) ∈ lw_tbl := lw_at lw_m7 115 rfl
theorem w1618 : (Jvm.Cond.instanceMethod ({ cls := "TripleStoreModel", name := "does", desc := "(ZJJJ)I" } : Jvm.MethodName)) ∈ lw_tbl := lw_at lw_m7 116 rfl
theorem w1619 : (Jvm.Cond.code ({ cls := "TripleStoreModel", name := "does", desc := "(ZJJJ)I" } : Jvm.MethodName) prog_26_method_10_code (9 : Nat) (Option.some Jvm.ClassFile.FieldType.int)) ∈ lw_tbl := lw_at lw_m7 117 rfl
theorem w1620 : (Jvm.Cond.methodLink "TripleStoreModel" (105 : Nat) ({ cls := "TripleStoreModel", name := "find", desc := "(JJJ)I" } : Jvm.MethodName)) ∈ lw_tbl := lw_at lw_m7 118 rfl
theorem w1621 : (Jvm.Cond.privateMethod ({ cls := "TripleStoreModel", name := "find", desc := "(JJJ)I" } : Jvm.MethodName)) ∈ lw_tbl := lw_at lw_m7 119 rfl
theorem w1622 : (Jvm.Cond.instanceMethod ({ cls := "TripleStoreModel", name := "find", desc := "(JJJ)I" } : Jvm.MethodName)) ∈ lw_tbl := lw_at lw_m7 120 rfl
theorem w1623 : (Jvm.Cond.code ({ cls := "TripleStoreModel", name := "find", desc := "(JJJ)I" } : Jvm.MethodName) prog_26_method_8_code (8 : Nat) (Option.some Jvm.ClassFile.FieldType.int)) ∈ lw_tbl := lw_at lw_m7 121 rfl
theorem w1624 : (Jvm.Cond.methodLink "TripleStoreModel" (113 : Nat) ({ cls := "TripleStoreModel", name := "apply", desc := "(ZJJJ)V" } : Jvm.MethodName)) ∈ lw_tbl := lw_at lw_m7 122 rfl
theorem w1625 : (Jvm.Cond.privateMethod ({ cls := "TripleStoreModel", name := "apply", desc := "(ZJJJ)V" } : Jvm.MethodName)) ∈ lw_tbl := lw_at lw_m7 123 rfl
theorem w1626 : (Jvm.Cond.instanceMethod ({ cls := "TripleStoreModel", name := "apply", desc := "(ZJJJ)V" } : Jvm.MethodName)) ∈ lw_tbl := lw_at lw_m7 124 rfl
theorem w1627 : (Jvm.Cond.code ({ cls := "TripleStoreModel", name := "apply", desc := "(ZJJJ)V" } : Jvm.MethodName) prog_26_method_9_code (10 : Nat) (Option.none : Option Jvm.ClassFile.FieldType)) ∈ lw_tbl := lw_at lw_m7 125 rfl
theorem w1628 : (Jvm.Cond.methodLink "TripleStoreModel" (127 : Nat) ({ cls := "TripleStoreModel", name := "close", desc := "()V" } : Jvm.MethodName)) ∈ lw_tbl := lw_at lw_m7 126 rfl
theorem w1629 : (Jvm.Cond.privateMethod ({ cls := "TripleStoreModel", name := "close", desc := "()V" } : Jvm.MethodName)) ∈ lw_tbl := lw_at lw_m7 127 rfl
theorem w1630 : (Jvm.Cond.instanceMethod ({ cls := "TripleStoreModel", name := "close", desc := "()V" } : Jvm.MethodName)) ∈ lw_tbl := lw_at lw_m7 128 rfl
theorem w1631 : (Jvm.Cond.code ({ cls := "TripleStoreModel", name := "close", desc := "()V" } : Jvm.MethodName) prog_26_method_11_code (1 : Nat) (Option.none : Option Jvm.ClassFile.FieldType)) ∈ lw_tbl := lw_at lw_m7 129 rfl
theorem w1632 : (Jvm.Cond.methodLink "TripleStoreLaw" (69 : Nat) ({ cls := "TripleStoreModel", name := "remove", desc := "(JJJ)I" } : Jvm.MethodName)) ∈ lw_tbl := lw_at lw_m7 130 rfl
theorem w1633 : (Jvm.Cond.instanceMethod ({ cls := "TripleStoreModel", name := "remove", desc := "(JJJ)I" } : Jvm.MethodName)) ∈ lw_tbl := lw_at lw_m7 131 rfl
theorem w1634 : (Jvm.Cond.selects "TripleStoreModel" ({ cls := "TripleStoreModel", name := "remove", desc := "(JJJ)I" } : Jvm.MethodName) ({ cls := "TripleStoreModel", name := "remove", desc := "(JJJ)I" } : Jvm.MethodName)) ∈ lw_tbl := lw_at lw_m7 132 rfl
theorem w1635 : (Jvm.Cond.code ({ cls := "TripleStoreModel", name := "remove", desc := "(JJJ)I" } : Jvm.MethodName) prog_26_method_14_code (7 : Nat) (Option.some Jvm.ClassFile.FieldType.int)) ∈ lw_tbl := lw_at lw_m7 133 rfl
theorem w1636 : (Jvm.Cond.methodLink "TripleStoreLaw" (73 : Nat) ({ cls := "TripleStoreModel", name := "begin", desc := "()I" } : Jvm.MethodName)) ∈ lw_tbl := lw_at lw_m7 134 rfl
theorem w1637 : (Jvm.Cond.instanceMethod ({ cls := "TripleStoreModel", name := "begin", desc := "()I" } : Jvm.MethodName)) ∈ lw_tbl := lw_at lw_m7 135 rfl
theorem w1638 : (Jvm.Cond.selects "TripleStoreModel" ({ cls := "TripleStoreModel", name := "begin", desc := "()I" } : Jvm.MethodName) ({ cls := "TripleStoreModel", name := "begin", desc := "()I" } : Jvm.MethodName)) ∈ lw_tbl := lw_at lw_m7 136 rfl
theorem w1639 : (Jvm.Cond.code ({ cls := "TripleStoreModel", name := "begin", desc := "()I" } : Jvm.MethodName) prog_26_method_15_code (1 : Nat) (Option.some Jvm.ClassFile.FieldType.int)) ∈ lw_tbl := lw_at lw_m7 137 rfl
theorem w1640 : (Jvm.Cond.methodLink "TripleStoreLaw" (76 : Nat) ({ cls := "TripleStoreModel", name := "commit", desc := "()I" } : Jvm.MethodName)) ∈ lw_tbl := lw_at lw_m7 138 rfl
theorem w1641 : (Jvm.Cond.instanceMethod ({ cls := "TripleStoreModel", name := "commit", desc := "()I" } : Jvm.MethodName)) ∈ lw_tbl := lw_at lw_m7 139 rfl
theorem w1642 : (Jvm.Cond.selects "TripleStoreModel" ({ cls := "TripleStoreModel", name := "commit", desc := "()I" } : Jvm.MethodName) ({ cls := "TripleStoreModel", name := "commit", desc := "()I" } : Jvm.MethodName)) ∈ lw_tbl := lw_at lw_m7 140 rfl
theorem w1643 : (Jvm.Cond.code ({ cls := "TripleStoreModel", name := "commit", desc := "()I" } : Jvm.MethodName) prog_26_method_16_code (1 : Nat) (Option.some Jvm.ClassFile.FieldType.int)) ∈ lw_tbl := lw_at lw_m7 141 rfl
theorem w1644 : (Jvm.Cond.methodLink "TripleStoreLaw" (79 : Nat) ({ cls := "TripleStoreModel", name := "rollback", desc := "()I" } : Jvm.MethodName)) ∈ lw_tbl := lw_at lw_m7 142 rfl
theorem w1645 : (Jvm.Cond.instanceMethod ({ cls := "TripleStoreModel", name := "rollback", desc := "()I" } : Jvm.MethodName)) ∈ lw_tbl := lw_at lw_m7 143 rfl
theorem w1646 : (Jvm.Cond.selects "TripleStoreModel" ({ cls := "TripleStoreModel", name := "rollback", desc := "()I" } : Jvm.MethodName) ({ cls := "TripleStoreModel", name := "rollback", desc := "()I" } : Jvm.MethodName)) ∈ lw_tbl := lw_at lw_m7 144 rfl
theorem w1647 : (Jvm.Cond.code ({ cls := "TripleStoreModel", name := "rollback", desc := "()I" } : Jvm.MethodName) prog_26_method_18_code (2 : Nat) (Option.some Jvm.ClassFile.FieldType.int)) ∈ lw_tbl := lw_at lw_m7 145 rfl
theorem w1648 : (Jvm.Cond.methodLink "TripleStoreModel" (151 : Nat) ({ cls := "TripleStoreModel", name := "undo", desc := "(I)V" } : Jvm.MethodName)) ∈ lw_tbl := lw_at lw_m7 146 rfl
theorem w1649 : (Jvm.Cond.privateMethod ({ cls := "TripleStoreModel", name := "undo", desc := "(I)V" } : Jvm.MethodName)) ∈ lw_tbl := lw_at lw_m7 147 rfl
theorem w1650 : (Jvm.Cond.instanceMethod ({ cls := "TripleStoreModel", name := "undo", desc := "(I)V" } : Jvm.MethodName)) ∈ lw_tbl := lw_at lw_m7 148 rfl
theorem w1651 : (Jvm.Cond.code ({ cls := "TripleStoreModel", name := "undo", desc := "(I)V" } : Jvm.MethodName) prog_26_method_17_code (2 : Nat) (Option.none : Option Jvm.ClassFile.FieldType)) ∈ lw_tbl := lw_at lw_m7 149 rfl
theorem w1652 : (Jvm.Cond.methodLink "TripleStoreLaw" (83 : Nat) ({ cls := "TripleStoreModel", name := "sync", desc := "()I" } : Jvm.MethodName)) ∈ lw_tbl := lw_at lw_m7 150 rfl
theorem w1653 : (Jvm.Cond.instanceMethod ({ cls := "TripleStoreModel", name := "sync", desc := "()I" } : Jvm.MethodName)) ∈ lw_tbl := lw_at lw_m7 151 rfl
theorem w1654 : (Jvm.Cond.selects "TripleStoreModel" ({ cls := "TripleStoreModel", name := "sync", desc := "()I" } : Jvm.MethodName) ({ cls := "TripleStoreModel", name := "sync", desc := "()I" } : Jvm.MethodName)) ∈ lw_tbl := lw_at lw_m7 152 rfl
theorem w1655 : (Jvm.Cond.code ({ cls := "TripleStoreModel", name := "sync", desc := "()I" } : Jvm.MethodName) prog_26_method_20_code (2 : Nat) (Option.some Jvm.ClassFile.FieldType.int)) ∈ lw_tbl := lw_at lw_m7 153 rfl
theorem w1656 : (Jvm.Cond.methodLink "TripleStoreModel" (158 : Nat) ({ cls := "TripleStoreModel", name := "settle", desc := "()V" } : Jvm.MethodName)) ∈ lw_tbl := lw_at lw_m7 154 rfl
theorem w1657 : (Jvm.Cond.privateMethod ({ cls := "TripleStoreModel", name := "settle", desc := "()V" } : Jvm.MethodName)) ∈ lw_tbl := lw_at lw_m7 155 rfl
theorem w1658 : (Jvm.Cond.instanceMethod ({ cls := "TripleStoreModel", name := "settle", desc := "()V" } : Jvm.MethodName)) ∈ lw_tbl := lw_at lw_m7 156 rfl
theorem w1659 : (Jvm.Cond.code ({ cls := "TripleStoreModel", name := "settle", desc := "()V" } : Jvm.MethodName) prog_26_method_19_code (5 : Nat) (Option.none : Option Jvm.ClassFile.FieldType)) ∈ lw_tbl := lw_at lw_m7 157 rfl
theorem w1660 : (Jvm.Cond.methodLink "TripleStoreLaw" (87 : Nat) ({ cls := "TripleStoreModel", name := "crash", desc := "(I)I" } : Jvm.MethodName)) ∈ lw_tbl := lw_at lw_m7 158 rfl
theorem w1661 : (Jvm.Cond.instanceMethod ({ cls := "TripleStoreModel", name := "crash", desc := "(I)I" } : Jvm.MethodName)) ∈ lw_tbl := lw_at lw_m7 159 rfl
theorem w1662 : (Jvm.Cond.selects "TripleStoreModel" ({ cls := "TripleStoreModel", name := "crash", desc := "(I)I" } : Jvm.MethodName) ({ cls := "TripleStoreModel", name := "crash", desc := "(I)I" } : Jvm.MethodName)) ∈ lw_tbl := lw_at lw_m7 160 rfl
theorem w1663 : (Jvm.Cond.code ({ cls := "TripleStoreModel", name := "crash", desc := "(I)I" } : Jvm.MethodName) prog_26_method_21_code (4 : Nat) (Option.some Jvm.ClassFile.FieldType.int)) ∈ lw_tbl := lw_at lw_m7 161 rfl
theorem w1664 : (Jvm.Cond.methodLink "TripleStoreLaw" (91 : Nat) ({ cls := "TripleStoreModel", name := "append", desc := "(JI)I" } : Jvm.MethodName)) ∈ lw_tbl := lw_at lw_m7 162 rfl
theorem w1665 : (Jvm.Cond.instanceMethod ({ cls := "TripleStoreModel", name := "append", desc := "(JI)I" } : Jvm.MethodName)) ∈ lw_tbl := lw_at lw_m7 163 rfl
theorem w1666 : (Jvm.Cond.selects "TripleStoreModel" ({ cls := "TripleStoreModel", name := "append", desc := "(JI)I" } : Jvm.MethodName) ({ cls := "TripleStoreModel", name := "append", desc := "(JI)I" } : Jvm.MethodName)) ∈ lw_tbl := lw_at lw_m7 164 rfl
theorem w1667 : (Jvm.Cond.code ({ cls := "TripleStoreModel", name := "append", desc := "(JI)I" } : Jvm.MethodName) prog_26_method_22_code (5 : Nat) (Option.some Jvm.ClassFile.FieldType.int)) ∈ lw_tbl := lw_at lw_m7 165 rfl
theorem w1668 : (Jvm.Cond.methodLink "TripleStoreLaw" (94 : Nat) ({ cls := "TripleStoreModel", name := "ask", desc := "()I" } : Jvm.MethodName)) ∈ lw_tbl := lw_at lw_m7 166 rfl
theorem w1669 : (Jvm.Cond.instanceMethod ({ cls := "TripleStoreModel", name := "ask", desc := "()I" } : Jvm.MethodName)) ∈ lw_tbl := lw_at lw_m7 167 rfl
theorem w1670 : (Jvm.Cond.selects "TripleStoreModel" ({ cls := "TripleStoreModel", name := "ask", desc := "()I" } : Jvm.MethodName) ({ cls := "TripleStoreModel", name := "ask", desc := "()I" } : Jvm.MethodName)) ∈ lw_tbl := lw_at lw_m7 168 rfl
theorem w1671 : (Jvm.Cond.code ({ cls := "TripleStoreModel", name := "ask", desc := "()I" } : Jvm.MethodName) prog_26_method_55_code (2 : Nat) (Option.some Jvm.ClassFile.FieldType.int)) ∈ lw_tbl := lw_at lw_m7 169 rfl
theorem w1672 : (Jvm.Cond.methodLink "TripleStoreModel" (226 : Nat) ({ cls := "TripleStoreModel", name := "next", desc := "()V" } : Jvm.MethodName)) ∈ lw_tbl := lw_at lw_m7 170 rfl
theorem w1673 : (Jvm.Cond.privateMethod ({ cls := "TripleStoreModel", name := "next", desc := "()V" } : Jvm.MethodName)) ∈ lw_tbl := lw_at lw_m7 171 rfl
theorem w1674 : (Jvm.Cond.instanceMethod ({ cls := "TripleStoreModel", name := "next", desc := "()V" } : Jvm.MethodName)) ∈ lw_tbl := lw_at lw_m7 172 rfl
theorem w1675 : (Jvm.Cond.code ({ cls := "TripleStoreModel", name := "next", desc := "()V" } : Jvm.MethodName) prog_26_method_26_code (3 : Nat) (Option.none : Option Jvm.ClassFile.FieldType)) ∈ lw_tbl := lw_at lw_m7 173 rfl
theorem w1676 : (Jvm.Cond.methodLink "TripleStoreModel" (168 : Nat) ({ cls := "TripleStoreModel", name := "isLetter", desc := "(I)Z" } : Jvm.MethodName)) ∈ lw_tbl := lw_at lw_m7 174 rfl
theorem w1677 : (Jvm.Cond.static ({ cls := "TripleStoreModel", name := "isLetter", desc := "(I)Z" } : Jvm.MethodName)) ∈ lw_tbl := lw_at lw_m7 175 rfl
theorem w1678 : (Jvm.Cond.code ({ cls := "TripleStoreModel", name := "isLetter", desc := "(I)Z" } : Jvm.MethodName) prog_26_method_23_code (1 : Nat) (Option.some Jvm.ClassFile.FieldType.boolean)) ∈ lw_tbl := lw_at lw_m7 176 rfl
theorem w1679 : (Jvm.Cond.methodLink "TripleStoreModel" (184 : Nat) ({ cls := "TripleStoreModel", name := "letters", desc := "(I)I" } : Jvm.MethodName)) ∈ lw_tbl := lw_at lw_m7 177 rfl
theorem w1680 : (Jvm.Cond.privateMethod ({ cls := "TripleStoreModel", name := "letters", desc := "(I)I" } : Jvm.MethodName)) ∈ lw_tbl := lw_at lw_m7 178 rfl
theorem w1681 : (Jvm.Cond.instanceMethod ({ cls := "TripleStoreModel", name := "letters", desc := "(I)I" } : Jvm.MethodName)) ∈ lw_tbl := lw_at lw_m7 179 rfl
theorem w1682 : (Jvm.Cond.code ({ cls := "TripleStoreModel", name := "letters", desc := "(I)I" } : Jvm.MethodName) prog_26_method_25_code (3 : Nat) (Option.some Jvm.ClassFile.FieldType.int)) ∈ lw_tbl := lw_at lw_m7 180 rfl
theorem w1683 : (Jvm.Cond.methodLink "TripleStoreModel" (188 : Nat) ({ cls := "TripleStoreModel", name := "isFigure", desc := "(I)Z" } : Jvm.MethodName)) ∈ lw_tbl := lw_at lw_m7 181 rfl
theorem w1684 : (Jvm.Cond.static ({ cls := "TripleStoreModel", name := "isFigure", desc := "(I)Z" } : Jvm.MethodName)) ∈ lw_tbl := lw_at lw_m7 182 rfl
theorem w1685 : (Jvm.Cond.code ({ cls := "TripleStoreModel", name := "isFigure", desc := "(I)Z" } : Jvm.MethodName) prog_26_method_24_code (1 : Nat) (Option.some Jvm.ClassFile.FieldType.boolean)) ∈ lw_tbl := lw_at lw_m7 183 rfl
theorem w1686 : (Jvm.Cond.constantLong "TripleStoreModel" (191 : Nat) (10 : Int64)) ∈ lw_tbl := lw_at lw_m7 184 rfl
theorem w1687 : (Jvm.Cond.constantLong "TripleStoreModel" (193 : Nat) (48 : Int64)) ∈ lw_tbl := lw_at lw_m7 185 rfl
theorem w1688 : (Jvm.Cond.methodLink "TripleStoreModel" (361 : Nat) ({ cls := "TripleStoreModel", name := "readQuery", desc := "()V" } : Jvm.MethodName)) ∈ lw_tbl := lw_at lw_m7 186 rfl
theorem w1689 : (Jvm.Cond.privateMethod ({ cls := "TripleStoreModel", name := "readQuery", desc := "()V" } : Jvm.MethodName)) ∈ lw_tbl := lw_at lw_m7 187 rfl
theorem w1690 : (Jvm.Cond.instanceMethod ({ cls := "TripleStoreModel", name := "readQuery", desc := "()V" } : Jvm.MethodName)) ∈ lw_tbl := lw_at lw_m7 188 rfl
theorem w1691 : (Jvm.Cond.code ({ cls := "TripleStoreModel", name := "readQuery", desc := "()V" } : Jvm.MethodName) prog_26_method_41_code (2 : Nat) (Option.none : Option Jvm.ClassFile.FieldType)) ∈ lw_tbl := lw_at lw_m7 189 rfl
theorem w1692 : (Jvm.Cond.methodLink "TripleStoreModel" (217 : Nat) ({ cls := "TripleStoreModel", name := "isKey", desc := "(I)Z" } : Jvm.MethodName)) ∈ lw_tbl := lw_at lw_m7 190 rfl
theorem w1693 : (Jvm.Cond.privateMethod ({ cls := "TripleStoreModel", name := "isKey", desc := "(I)Z" } : Jvm.MethodName)) ∈ lw_tbl := lw_at lw_m7 191 rfl
theorem w1694 : (Jvm.Cond.instanceMethod ({ cls := "TripleStoreModel", name := "isKey", desc := "(I)Z" } : Jvm.MethodName)) ∈ lw_tbl := lw_at lw_m7 192 rfl
theorem w1695 : (Jvm.Cond.code ({ cls := "TripleStoreModel", name := "isKey", desc := "(I)Z" } : Jvm.MethodName) prog_26_method_27_code (4 : Nat) (Option.some Jvm.ClassFile.FieldType.boolean)) ∈ lw_tbl := lw_at lw_m7 193 rfl
theorem w1696 : (Jvm.Cond.constantLong "TripleStoreModel" (195 : Nat) (126879447475060 : Int64)) ∈ lw_tbl := lw_at lw_m7 194 rfl
theorem w1697 : (Jvm.Cond.constantLong "TripleStoreModel" (197 : Nat) (7235441220169655156 : Int64)) ∈ lw_tbl := lw_at lw_m7 195 rfl
theorem w1698 : (Jvm.Cond.constantLong "TripleStoreModel" (199 : Nat) (478660552050 : Int64)) ∈ lw_tbl := lw_at lw_m7 196 rfl
theorem w1699 : (Jvm.Cond.constantLong "TripleStoreModel" (201 : Nat) (1684370275 : Int64)) ∈ lw_tbl := lw_at lw_m7 197 rfl
theorem w1700 : (Jvm.Cond.constantLong "TripleStoreModel" (203 : Nat) (465625246068 : Int64)) ∈ lw_tbl := lw_at lw_m7 198 rfl
theorem w1701 : (Jvm.Cond.constantLong "TripleStoreModel" (205 : Nat) (112602977166706 : Int64)) ∈ lw_tbl := lw_at lw_m7 199 rfl
theorem w1702 : (Jvm.Cond.constantLong "TripleStoreModel" (207 : Nat) (8030046131791487340 : Int64)) ∈ lw_tbl := lw_at lw_m7 200 rfl
theorem w1703 : (Jvm.Cond.constantLong "TripleStoreModel" (209 : Nat) (469920281971 : Int64)) ∈ lw_tbl := lw_at lw_m7 201 rfl
theorem w1704 : (Jvm.Cond.constantLong "TripleStoreModel" (211 : Nat) (504363577198 : Int64)) ∈ lw_tbl := lw_at lw_m7 202 rfl
theorem w1705 : (Jvm.Cond.constantLong "TripleStoreModel" (213 : Nat) (7237492 : Int64)) ∈ lw_tbl := lw_at lw_m7 203 rfl
theorem w1706 : (Jvm.Cond.constantLong "TripleStoreModel" (215 : Nat) (422776761956 : Int64)) ∈ lw_tbl := lw_at lw_m7 204 rfl
theorem w1707 : (Jvm.Cond.methodLink "TripleStoreModel" (232 : Nat) ({ cls := "TripleStoreModel", name := "goOn", desc := "(Z)Z" } : Jvm.MethodName)) ∈ lw_tbl := lw_at lw_m7 205 rfl
theorem w1708 : (Jvm.Cond.privateMethod ({ cls := "TripleStoreModel", name := "goOn", desc := "(Z)Z" } : Jvm.MethodName)) ∈ lw_tbl := lw_at lw_m7 206 rfl
theorem w1709 : (Jvm.Cond.instanceMethod ({ cls := "TripleStoreModel", name := "goOn", desc := "(Z)Z" } : Jvm.MethodName)) ∈ lw_tbl := lw_at lw_m7 207 rfl
theorem w1710 : (Jvm.Cond.code ({ cls := "TripleStoreModel", name := "goOn", desc := "(Z)Z" } : Jvm.MethodName) prog_26_method_31_code (2 : Nat) (Option.some Jvm.ClassFile.FieldType.boolean)) ∈ lw_tbl := lw_at lw_m7 208 rfl
theorem w1711 : (Jvm.Cond.methodLink "TripleStoreModel" (223 : Nat) ({ cls := "TripleStoreModel", name := "stop", desc := "()V" } : Jvm.MethodName)) ∈ lw_tbl := lw_at lw_m7 209 rfl
theorem w1712 : (Jvm.Cond.privateMethod ({ cls := "TripleStoreModel", name := "stop", desc := "()V" } : Jvm.MethodName)) ∈ lw_tbl := lw_at lw_m7 210 rfl
theorem w1713 : (Jvm.Cond.instanceMethod ({ cls := "TripleStoreModel", name := "stop", desc := "()V" } : Jvm.MethodName)) ∈ lw_tbl := lw_at lw_m7 211 rfl
theorem w1714 : (Jvm.Cond.code ({ cls := "TripleStoreModel", name := "stop", desc := "()V" } : Jvm.MethodName) prog_26_method_30_code (1 : Nat) (Option.none : Option Jvm.ClassFile.FieldType)) ∈ lw_tbl := lw_at lw_m7 212 rfl
theorem w1715 : (Jvm.Cond.methodLink "TripleStoreModel" (236 : Nat) ({ cls := "TripleStoreModel", name := "readVariable", desc := "()I" } : Jvm.MethodName)) ∈ lw_tbl := lw_at lw_m7 213 rfl
theorem w1716 : (Jvm.Cond.privateMethod ({ cls := "TripleStoreModel", name := "readVariable", desc := "()I" } : Jvm.MethodName)) ∈ lw_tbl := lw_at lw_m7 214 rfl
theorem w1717 : (Jvm.Cond.instanceMethod ({ cls := "TripleStoreModel", name := "readVariable", desc := "()I" } : Jvm.MethodName)) ∈ lw_tbl := lw_at lw_m7 215 rfl
theorem w1718 : (Jvm.Cond.code ({ cls := "TripleStoreModel", name := "readVariable", desc := "()I" } : Jvm.MethodName) prog_26_method_32_code (3 : Nat) (Option.some Jvm.ClassFile.FieldType.int)) ∈ lw_tbl := lw_at lw_m7 216 rfl
theorem w1719 : (Jvm.Cond.methodLink "TripleStoreModel" (299 : Nat) ({ cls := "TripleStoreModel", name := "readGroups", desc := "()V" } : Jvm.MethodName)) ∈ lw_tbl := lw_at lw_m7 217 rfl
theorem w1720 : (Jvm.Cond.privateMethod ({ cls := "TripleStoreModel", name := "readGroups", desc := "()V" } : Jvm.MethodName)) ∈ lw_tbl := lw_at lw_m7 218 rfl
theorem w1721 : (Jvm.Cond.instanceMethod ({ cls := "TripleStoreModel", name := "readGroups", desc := "()V" } : Jvm.MethodName)) ∈ lw_tbl := lw_at lw_m7 219 rfl
theorem w1722 : (Jvm.Cond.code ({ cls := "TripleStoreModel", name := "readGroups", desc := "()V" } : Jvm.MethodName) prog_26_method_40_code (1 : Nat) (Option.none : Option Jvm.ClassFile.FieldType)) ∈ lw_tbl := lw_at lw_m7 220 rfl
theorem w1723 : (Jvm.Cond.methodLink "TripleStoreModel" (275 : Nat) ({ cls := "TripleStoreModel", name := "readStart", desc := "(I)V" } : Jvm.MethodName)) ∈ lw_tbl := lw_at lw_m7 221 rfl
theorem w1724 : (Jvm.Cond.privateMethod ({ cls := "TripleStoreModel", name := "readStart", desc := "(I)V" } : Jvm.MethodName)) ∈ lw_tbl := lw_at lw_m7 222 rfl
theorem w1725 : (Jvm.Cond.instanceMethod ({ cls := "TripleStoreModel", name := "readStart", desc := "(I)V" } : Jvm.MethodName)) ∈ lw_tbl := lw_at lw_m7 223 rfl
theorem w1726 : (Jvm.Cond.code ({ cls := "TripleStoreModel", name := "readStart", desc := "(I)V" } : Jvm.MethodName) prog_26_method_38_code (3 : Nat) (Option.none : Option Jvm.ClassFile.FieldType)) ∈ lw_tbl := lw_at lw_m7 224 rfl
theorem w1727 : (Jvm.Cond.methodLink "TripleStoreModel" (256 : Nat) ({ cls := "TripleStoreModel", name := "isSign", desc := "(I)Z" } : Jvm.MethodName)) ∈ lw_tbl := lw_at lw_m7 225 rfl
theorem w1728 : (Jvm.Cond.privateMethod ({ cls := "TripleStoreModel", name := "isSign", desc := "(I)Z" } : Jvm.MethodName)) ∈ lw_tbl := lw_at lw_m7 226 rfl
theorem w1729 : (Jvm.Cond.instanceMethod ({ cls := "TripleStoreModel", name := "isSign", desc := "(I)Z" } : Jvm.MethodName)) ∈ lw_tbl := lw_at lw_m7 227 rfl
theorem w1730 : (Jvm.Cond.code ({ cls := "TripleStoreModel", name := "isSign", desc := "(I)Z" } : Jvm.MethodName) prog_26_method_29_code (2 : Nat) (Option.some Jvm.ClassFile.FieldType.boolean)) ∈ lw_tbl := lw_at lw_m7 228 rfl
theorem w1731 : (Jvm.Cond.methodLink "TripleStoreModel" (271 : Nat) ({ cls := "TripleStoreModel", name := "emit", desc := "(II)V" } : Jvm.MethodName)) ∈ lw_tbl := lw_at lw_m7 229 rfl
theorem w1732 : (Jvm.Cond.privateMethod ({ cls := "TripleStoreModel", name := "emit", desc := "(II)V" } : Jvm.MethodName)) ∈ lw_tbl := lw_at lw_m7 230 rfl
theorem w1733 : (Jvm.Cond.instanceMethod ({ cls := "TripleStoreModel", name := "emit", desc := "(II)V" } : Jvm.MethodName)) ∈ lw_tbl := lw_at lw_m7 231 rfl
theorem w1734 : (Jvm.Cond.code ({ cls := "TripleStoreModel", name := "emit", desc := "(II)V" } : Jvm.MethodName) prog_26_method_34_code (3 : Nat) (Option.none : Option Jvm.ClassFile.FieldType)) ∈ lw_tbl := lw_at lw_m7 232 rfl
theorem w1735 : (Jvm.Cond.methodLink "TripleStoreModel" (284 : Nat) ({ cls := "TripleStoreModel", name := "readElement", desc := "()V" } : Jvm.MethodName)) ∈ lw_tbl := lw_at lw_m7 233 rfl
theorem w1736 : (Jvm.Cond.privateMethod ({ cls := "TripleStoreModel", name := "readElement", desc := "()V" } : Jvm.MethodName)) ∈ lw_tbl := lw_at lw_m7 234 rfl
theorem w1737 : (Jvm.Cond.instanceMethod ({ cls := "TripleStoreModel", name := "readElement", desc := "()V" } : Jvm.MethodName)) ∈ lw_tbl := lw_at lw_m7 235 rfl
theorem w1738 : (Jvm.Cond.code ({ cls := "TripleStoreModel", name := "readElement", desc := "()V" } : Jvm.MethodName) prog_26_method_36_code (4 : Nat) (Option.none : Option Jvm.ClassFile.FieldType)) ∈ lw_tbl := lw_at lw_m7 236 rfl
theorem w1739 : (Jvm.Cond.methodLink "TripleStoreModel" (240 : Nat) ({ cls := "TripleStoreModel", name := "isTerm", desc := "()Z" } : Jvm.MethodName)) ∈ lw_tbl := lw_at lw_m7 237 rfl
theorem w1740 : (Jvm.Cond.privateMethod ({ cls := "TripleStoreModel", name := "isTerm", desc := "()Z" } : Jvm.MethodName)) ∈ lw_tbl := lw_at lw_m7 238 rfl
theorem w1741 : (Jvm.Cond.instanceMethod ({ cls := "TripleStoreModel", name := "isTerm", desc := "()Z" } : Jvm.MethodName)) ∈ lw_tbl := lw_at lw_m7 239 rfl
theorem w1742 : (Jvm.Cond.code ({ cls := "TripleStoreModel", name := "isTerm", desc := "()Z" } : Jvm.MethodName) prog_26_method_28_code (3 : Nat) (Option.some Jvm.ClassFile.FieldType.boolean)) ∈ lw_tbl := lw_at lw_m8 0 rfl
theorem w1743 : (Jvm.Cond.methodLink "TripleStoreModel" (265 : Nat) ({ cls := "TripleStoreModel", name := "readTest", desc := "()V" } : Jvm.MethodName)) ∈ lw_tbl := lw_at lw_m8 1 rfl
theorem w1744 : (Jvm.Cond.privateMethod ({ cls := "TripleStoreModel", name := "readTest", desc := "()V" } : Jvm.MethodName)) ∈ lw_tbl := lw_at lw_m8 2 rfl
theorem w1745 : (Jvm.Cond.instanceMethod ({ cls := "TripleStoreModel", name := "readTest", desc := "()V" } : Jvm.MethodName)) ∈ lw_tbl := lw_at lw_m8 3 rfl
theorem w1746 : (Jvm.Cond.code ({ cls := "TripleStoreModel", name := "readTest", desc := "()V" } : Jvm.MethodName) prog_26_method_35_code (3 : Nat) (Option.none : Option Jvm.ClassFile.FieldType)) ∈ lw_tbl := lw_at lw_m8 4 rfl
theorem w1747 : (Jvm.Cond.methodLink "TripleStoreModel" (253 : Nat) ({ cls := "TripleStoreModel", name := "readSide", desc := "(I)V" } : Jvm.MethodName)) ∈ lw_tbl := lw_at lw_m8 5 rfl
theorem w1748 : (Jvm.Cond.privateMethod ({ cls := "TripleStoreModel", name := "readSide", desc := "(I)V" } : Jvm.MethodName)) ∈ lw_tbl := lw_at lw_m8 6 rfl
theorem w1749 : (Jvm.Cond.instanceMethod ({ cls := "TripleStoreModel", name := "readSide", desc := "(I)V" } : Jvm.MethodName)) ∈ lw_tbl := lw_at lw_m8 7 rfl
theorem w1750 : (Jvm.Cond.code ({ cls := "TripleStoreModel", name := "readSide", desc := "(I)V" } : Jvm.MethodName) prog_26_method_33_code (3 : Nat) (Option.none : Option Jvm.ClassFile.FieldType)) ∈ lw_tbl := lw_at lw_m8 8 rfl
theorem w1751 : (Jvm.Cond.methodLink "TripleStoreModel" (287 : Nat) ({ cls := "TripleStoreModel", name := "readOn", desc := "()V" } : Jvm.MethodName)) ∈ lw_tbl := lw_at lw_m8 9 rfl
theorem w1752 : (Jvm.Cond.privateMethod ({ cls := "TripleStoreModel", name := "readOn", desc := "()V" } : Jvm.MethodName)) ∈ lw_tbl := lw_at lw_m8 10 rfl
theorem w1753 : (Jvm.Cond.instanceMethod ({ cls := "TripleStoreModel", name := "readOn", desc := "()V" } : Jvm.MethodName)) ∈ lw_tbl := lw_at lw_m8 11 rfl
theorem w1754 : (Jvm.Cond.code ({ cls := "TripleStoreModel", name := "readOn", desc := "()V" } : Jvm.MethodName) prog_26_method_37_code (2 : Nat) (Option.none : Option Jvm.ClassFile.FieldType)) ∈ lw_tbl := lw_at lw_m8 12 rfl
theorem w1755 : (Jvm.Cond.methodLink "TripleStoreModel" (290 : Nat) ({ cls := "TripleStoreModel", name := "readClose", desc := "()V" } : Jvm.MethodName)) ∈ lw_tbl := lw_at lw_m8 13 rfl
theorem w1756 : (Jvm.Cond.privateMethod ({ cls := "TripleStoreModel", name := "readClose", desc := "()V" } : Jvm.MethodName)) ∈ lw_tbl := lw_at lw_m8 14 rfl
theorem w1757 : (Jvm.Cond.instanceMethod ({ cls := "TripleStoreModel", name := "readClose", desc := "()V" } : Jvm.MethodName)) ∈ lw_tbl := lw_at lw_m8 15 rfl
theorem w1758 : (Jvm.Cond.code ({ cls := "TripleStoreModel", name := "readClose", desc := "()V" } : Jvm.MethodName) prog_26_method_39_code (2 : Nat) (Option.none : Option Jvm.ClassFile.FieldType)) ∈ lw_tbl := lw_at lw_m8 16 rfl
theorem w1759 : (Jvm.Cond.methodLink "TripleStoreModel" (367 : Nat) ({ cls := "TripleStoreModel", name := "work", desc := "(II)V" } : Jvm.MethodName)) ∈ lw_tbl := lw_at lw_m8 17 rfl
theorem w1760 : (Jvm.Cond.privateMethod ({ cls := "TripleStoreModel", name := "work", desc := "(II)V" } : Jvm.MethodName)) ∈ lw_tbl := lw_at lw_m8 18 rfl
theorem w1761 : (Jvm.Cond.instanceMethod ({ cls := "TripleStoreModel", name := "work", desc := "(II)V" } : Jvm.MethodName)) ∈ lw_tbl := lw_at lw_m8 19 rfl
theorem w1762 : (Jvm.Cond.code ({ cls := "TripleStoreModel", name := "work", desc := "(II)V" } : Jvm.MethodName) prog_26_method_50_code (4 : Nat) (Option.none : Option Jvm.ClassFile.FieldType)) ∈ lw_tbl := lw_at lw_m8 20 rfl
theorem w1763 : (Jvm.Cond.methodLink "TripleStoreModel" (338 : Nat) ({ cls := "TripleStoreModel", name := "match", desc := "(I)V" } : Jvm.MethodName)) ∈ lw_tbl := lw_at lw_m8 21 rfl
theorem w1764 : (Jvm.Cond.privateMethod ({ cls := "TripleStoreModel", name := "match", desc := "(I)V" } : Jvm.MethodName)) ∈ lw_tbl := lw_at lw_m8 22 rfl
theorem w1765 : (Jvm.Cond.instanceMethod ({ cls := "TripleStoreModel", name := "match", desc := "(I)V" } : Jvm.MethodName)) ∈ lw_tbl := lw_at lw_m8 23 rfl
theorem w1766 : (Jvm.Cond.code ({ cls := "TripleStoreModel", name := "match", desc := "(I)V" } : Jvm.MethodName) prog_26_method_47_code (10 : Nat) (Option.none : Option Jvm.ClassFile.FieldType)) ∈ lw_tbl := lw_at lw_m8 24 rfl
theorem w1767 : (Jvm.Cond.methodLink "TripleStoreModel" (341 : Nat) ({ cls := "TripleStoreModel", name := "combine", desc := "(I)V" } : Jvm.MethodName)) ∈ lw_tbl := lw_at lw_m8 25 rfl
theorem w1768 : (Jvm.Cond.privateMethod ({ cls := "TripleStoreModel", name := "combine", desc := "(I)V" } : Jvm.MethodName)) ∈ lw_tbl := lw_at lw_m8 26 rfl
theorem w1769 : (Jvm.Cond.instanceMethod ({ cls := "TripleStoreModel", name := "combine", desc := "(I)V" } : Jvm.MethodName)) ∈ lw_tbl := lw_at lw_m8 27 rfl
theorem w1770 : (Jvm.Cond.code ({ cls := "TripleStoreModel", name := "combine", desc := "(I)V" } : Jvm.MethodName) prog_26_method_46_code (8 : Nat) (Option.none : Option Jvm.ClassFile.FieldType)) ∈ lw_tbl := lw_at lw_m8 28 rfl
theorem w1771 : (Jvm.Cond.methodLink "TripleStoreModel" (321 : Nat) ({ cls := "TripleStoreModel", name := "compatible", desc := "(II)Z" } : Jvm.MethodName)) ∈ lw_tbl := lw_at lw_m8 29 rfl
theorem w1772 : (Jvm.Cond.privateMethod ({ cls := "TripleStoreModel", name := "compatible", desc := "(II)Z" } : Jvm.MethodName)) ∈ lw_tbl := lw_at lw_m8 30 rfl
theorem w1773 : (Jvm.Cond.instanceMethod ({ cls := "TripleStoreModel", name := "compatible", desc := "(II)Z" } : Jvm.MethodName)) ∈ lw_tbl := lw_at lw_m8 31 rfl
theorem w1774 : (Jvm.Cond.code ({ cls := "TripleStoreModel", name := "compatible", desc := "(II)Z" } : Jvm.MethodName) prog_26_method_44_code (4 : Nat) (Option.some Jvm.ClassFile.FieldType.boolean)) ∈ lw_tbl := lw_at lw_m8 32 rfl
theorem w1775 : (Jvm.Cond.methodLink "TripleStoreModel" (325 : Nat) ({ cls := "TripleStoreModel", name := "join", desc := "(IIII)V" } : Jvm.MethodName)) ∈ lw_tbl := lw_at lw_m8 33 rfl
theorem w1776 : (Jvm.Cond.privateMethod ({ cls := "TripleStoreModel", name := "join", desc := "(IIII)V" } : Jvm.MethodName)) ∈ lw_tbl := lw_at lw_m8 34 rfl
theorem w1777 : (Jvm.Cond.instanceMethod ({ cls := "TripleStoreModel", name := "join", desc := "(IIII)V" } : Jvm.MethodName)) ∈ lw_tbl := lw_at lw_m8 35 rfl
theorem w1778 : (Jvm.Cond.code ({ cls := "TripleStoreModel", name := "join", desc := "(IIII)V" } : Jvm.MethodName) prog_26_method_45_code (8 : Nat) (Option.none : Option Jvm.ClassFile.FieldType)) ∈ lw_tbl := lw_at lw_m8 36 rfl
theorem w1779 : (Jvm.Cond.methodLink "TripleStoreModel" (314 : Nat) ({ cls := "TripleStoreModel", name := "addTo", desc := "(III)V" } : Jvm.MethodName)) ∈ lw_tbl := lw_at lw_m8 37 rfl
theorem w1780 : (Jvm.Cond.privateMethod ({ cls := "TripleStoreModel", name := "addTo", desc := "(III)V" } : Jvm.MethodName)) ∈ lw_tbl := lw_at lw_m8 38 rfl
theorem w1781 : (Jvm.Cond.instanceMethod ({ cls := "TripleStoreModel", name := "addTo", desc := "(III)V" } : Jvm.MethodName)) ∈ lw_tbl := lw_at lw_m8 39 rfl
theorem w1782 : (Jvm.Cond.code ({ cls := "TripleStoreModel", name := "addTo", desc := "(III)V" } : Jvm.MethodName) prog_26_method_42_code (6 : Nat) (Option.none : Option Jvm.ClassFile.FieldType)) ∈ lw_tbl := lw_at lw_m8 40 rfl
theorem w1783 : (Jvm.Cond.methodLink "TripleStoreModel" (329 : Nat) ({ cls := "TripleStoreModel", name := "copy", desc := "(II)V" } : Jvm.MethodName)) ∈ lw_tbl := lw_at lw_m8 41 rfl
theorem w1784 : (Jvm.Cond.privateMethod ({ cls := "TripleStoreModel", name := "copy", desc := "(II)V" } : Jvm.MethodName)) ∈ lw_tbl := lw_at lw_m8 42 rfl
theorem w1785 : (Jvm.Cond.instanceMethod ({ cls := "TripleStoreModel", name := "copy", desc := "(II)V" } : Jvm.MethodName)) ∈ lw_tbl := lw_at lw_m8 43 rfl
theorem w1786 : (Jvm.Cond.code ({ cls := "TripleStoreModel", name := "copy", desc := "(II)V" } : Jvm.MethodName) prog_26_method_43_code (4 : Nat) (Option.none : Option Jvm.ClassFile.FieldType)) ∈ lw_tbl := lw_at lw_m8 44 rfl
theorem w1787 : (Jvm.Cond.methodLink "TripleStoreModel" (344 : Nat) ({ cls := "TripleStoreModel", name := "filter", desc := "(I)V" } : Jvm.MethodName)) ∈ lw_tbl := lw_at lw_m8 45 rfl
theorem w1788 : (Jvm.Cond.privateMethod ({ cls := "TripleStoreModel", name := "filter", desc := "(I)V" } : Jvm.MethodName)) ∈ lw_tbl := lw_at lw_m8 46 rfl
theorem w1789 : (Jvm.Cond.instanceMethod ({ cls := "TripleStoreModel", name := "filter", desc := "(I)V" } : Jvm.MethodName)) ∈ lw_tbl := lw_at lw_m8 47 rfl
theorem w1790 : (Jvm.Cond.code ({ cls := "TripleStoreModel", name := "filter", desc := "(I)V" } : Jvm.MethodName) prog_26_method_49_code (6 : Nat) (Option.none : Option Jvm.ClassFile.FieldType)) ∈ lw_tbl := lw_at lw_m8 48 rfl
theorem w1791 : (Jvm.Cond.methodLink "TripleStoreModel" (336 : Nat) ({ cls := "TripleStoreModel", name := "holds", desc := "(II)Z" } : Jvm.MethodName)) ∈ lw_tbl := lw_at lw_m8 49 rfl
theorem w1792 : (Jvm.Cond.privateMethod ({ cls := "TripleStoreModel", name := "holds", desc := "(II)Z" } : Jvm.MethodName)) ∈ lw_tbl := lw_at lw_m8 50 rfl
theorem w1793 : (Jvm.Cond.instanceMethod ({ cls := "TripleStoreModel", name := "holds", desc := "(II)Z" } : Jvm.MethodName)) ∈ lw_tbl := lw_at lw_m8 51 rfl
theorem w1794 : (Jvm.Cond.code ({ cls := "TripleStoreModel", name := "holds", desc := "(II)Z" } : Jvm.MethodName) prog_26_method_48_code (7 : Nat) (Option.some Jvm.ClassFile.FieldType.boolean)) ∈ lw_tbl := lw_at lw_m8 52 rfl
theorem w1795 : (Jvm.Cond.methodLink "TripleStoreModel" (332 : Nat) ({ cls := "TripleStoreModel", name := "compare", desc := "(JJ)I" } : Jvm.MethodName)) ∈ lw_tbl := lw_at lw_m8 53 rfl
theorem w1796 : (Jvm.Cond.static ({ cls := "TripleStoreModel", name := "compare", desc := "(JJ)I" } : Jvm.MethodName)) ∈ lw_tbl := lw_at lw_m8 54 rfl
theorem w1797 : (Jvm.Cond.code ({ cls := "TripleStoreModel", name := "compare", desc := "(JJ)I" } : Jvm.MethodName) prog_26_method_7_code (8 : Nat) (Option.some Jvm.ClassFile.FieldType.int)) ∈ lw_tbl := lw_at lw_m8 55 rfl
theorem w1798 : (Jvm.Cond.methodLink "TripleStoreModel" (370 : Nat) ({ cls := "TripleStoreModel", name := "makeRows", desc := "()V" } : Jvm.MethodName)) ∈ lw_tbl := lw_at lw_m8 56 rfl
theorem w1799 : (Jvm.Cond.privateMethod ({ cls := "TripleStoreModel", name := "makeRows", desc := "()V" } : Jvm.MethodName)) ∈ lw_tbl := lw_at lw_m8 57 rfl
theorem w1800 : (Jvm.Cond.instanceMethod ({ cls := "TripleStoreModel", name := "makeRows", desc := "()V" } : Jvm.MethodName)) ∈ lw_tbl := lw_at lw_m8 58 rfl
theorem w1801 : (Jvm.Cond.code ({ cls := "TripleStoreModel", name := "makeRows", desc := "()V" } : Jvm.MethodName) prog_26_method_54_code (5 : Nat) (Option.none : Option Jvm.ClassFile.FieldType)) ∈ lw_tbl := lw_at lw_m8 59 rfl
theorem w1802 : (Jvm.Cond.methodLink "TripleStoreModel" (355 : Nat) ({ cls := "TripleStoreModel", name := "before", desc := "(II)Z" } : Jvm.MethodName)) ∈ lw_tbl := lw_at lw_m8 60 rfl
theorem w1803 : (Jvm.Cond.privateMethod ({ cls := "TripleStoreModel", name := "before", desc := "(II)Z" } : Jvm.MethodName)) ∈ lw_tbl := lw_at lw_m8 61 rfl
theorem w1804 : (Jvm.Cond.instanceMethod ({ cls := "TripleStoreModel", name := "before", desc := "(II)Z" } : Jvm.MethodName)) ∈ lw_tbl := lw_at lw_m8 62 rfl
theorem w1805 : (Jvm.Cond.code ({ cls := "TripleStoreModel", name := "before", desc := "(II)Z" } : Jvm.MethodName) prog_26_method_53_code (4 : Nat) (Option.some Jvm.ClassFile.FieldType.boolean)) ∈ lw_tbl := lw_at lw_m8 63 rfl
theorem w1806 : (Jvm.Cond.methodLink "TripleStoreModel" (347 : Nat) ({ cls := "TripleStoreModel", name := "by", desc := "(III)I" } : Jvm.MethodName)) ∈ lw_tbl := lw_at lw_m8 64 rfl
theorem w1807 : (Jvm.Cond.privateMethod ({ cls := "TripleStoreModel", name := "by", desc := "(III)I" } : Jvm.MethodName)) ∈ lw_tbl := lw_at lw_m8 65 rfl
theorem w1808 : (Jvm.Cond.instanceMethod ({ cls := "TripleStoreModel", name := "by", desc := "(III)I" } : Jvm.MethodName)) ∈ lw_tbl := lw_at lw_m8 66 rfl
theorem w1809 : (Jvm.Cond.code ({ cls := "TripleStoreModel", name := "by", desc := "(III)I" } : Jvm.MethodName) prog_26_method_51_code (6 : Nat) (Option.some Jvm.ClassFile.FieldType.int)) ∈ lw_tbl := lw_at lw_m8 67 rfl
theorem w1810 : (Jvm.Cond.methodLink "TripleStoreModel" (351 : Nat) ({ cls := "TripleStoreModel", name := "byTerms", desc := "(II)I" } : Jvm.MethodName)) ∈ lw_tbl := lw_at lw_m8 68 rfl
theorem w1811 : (Jvm.Cond.privateMethod ({ cls := "TripleStoreModel", name := "byTerms", desc := "(II)I" } : Jvm.MethodName)) ∈ lw_tbl := lw_at lw_m8 69 rfl
theorem w1812 : (Jvm.Cond.instanceMethod ({ cls := "TripleStoreModel", name := "byTerms", desc := "(II)I" } : Jvm.MethodName)) ∈ lw_tbl := lw_at lw_m8 70 rfl
theorem w1813 : (Jvm.Cond.code ({ cls := "TripleStoreModel", name := "byTerms", desc := "(II)I" } : Jvm.MethodName) prog_26_method_52_code (5 : Nat) (Option.some Jvm.ClassFile.FieldType.int)) ∈ lw_tbl := lw_at lw_m8 71 rfl
theorem w1814 : (Jvm.Cond.methodLink "TripleStoreLaw" (98 : Nat) ({ cls := "TripleStoreModel", name := "fault", desc := "()I" } : Jvm.MethodName)) ∈ lw_tbl := lw_at lw_m8 72 rfl
theorem w1815 : (Jvm.Cond.instanceMethod ({ cls := "TripleStoreModel", name := "fault", desc := "()I" } : Jvm.MethodName)) ∈ lw_tbl := lw_at lw_m8 73 rfl
theorem w1816 : (Jvm.Cond.selects "TripleStoreModel" ({ cls := "TripleStoreModel", name := "fault", desc := "()I" } : Jvm.MethodName) ({ cls := "TripleStoreModel", name := "fault", desc := "()I" } : Jvm.MethodName)) ∈ lw_tbl := lw_at lw_m8 74 rfl
theorem w1817 : (Jvm.Cond.code ({ cls := "TripleStoreModel", name := "fault", desc := "()I" } : Jvm.MethodName) prog_26_method_56_code (1 : Nat) (Option.some Jvm.ClassFile.FieldType.int)) ∈ lw_tbl := lw_at lw_m8 75 rfl
theorem w1818 : (Jvm.Cond.methodLink "TripleStoreLaw" (102 : Nat) ({ cls := "TripleStoreModel", name := "cell", desc := "(II)J" } : Jvm.MethodName)) ∈ lw_tbl := lw_at lw_m8 76 rfl
theorem w1819 : (Jvm.Cond.instanceMethod ({ cls := "TripleStoreModel", name := "cell", desc := "(II)J" } : Jvm.MethodName)) ∈ lw_tbl := lw_at lw_m8 77 rfl
theorem w1820 : (Jvm.Cond.selects "TripleStoreModel" ({ cls := "TripleStoreModel", name := "cell", desc := "(II)J" } : Jvm.MethodName) ({ cls := "TripleStoreModel", name := "cell", desc := "(II)J" } : Jvm.MethodName)) ∈ lw_tbl := lw_at lw_m8 78 rfl
theorem w1821 : (Jvm.Cond.code ({ cls := "TripleStoreModel", name := "cell", desc := "(II)J" } : Jvm.MethodName) prog_26_method_57_code (4 : Nat) (Option.some Jvm.ClassFile.FieldType.long)) ∈ lw_tbl := lw_at lw_m8 79 rfl
theorem w1822 : (Jvm.Cond.methodLink "TripleStoreLaw" (105 : Nat) ({ cls := "TripleStoreModel", name := "count", desc := "(I)I" } : Jvm.MethodName)) ∈ lw_tbl := lw_at lw_m8 80 rfl
theorem w1823 : (Jvm.Cond.instanceMethod ({ cls := "TripleStoreModel", name := "count", desc := "(I)I" } : Jvm.MethodName)) ∈ lw_tbl := lw_at lw_m8 81 rfl
theorem w1824 : (Jvm.Cond.selects "TripleStoreModel" ({ cls := "TripleStoreModel", name := "count", desc := "(I)I" } : Jvm.MethodName) ({ cls := "TripleStoreModel", name := "count", desc := "(I)I" } : Jvm.MethodName)) ∈ lw_tbl := lw_at lw_m8 82 rfl
theorem w1825 : (Jvm.Cond.code ({ cls := "TripleStoreModel", name := "count", desc := "(I)I" } : Jvm.MethodName) prog_26_method_58_code (2 : Nat) (Option.some Jvm.ClassFile.FieldType.int)) ∈ lw_tbl := lw_at lw_m8 83 rfl
theorem w1826 : (Jvm.Cond.constantLong "TripleStoreLaw" (56 : Nat) (4294967295 : Int64)) ∈ lw_tbl := lw_at lw_m8 84 rfl
theorem w1827 : (Jvm.Cond.sameMethod "java/lang/Throwable" "java/lang/Throwable" "fillInStackTrace" "(I)Ljava/lang/Throwable;") ∈ lw_tbl := lw_at lw_m8 85 rfl
theorem w1828 : (Jvm.Cond.sameMethod "java/lang/AbstractStringBuilder" "java/lang/AbstractStringBuilder" "length" "()I") ∈ lw_tbl := lw_at lw_m8 86 rfl
theorem w1829 : (Jvm.Cond.sameMethod "java/lang/AbstractStringBuilder" "java/lang/AbstractStringBuilder" "append" "(C)Ljava/lang/AbstractStringBuilder;") ∈ lw_tbl := lw_at lw_m8 87 rfl
theorem w1830 : (Jvm.Cond.sameMethod "java/lang/AbstractStringBuilder" "java/lang/AbstractStringBuilder" "ensureCapacityInternal" "(I)V") ∈ lw_tbl := lw_at lw_m8 88 rfl
theorem w1831 : (Jvm.Cond.sameMethod "java/lang/AbstractStringBuilder" "java/lang/AbstractStringBuilder" "newCapacity" "(I)I") ∈ lw_tbl := lw_at lw_m8 89 rfl
theorem w1832 : (Jvm.Cond.sameMethod "java/lang/AbstractStringBuilder" "java/lang/AbstractStringBuilder" "inflate" "()V") ∈ lw_tbl := lw_at lw_m8 90 rfl
theorem w1833 : (Jvm.Cond.selects "java/lang/StringBuilder" ({ cls := "java/lang/AbstractStringBuilder", name := "length", desc := "()I" } : Jvm.MethodName) ({ cls := "java/lang/StringBuilder", name := "length", desc := "()I" } : Jvm.MethodName)) ∈ lw_tbl := lw_at lw_m8 91 rfl
theorem w1834 : (Jvm.Cond.sameMethod "java/lang/AbstractStringBuilder" "java/lang/AbstractStringBuilder" "append" "(I)Ljava/lang/AbstractStringBuilder;") ∈ lw_tbl := lw_at lw_m8 92 rfl
theorem w1835 : (Jvm.Cond.sameMethod "java/lang/AbstractStringBuilder" "java/lang/AbstractStringBuilder" "append" "(Ljava/lang/String;)Ljava/lang/AbstractStringBuilder;") ∈ lw_tbl := lw_at lw_m8 93 rfl
theorem w1836 : (Jvm.Cond.sameMethod "java/lang/AbstractStringBuilder" "java/lang/AbstractStringBuilder" "appendNull" "()Ljava/lang/AbstractStringBuilder;") ∈ lw_tbl := lw_at lw_m8 94 rfl
theorem w1837 : (Jvm.Cond.sameMethod "java/lang/AbstractStringBuilder" "java/lang/AbstractStringBuilder" "putStringAt" "(ILjava/lang/String;)V") ∈ lw_tbl := lw_at lw_m8 95 rfl
theorem w1838 : (Jvm.Cond.sameMethod "java/lang/AbstractStringBuilder" "java/lang/AbstractStringBuilder" "inflateIfNeededFor" "(Ljava/lang/String;)V") ∈ lw_tbl := lw_at lw_m8 96 rfl
theorem w1839 : (Jvm.Cond.sameMethod "java/lang/AbstractStringBuilder" "java/lang/AbstractStringBuilder" "setLength" "(I)V") ∈ lw_tbl := lw_at lw_m8 97 rfl
theorem w1840 : (Jvm.Cond.castable "TripleStore" "java/lang/Object") ∈ lw_tbl := lw_at lw_m8 98 rfl
theorem w1841 : (Jvm.Cond.castable "java/lang/StringBuilder" "java/lang/Object") ∈ lw_tbl := lw_at lw_m8 99 rfl
theorem w1842 : (Jvm.Cond.castable "TripleStoreModel" "java/lang/Object") ∈ lw_tbl := lw_at lw_m8 100 rfl
theorem w1843 : (Jvm.Cond.castable "TripleStore$Triple" "java/lang/Object") ∈ lw_tbl := lw_at lw_m8 101 rfl
theorem w1844 : (Jvm.Cond.castable "java/lang/IllegalArgumentException" "java/lang/Object") ∈ lw_tbl := lw_at lw_m8 102 rfl
theorem w1845 : (Jvm.Cond.castable "TripleStore$Numeral" "java/lang/Object") ∈ lw_tbl := lw_at lw_m8 103 rfl
theorem w1846 : (Jvm.Cond.castable "TripleStore$Word" "java/lang/Object") ∈ lw_tbl := lw_at lw_m8 104 rfl
theorem w1847 : (Jvm.Cond.castable "java/lang/String" "java/lang/Object") ∈ lw_tbl := lw_at lw_m8 105 rfl
theorem w1848 : (Jvm.Cond.castable "java/lang/IllegalStateException" "java/lang/Object") ∈ lw_tbl := lw_at lw_m8 106 rfl
theorem w1849 : (Jvm.Cond.castable "TripleStore$Change" "java/lang/Object") ∈ lw_tbl := lw_at lw_m8 107 rfl
theorem w1850 : (Jvm.Cond.castable "TripleStore$Commit" "java/lang/Object") ∈ lw_tbl := lw_at lw_m8 108 rfl
theorem w1851 : (Jvm.Cond.castable "TripleStore$Reader" "java/lang/Object") ∈ lw_tbl := lw_at lw_m8 109 rfl
theorem w1852 : (Jvm.Cond.castable "java/lang/System$2" "java/lang/Object") ∈ lw_tbl := lw_at lw_m8 110 rfl
theorem w1853 : (Jvm.Cond.castable "TripleStore$Query" "java/lang/Object") ∈ lw_tbl := lw_at lw_m8 111 rfl
theorem w1854 : (Jvm.Cond.castable "TripleStore$Group" "java/lang/Object") ∈ lw_tbl := lw_at lw_m8 112 rfl
theorem w1855 : (Jvm.Cond.castable "TripleStore$Filter" "java/lang/Object") ∈ lw_tbl := lw_at lw_m8 113 rfl
theorem w1856 : (Jvm.Cond.castable "TripleStore$Not" "java/lang/Object") ∈ lw_tbl := lw_at lw_m8 114 rfl
theorem w1857 : (Jvm.Cond.castable "TripleStore$Bound" "java/lang/Object") ∈ lw_tbl := lw_at lw_m8 115 rfl
theorem w1858 : (Jvm.Cond.castable "TripleStore$Side" "java/lang/Object") ∈ lw_tbl := lw_at lw_m8 116 rfl
theorem w1859 : (Jvm.Cond.castable "TripleStore$Comparison" "java/lang/Object") ∈ lw_tbl := lw_at lw_m8 117 rfl
theorem w1860 : (Jvm.Cond.castable "TripleStore$Optional" "java/lang/Object") ∈ lw_tbl := lw_at lw_m8 118 rfl
theorem w1861 : (Jvm.Cond.castable "TripleStore$Minus" "java/lang/Object") ∈ lw_tbl := lw_at lw_m8 119 rfl
theorem w1862 : (Jvm.Cond.castable "TripleStore$Union" "java/lang/Object") ∈ lw_tbl := lw_at lw_m8 120 rfl
theorem w1863 : (Jvm.Cond.castable "TripleStore$Pattern" "java/lang/Object") ∈ lw_tbl := lw_at lw_m8 121 rfl
theorem w1864 : (Jvm.Cond.castable "TripleStore$Found" "java/lang/Object") ∈ lw_tbl := lw_at lw_m8 122 rfl
theorem w1865 : (Jvm.Cond.castable "TripleStore$Solution" "java/lang/Object") ∈ lw_tbl := lw_at lw_m8 123 rfl
theorem w1866 : (Jvm.Cond.castable "TripleStore$Row" "java/lang/Object") ∈ lw_tbl := lw_at lw_m8 124 rfl
theorem w1867 : (Jvm.Cond.castable "java/util/NoSuchElementException" "java/lang/Object") ∈ lw_tbl := lw_at lw_m8 125 rfl
theorem w1868 : (Jvm.Cond.castable "java/lang/UnsupportedOperationException" "java/lang/Object") ∈ lw_tbl := lw_at lw_m8 126 rfl
theorem w1869 : (Jvm.Cond.castable "java/lang/Throwable" "java/lang/Object") ∈ lw_tbl := lw_at lw_m8 127 rfl
theorem w1870 : (Jvm.Cond.castable "TripleStore$Numeral" "TripleStore$Term") ∈ lw_tbl := lw_at lw_m8 128 rfl
theorem w1871 : (Jvm.Cond.castable "TripleStore$Word" "TripleStore$Term") ∈ lw_tbl := lw_at lw_m8 129 rfl
theorem w1872 : (Jvm.Cond.arrayClass Jvm.ClassFile.FieldType.char) ∈ lw_tbl := lw_at lw_m8 130 rfl
theorem w1873 : (Jvm.Cond.arrayClass Jvm.ClassFile.FieldType.short) ∈ lw_tbl := lw_at lw_m8 131 rfl
