set_option maxRecDepth 100000
theorem q252 : (Jvm.Cond.initialized "SearchHouseLaw") ∈ lw_all := lw_g (lw_at lw_m1 0 rfl) rfl
theorem q253 : (Jvm.Cond.initialized "SearchHouse") ∈ lw_all := lw_g (lw_at lw_m1 1 rfl) rfl
theorem q254 : (Jvm.Cond.initialized "SearchHouse$Tokens") ∈ lw_all := lw_g (lw_at lw_m1 2 rfl) rfl
theorem q255 : (Jvm.Cond.initialized "SearchHouse$Terms") ∈ lw_all := lw_g (lw_at lw_m1 3 rfl) rfl
theorem q256 : (Jvm.Cond.initialized "SearchHouse$Question") ∈ lw_all := lw_g (lw_at lw_m1 4 rfl) rfl
theorem q257 : (Jvm.Cond.initialized "SearchHouse$Reader") ∈ lw_all := lw_g (lw_at lw_m1 5 rfl) rfl
theorem q258 : (Jvm.Cond.initialized "SearchHouse$Asking") ∈ lw_all := lw_g (lw_at lw_m1 6 rfl) rfl
theorem q259 : (Jvm.Cond.initialized "SearchHouse$World") ∈ lw_all := lw_g (lw_at lw_m1 7 rfl) rfl
theorem q260 : (Jvm.Cond.initialized "SearchHouse$Importer") ∈ lw_all := lw_g (lw_at lw_m1 8 rfl) rfl
theorem q261 : (Jvm.Cond.initialized "SearchHouse$User") ∈ lw_all := lw_g (lw_at lw_m1 9 rfl) rfl
theorem q262 : (Jvm.Cond.initialized "SearchHouseModel") ∈ lw_all := lw_g (lw_at lw_m1 10 rfl) rfl
theorem q263 : (Jvm.Cond.initialized "java/lang/Throwable") ∈ lw_all := lw_g (lw_at lw_m1 11 rfl) rfl
theorem q264 : (Jvm.Cond.initialized "java/lang/Exception") ∈ lw_all := lw_g (lw_at lw_m1 12 rfl) rfl
theorem q265 : (Jvm.Cond.initialized "java/lang/RuntimeException") ∈ lw_all := lw_g (lw_at lw_m1 13 rfl) rfl
theorem q266 : (Jvm.Cond.initialized "java/lang/IllegalStateException") ∈ lw_all := lw_g (lw_at lw_m1 14 rfl) rfl
theorem q267 : (Jvm.Cond.initialized "SearchHouse$Analyser") ∈ lw_all := lw_g (lw_at lw_m1 15 rfl) rfl
theorem q268 : (Jvm.Cond.initialized "SearchHouse$Rows") ∈ lw_all := lw_g (lw_at lw_m1 16 rfl) rfl
theorem q269 : (Jvm.Cond.initialized "java/lang/System") ∈ lw_all := lw_g (lw_at lw_m1 17 rfl) rfl
theorem q270 : (Jvm.Cond.initialized "java/lang/String") ∈ lw_all := lw_g (lw_at lw_m1 18 rfl) rfl
theorem q271 : (Jvm.Cond.initialized "java/lang/StringLatin1") ∈ lw_all := lw_g (lw_at lw_m1 19 rfl) rfl
theorem q272 : (Jvm.Cond.initialized "jdk/internal/util/Preconditions") ∈ lw_all := lw_g (lw_at lw_m1 20 rfl) rfl
theorem q273 : (Jvm.Cond.initialized "java/lang/StringUTF16") ∈ lw_all := lw_g (lw_at lw_m1 21 rfl) rfl
theorem q274 : (Jvm.Cond.initialized "java/lang/Math") ∈ lw_all := lw_g (lw_at lw_m1 22 rfl) rfl
theorem q275 : (Jvm.Cond.initialized "java/lang/Character") ∈ lw_all := lw_g (lw_at lw_m1 23 rfl) rfl
theorem q276 : (Jvm.Cond.initialized "SearchHouse$Fault") ∈ lw_all := lw_g (lw_at lw_m1 24 rfl) rfl
theorem q277 : (Jvm.Cond.initialized "java/lang/StrictMath") ∈ lw_all := lw_g (lw_at lw_m1 25 rfl) rfl
theorem q278 : (Jvm.Cond.initialized "java/lang/FdLibm$Sqrt") ∈ lw_all := lw_g (lw_at lw_m1 26 rfl) rfl
theorem q279 : (Jvm.Cond.initialized "java/lang/FdLibm") ∈ lw_all := lw_g (lw_at lw_m1 27 rfl) rfl
theorem q280 : (Jvm.Cond.initialized "java/lang/Number") ∈ lw_all := lw_g (lw_at lw_m1 28 rfl) rfl
theorem q281 : (Jvm.Cond.initialized "java/lang/Double") ∈ lw_all := lw_g (lw_at lw_m1 29 rfl) rfl
theorem q282 : (Jvm.Cond.initialized "java/lang/Integer") ∈ lw_all := lw_g (lw_at lw_m1 30 rfl) rfl
theorem q283 : (Jvm.Cond.methodLink "SearchHouseLaw" (13 : Nat) ({ cls := "SearchHouse", name := "feed", desc := "(IIIII)I" } : Jvm.MethodName)) ∈ lw_all := lw_g (lw_at lw_m1 31 rfl) rfl
theorem q284 : (Jvm.Cond.instanceMethod ({ cls := "SearchHouse", name := "feed", desc := "(IIIII)I" } : Jvm.MethodName)) ∈ lw_all := lw_g (lw_at lw_m1 32 rfl) rfl
theorem q285 : (Jvm.Cond.selects "SearchHouse" ({ cls := "SearchHouse", name := "feed", desc := "(IIIII)I" } : Jvm.MethodName) ({ cls := "SearchHouse", name := "feed", desc := "(IIIII)I" } : Jvm.MethodName)) ∈ lw_all := lw_g (lw_at lw_m1 33 rfl) rfl
theorem q286 : (Jvm.Cond.code ({ cls := "SearchHouse", name := "feed", desc := "(IIIII)I" } : Jvm.MethodName) prog_1_method_4_code (6 : Nat) (Option.some Jvm.ClassFile.FieldType.int)) ∈ lw_all := lw_g (lw_at lw_m1 34 rfl) rfl
theorem q287 : (Jvm.Cond.methodLink "SearchHouse" (11 : Nat) ({ cls := "SearchHouse", name := "put", desc := "(I)V" } : Jvm.MethodName)) ∈ lw_all := lw_g (lw_at lw_m1 35 rfl) rfl
theorem q288 : (Jvm.Cond.privateMethod ({ cls := "SearchHouse", name := "put", desc := "(I)V" } : Jvm.MethodName)) ∈ lw_tbl := lw_at lw_m1 36 rfl
theorem q289 : (Jvm.Cond.instanceMethod ({ cls := "SearchHouse", name := "put", desc := "(I)V" } : Jvm.MethodName)) ∈ lw_all := lw_g (lw_at lw_m1 37 rfl) rfl
theorem q290 : (Jvm.Cond.instantiable "SearchHouse" (104 : Nat)) ∈ lw_all := lw_g (lw_at lw_m1 38 rfl) rfl
theorem q291 : (Jvm.Cond.code ({ cls := "SearchHouse", name := "put", desc := "(I)V" } : Jvm.MethodName) prog_1_method_5_code (3 : Nat) (Option.none : Option Jvm.ClassFile.FieldType)) ∈ lw_all := lw_g (lw_at lw_m1 39 rfl) rfl
theorem q292 : (Jvm.Cond.methodLink "SearchHouseLaw" (18 : Nat) ({ cls := "SearchHouse", name := "cut", desc := "(I)I" } : Jvm.MethodName)) ∈ lw_all := lw_g (lw_at lw_m1 40 rfl) rfl
theorem q293 : (Jvm.Cond.instanceMethod ({ cls := "SearchHouse", name := "cut", desc := "(I)I" } : Jvm.MethodName)) ∈ lw_all := lw_g (lw_at lw_m1 41 rfl) rfl
theorem q294 : (Jvm.Cond.selects "SearchHouse" ({ cls := "SearchHouse", name := "cut", desc := "(I)I" } : Jvm.MethodName) ({ cls := "SearchHouse", name := "cut", desc := "(I)I" } : Jvm.MethodName)) ∈ lw_all := lw_g (lw_at lw_m1 42 rfl) rfl
theorem q295 : (Jvm.Cond.code ({ cls := "SearchHouse", name := "cut", desc := "(I)I" } : Jvm.MethodName) prog_1_method_6_code (2 : Nat) (Option.some Jvm.ClassFile.FieldType.int)) ∈ lw_all := lw_g (lw_at lw_m1 43 rfl) rfl
theorem q296 : (Jvm.Cond.methodLink "SearchHouseLaw" (23 : Nat) ({ cls := "SearchHouse", name := "analyser", desc := "(III)I" } : Jvm.MethodName)) ∈ lw_all := lw_g (lw_at lw_m1 44 rfl) rfl
theorem q297 : (Jvm.Cond.instanceMethod ({ cls := "SearchHouse", name := "analyser", desc := "(III)I" } : Jvm.MethodName)) ∈ lw_all := lw_g (lw_at lw_m1 45 rfl) rfl
theorem q298 : (Jvm.Cond.selects "SearchHouse" ({ cls := "SearchHouse", name := "analyser", desc := "(III)I" } : Jvm.MethodName) ({ cls := "SearchHouse", name := "analyser", desc := "(III)I" } : Jvm.MethodName)) ∈ lw_all := lw_g (lw_at lw_m1 46 rfl) rfl
theorem q299 : (Jvm.Cond.code ({ cls := "SearchHouse", name := "analyser", desc := "(III)I" } : Jvm.MethodName) prog_1_method_9_code (5 : Nat) (Option.some Jvm.ClassFile.FieldType.int)) ∈ lw_all := lw_g (lw_at lw_m1 47 rfl) rfl
theorem q300 : (Jvm.Cond.methodLink "SearchHouse" (18 : Nat) ({ cls := "SearchHouse", name := "isIn", desc := "(III)Z" } : Jvm.MethodName)) ∈ lw_all := lw_g (lw_at lw_m1 48 rfl) rfl
theorem q301 : (Jvm.Cond.static ({ cls := "SearchHouse", name := "isIn", desc := "(III)Z" } : Jvm.MethodName)) ∈ lw_all := lw_g (lw_at lw_m1 49 rfl) rfl
theorem q302 : (Jvm.Cond.code ({ cls := "SearchHouse", name := "isIn", desc := "(III)Z" } : Jvm.MethodName) prog_1_method_1_code (3 : Nat) (Option.some Jvm.ClassFile.FieldType.boolean)) ∈ lw_all := lw_g (lw_at lw_m1 50 rfl) rfl
theorem q303 : (Jvm.Cond.classLink "SearchHouse" (26 : Nat) "SearchHouse$Analyser") ∈ lw_all := lw_g (lw_at lw_m1 51 rfl) rfl
theorem q304 : (Jvm.Cond.instantiable "SearchHouse$Analyser" (7 : Nat)) ∈ lw_all := lw_g (lw_at lw_m1 52 rfl) rfl
theorem q305 : (Jvm.Cond.methodLink "SearchHouse" (31 : Nat) ({ cls := "SearchHouse$Analyser", name := "<init>", desc := "([B)V" } : Jvm.MethodName)) ∈ lw_all := lw_g (lw_at lw_m1 53 rfl) rfl
theorem q306 : (Jvm.Cond.instanceMethod ({ cls := "SearchHouse$Analyser", name := "<init>", desc := "([B)V" } : Jvm.MethodName)) ∈ lw_all := lw_g (lw_at lw_m1 54 rfl) rfl
theorem q307 : (Jvm.Cond.code ({ cls := "SearchHouse$Analyser", name := "<init>", desc := "([B)V" } : Jvm.MethodName) prog_2_method_1_code (2 : Nat) (Option.none : Option Jvm.ClassFile.FieldType)) ∈ lw_all := lw_g (lw_at lw_m1 55 rfl) rfl
theorem q308 : (Jvm.Cond.methodLink "SearchHouse$Analyser" (3 : Nat) ({ cls := "java/lang/Object", name := "<init>", desc := "()V" } : Jvm.MethodName)) ∈ lw_all := lw_g (lw_at lw_m1 56 rfl) rfl
theorem q309 : (Jvm.Cond.instanceMethod ({ cls := "java/lang/Object", name := "<init>", desc := "()V" } : Jvm.MethodName)) ∈ lw_all := lw_g (lw_at lw_m1 57 rfl) rfl
theorem q310 : (Jvm.Cond.code ({ cls := "java/lang/Object", name := "<init>", desc := "()V" } : Jvm.MethodName) object_method_1_code (1 : Nat) (Option.none : Option Jvm.ClassFile.FieldType)) ∈ lw_all := lw_g (lw_at lw_m1 58 rfl) rfl
theorem q311 : (Jvm.Cond.classLink "SearchHouse$Analyser" (9 : Nat) "SearchHouse$Rows") ∈ lw_all := lw_g (lw_at lw_m1 59 rfl) rfl
theorem q312 : (Jvm.Cond.instantiable "SearchHouse$Rows" (3 : Nat)) ∈ lw_all := lw_g (lw_at lw_m1 60 rfl) rfl
theorem q313 : (Jvm.Cond.methodLinkNest "SearchHouse$Analyser" (11 : Nat) ({ cls := "SearchHouse$Rows", name := "<init>", desc := "()V" } : Jvm.MethodName) "SearchHouse") ∈ lw_tbl := lw_at lw_m1 61 rfl
theorem q314 : (Jvm.Cond.instanceMethod ({ cls := "SearchHouse$Rows", name := "<init>", desc := "()V" } : Jvm.MethodName)) ∈ lw_all := lw_g (lw_at lw_m1 62 rfl) rfl
theorem q315 : (Jvm.Cond.code ({ cls := "SearchHouse$Rows", name := "<init>", desc := "()V" } : Jvm.MethodName) prog_8_method_1_code (1 : Nat) (Option.none : Option Jvm.ClassFile.FieldType)) ∈ lw_all := lw_g (lw_at lw_m1 63 rfl) rfl
theorem q316 : (Jvm.Cond.methodLink "SearchHouse$Rows" (3 : Nat) ({ cls := "java/lang/Object", name := "<init>", desc := "()V" } : Jvm.MethodName)) ∈ lw_all := lw_g (lw_at lw_m1 64 rfl) rfl
theorem q317 : (Jvm.Cond.fieldLink "SearchHouse$Rows" (9 : Nat) "SearchHouse$Rows" "bytes" "[B") ∈ lw_all := lw_g (lw_at lw_m1 65 rfl) rfl
theorem q318 : (Jvm.Cond.fieldLinkNest "SearchHouse$Analyser" (76 : Nat) "SearchHouse$Rows" "bytes" "[B" "SearchHouse") ∈ lw_tbl := lw_at lw_m1 66 rfl
theorem q319 : (Jvm.Cond.fieldLinkNest "SearchHouse$Importer" (108 : Nat) "SearchHouse$Rows" "bytes" "[B" "SearchHouse") ∈ lw_tbl := lw_at lw_m1 67 rfl
theorem q320 : (Jvm.Cond.fieldLinkNest "SearchHouse" (737 : Nat) "SearchHouse$Rows" "bytes" "[B" "SearchHouse") ∈ lw_tbl := lw_at lw_m1 68 rfl
theorem q321 : (Jvm.Cond.fieldLink "SearchHouse$Rows" (15 : Nat) "SearchHouse$Rows" "sizes" "[I") ∈ lw_all := lw_g (lw_at lw_m1 69 rfl) rfl
theorem q322 : (Jvm.Cond.fieldLinkNest "SearchHouse$Analyser" (79 : Nat) "SearchHouse$Rows" "sizes" "[I" "SearchHouse") ∈ lw_tbl := lw_at lw_m1 70 rfl
theorem q323 : (Jvm.Cond.fieldLinkNest "SearchHouse$Importer" (111 : Nat) "SearchHouse$Rows" "sizes" "[I" "SearchHouse") ∈ lw_tbl := lw_at lw_m1 71 rfl
theorem q324 : (Jvm.Cond.fieldLinkNest "SearchHouse" (736 : Nat) "SearchHouse$Rows" "sizes" "[I" "SearchHouse") ∈ lw_tbl := lw_at lw_m1 72 rfl
theorem q325 : (Jvm.Cond.fieldLink "SearchHouse$Rows" (19 : Nat) "SearchHouse$Rows" "count" "I") ∈ lw_all := lw_g (lw_at lw_m1 73 rfl) rfl
theorem q326 : (Jvm.Cond.fieldLinkNest "SearchHouse$Analyser" (53 : Nat) "SearchHouse$Rows" "count" "I" "SearchHouse") ∈ lw_tbl := lw_at lw_m1 74 rfl
theorem q327 : (Jvm.Cond.fieldLinkNest "SearchHouse$Importer" (105 : Nat) "SearchHouse$Rows" "count" "I" "SearchHouse") ∈ lw_tbl := lw_at lw_m1 75 rfl
theorem q328 : (Jvm.Cond.fieldLinkNest "SearchHouse" (39 : Nat) "SearchHouse$Rows" "count" "I" "SearchHouse") ∈ lw_tbl := lw_at lw_m1 76 rfl
theorem q329 : (Jvm.Cond.laysFinal "SearchHouse$Rows" "SearchHouse$Rows" "bytes" "[B") ∈ lw_all := lw_g (lw_at lw_m1 77 rfl) rfl
theorem q330 : (Jvm.Cond.soleField "SearchHouse$Rows" "bytes") ∈ lw_all := lw_g (lw_at lw_m1 78 rfl) rfl
theorem q331 : (Jvm.Cond.laysFinal "SearchHouse$Rows" "SearchHouse$Rows" "sizes" "[I") ∈ lw_all := lw_g (lw_at lw_m1 79 rfl) rfl
theorem q332 : (Jvm.Cond.soleField "SearchHouse$Rows" "sizes") ∈ lw_all := lw_g (lw_at lw_m1 80 rfl) rfl
theorem q333 : (Jvm.Cond.lays "SearchHouse$Rows" "SearchHouse$Rows" "count" "I") ∈ lw_all := lw_g (lw_at lw_m1 81 rfl) rfl
theorem q334 : (Jvm.Cond.soleField "SearchHouse$Rows" "count") ∈ lw_all := lw_g (lw_at lw_m1 82 rfl) rfl
theorem q335 : (Jvm.Cond.superclass "SearchHouse$Rows" "java/lang/Object") ∈ lw_all := lw_g (lw_at lw_m1 83 rfl) rfl
theorem q336 : (Jvm.Cond.arrayClass Jvm.ClassFile.FieldType.byte) ∈ lw_all := lw_g (lw_at lw_m1 84 rfl) rfl
theorem q337 : (Jvm.Cond.arrayClass Jvm.ClassFile.FieldType.int) ∈ lw_all := lw_g (lw_at lw_m1 85 rfl) rfl
theorem q338 : (Jvm.Cond.fieldLink "SearchHouse$Analyser" (28 : Nat) "SearchHouse$Analyser" "fold" "I") ∈ lw_all := lw_g (lw_at lw_m1 86 rfl) rfl
theorem q339 : (Jvm.Cond.fieldLinkNest "SearchHouse" (50 : Nat) "SearchHouse$Analyser" "fold" "I" "SearchHouse") ∈ lw_tbl := lw_at lw_m1 87 rfl
theorem q340 : (Jvm.Cond.fieldLink "SearchHouse$Analyser" (58 : Nat) "SearchHouse$Analyser" "stem" "I") ∈ lw_all := lw_g (lw_at lw_m1 88 rfl) rfl
theorem q341 : (Jvm.Cond.fieldLinkNest "SearchHouse" (53 : Nat) "SearchHouse$Analyser" "stem" "I" "SearchHouse") ∈ lw_tbl := lw_at lw_m1 89 rfl
theorem q342 : (Jvm.Cond.fieldLink "SearchHouse$Analyser" (67 : Nat) "SearchHouse$Analyser" "grams" "I") ∈ lw_all := lw_g (lw_at lw_m1 90 rfl) rfl
theorem q343 : (Jvm.Cond.fieldLinkNest "SearchHouse" (56 : Nat) "SearchHouse$Analyser" "grams" "I" "SearchHouse") ∈ lw_tbl := lw_at lw_m1 91 rfl
theorem q344 : (Jvm.Cond.fieldLink "SearchHouse$Analyser" (12 : Nat) "SearchHouse$Analyser" "stops" "LSearchHouse$Rows;") ∈ lw_all := lw_g (lw_at lw_m1 92 rfl) rfl
theorem q345 : (Jvm.Cond.fieldLinkNest "SearchHouse$Importer" (95 : Nat) "SearchHouse$Analyser" "stops" "LSearchHouse$Rows;" "SearchHouse") ∈ lw_tbl := lw_at lw_m1 93 rfl
theorem q346 : (Jvm.Cond.fieldLinkNest "SearchHouse" (35 : Nat) "SearchHouse$Analyser" "stops" "LSearchHouse$Rows;" "SearchHouse") ∈ lw_tbl := lw_at lw_m1 94 rfl
theorem q347 : (Jvm.Cond.fieldLink "SearchHouse$Analyser" (18 : Nat) "SearchHouse$Analyser" "words" "LSearchHouse$Rows;") ∈ lw_all := lw_g (lw_at lw_m1 95 rfl) rfl
theorem q348 : (Jvm.Cond.fieldLinkNest "SearchHouse$Importer" (119 : Nat) "SearchHouse$Analyser" "words" "LSearchHouse$Rows;" "SearchHouse") ∈ lw_tbl := lw_at lw_m1 96 rfl
theorem q349 : (Jvm.Cond.fieldLinkNest "SearchHouse" (44 : Nat) "SearchHouse$Analyser" "words" "LSearchHouse$Rows;" "SearchHouse") ∈ lw_tbl := lw_at lw_m1 97 rfl
theorem q350 : (Jvm.Cond.fieldLink "SearchHouse$Analyser" (21 : Nat) "SearchHouse$Analyser" "synonyms" "LSearchHouse$Rows;") ∈ lw_all := lw_g (lw_at lw_m1 98 rfl) rfl
theorem q351 : (Jvm.Cond.fieldLinkNest "SearchHouse$Importer" (122 : Nat) "SearchHouse$Analyser" "synonyms" "LSearchHouse$Rows;" "SearchHouse") ∈ lw_tbl := lw_at lw_m1 99 rfl
theorem q352 : (Jvm.Cond.fieldLinkNest "SearchHouse" (47 : Nat) "SearchHouse$Analyser" "synonyms" "LSearchHouse$Rows;" "SearchHouse") ∈ lw_tbl := lw_at lw_m1 100 rfl
theorem q353 : (Jvm.Cond.fieldLink "SearchHouse$Analyser" (24 : Nat) "SearchHouse$Analyser" "word" "[B") ∈ lw_all := lw_g (lw_at lw_m1 101 rfl) rfl
theorem q354 : (Jvm.Cond.lays "SearchHouse$Analyser" "SearchHouse$Analyser" "fold" "I") ∈ lw_all := lw_g (lw_at lw_m1 102 rfl) rfl
theorem q355 : (Jvm.Cond.soleField "SearchHouse$Analyser" "fold") ∈ lw_all := lw_g (lw_at lw_m1 103 rfl) rfl
theorem q356 : (Jvm.Cond.lays "SearchHouse$Analyser" "SearchHouse$Analyser" "stem" "I") ∈ lw_all := lw_g (lw_at lw_m1 104 rfl) rfl
theorem q357 : (Jvm.Cond.soleField "SearchHouse$Analyser" "stem") ∈ lw_all := lw_g (lw_at lw_m1 105 rfl) rfl
theorem q358 : (Jvm.Cond.lays "SearchHouse$Analyser" "SearchHouse$Analyser" "grams" "I") ∈ lw_all := lw_g (lw_at lw_m1 106 rfl) rfl
theorem q359 : (Jvm.Cond.soleField "SearchHouse$Analyser" "grams") ∈ lw_all := lw_g (lw_at lw_m1 107 rfl) rfl
theorem q360 : (Jvm.Cond.laysFinal "SearchHouse$Analyser" "SearchHouse$Analyser" "stops" "LSearchHouse$Rows;") ∈ lw_all := lw_g (lw_at lw_m1 108 rfl) rfl
theorem q361 : (Jvm.Cond.soleField "SearchHouse$Analyser" "stops") ∈ lw_all := lw_g (lw_at lw_m1 109 rfl) rfl
theorem q362 : (Jvm.Cond.laysFinal "SearchHouse$Analyser" "SearchHouse$Analyser" "words" "LSearchHouse$Rows;") ∈ lw_all := lw_g (lw_at lw_m1 110 rfl) rfl
theorem q363 : (Jvm.Cond.soleField "SearchHouse$Analyser" "words") ∈ lw_all := lw_g (lw_at lw_m1 111 rfl) rfl
theorem q364 : (Jvm.Cond.laysFinal "SearchHouse$Analyser" "SearchHouse$Analyser" "synonyms" "LSearchHouse$Rows;") ∈ lw_all := lw_g (lw_at lw_m1 112 rfl) rfl
theorem q365 : (Jvm.Cond.soleField "SearchHouse$Analyser" "synonyms") ∈ lw_all := lw_g (lw_at lw_m1 113 rfl) rfl
theorem q366 : (Jvm.Cond.laysFinal "SearchHouse$Analyser" "SearchHouse$Analyser" "word" "[B") ∈ lw_all := lw_g (lw_at lw_m1 114 rfl) rfl
theorem q367 : (Jvm.Cond.soleField "SearchHouse$Analyser" "word") ∈ lw_all := lw_g (lw_at lw_m1 115 rfl) rfl
theorem q368 : (Jvm.Cond.superclass "SearchHouse$Analyser" "java/lang/Object") ∈ lw_all := lw_g (lw_at lw_m1 116 rfl) rfl
theorem q369 : (Jvm.Cond.methodLink "SearchHouseLaw" (28 : Nat) ({ cls := "SearchHouse", name := "stop", desc := "(I)I" } : Jvm.MethodName)) ∈ lw_all := lw_g (lw_at lw_m1 117 rfl) rfl
theorem q370 : (Jvm.Cond.instanceMethod ({ cls := "SearchHouse", name := "stop", desc := "(I)I" } : Jvm.MethodName)) ∈ lw_all := lw_g (lw_at lw_m1 118 rfl) rfl
theorem q371 : (Jvm.Cond.selects "SearchHouse" ({ cls := "SearchHouse", name := "stop", desc := "(I)I" } : Jvm.MethodName) ({ cls := "SearchHouse", name := "stop", desc := "(I)I" } : Jvm.MethodName)) ∈ lw_all := lw_g (lw_at lw_m1 119 rfl) rfl
theorem q372 : (Jvm.Cond.code ({ cls := "SearchHouse", name := "stop", desc := "(I)I" } : Jvm.MethodName) prog_1_method_11_code (4 : Nat) (Option.some Jvm.ClassFile.FieldType.int)) ∈ lw_all := lw_g (lw_at lw_m1 120 rfl) rfl
theorem q373 : (Jvm.Cond.methodLink "SearchHouse" (67 : Nat) ({ cls := "SearchHouse", name := "take", desc := "()I" } : Jvm.MethodName)) ∈ lw_all := lw_g (lw_at lw_m1 121 rfl) rfl
theorem q374 : (Jvm.Cond.privateMethod ({ cls := "SearchHouse", name := "take", desc := "()I" } : Jvm.MethodName)) ∈ lw_tbl := lw_at lw_m1 122 rfl
theorem q375 : (Jvm.Cond.instanceMethod ({ cls := "SearchHouse", name := "take", desc := "()I" } : Jvm.MethodName)) ∈ lw_all := lw_g (lw_at lw_m1 123 rfl) rfl
theorem q376 : (Jvm.Cond.code ({ cls := "SearchHouse", name := "take", desc := "()I" } : Jvm.MethodName) prog_1_method_7_code (2 : Nat) (Option.some Jvm.ClassFile.FieldType.int)) ∈ lw_all := lw_g (lw_at lw_m1 124 rfl) rfl
theorem q377 : (Jvm.Cond.methodLink "SearchHouse" (71 : Nat) ({ cls := "SearchHouse", name := "isAnalyser", desc := "(I)Z" } : Jvm.MethodName)) ∈ lw_all := lw_g (lw_at lw_m1 125 rfl) rfl
theorem q378 : (Jvm.Cond.privateMethod ({ cls := "SearchHouse", name := "isAnalyser", desc := "(I)Z" } : Jvm.MethodName)) ∈ lw_tbl := lw_at lw_m1 126 rfl
theorem q379 : (Jvm.Cond.instanceMethod ({ cls := "SearchHouse", name := "isAnalyser", desc := "(I)Z" } : Jvm.MethodName)) ∈ lw_all := lw_g (lw_at lw_m1 127 rfl) rfl
theorem q380 : (Jvm.Cond.code ({ cls := "SearchHouse", name := "isAnalyser", desc := "(I)Z" } : Jvm.MethodName) prog_1_method_8_code (2 : Nat) (Option.some Jvm.ClassFile.FieldType.boolean)) ∈ lw_all := lw_g (lw_at lw_m1 128 rfl) rfl
theorem q381 : (Jvm.Cond.methodLink "SearchHouse" (74 : Nat) ({ cls := "SearchHouse", name := "areLetters", desc := "(II)Z" } : Jvm.MethodName)) ∈ lw_all := lw_g (lw_at lw_m1 129 rfl) rfl
theorem q382 : (Jvm.Cond.privateMethod ({ cls := "SearchHouse", name := "areLetters", desc := "(II)Z" } : Jvm.MethodName)) ∈ lw_tbl := lw_at lw_m1 130 rfl
theorem q383 : (Jvm.Cond.instanceMethod ({ cls := "SearchHouse", name := "areLetters", desc := "(II)Z" } : Jvm.MethodName)) ∈ lw_all := lw_g (lw_at lw_m1 131 rfl) rfl
theorem q384 : (Jvm.Cond.code ({ cls := "SearchHouse", name := "areLetters", desc := "(II)Z" } : Jvm.MethodName) prog_1_method_10_code (5 : Nat) (Option.some Jvm.ClassFile.FieldType.boolean)) ∈ lw_all := lw_g (lw_at lw_m1 132 rfl) rfl
theorem q385 : (Jvm.Cond.methodLink "SearchHouse" (59 : Nat) ({ cls := "SearchHouse", name := "byteAt", desc := "(I)I" } : Jvm.MethodName)) ∈ lw_all := lw_g (lw_at lw_m1 133 rfl) rfl
theorem q386 : (Jvm.Cond.privateMethod ({ cls := "SearchHouse", name := "byteAt", desc := "(I)I" } : Jvm.MethodName)) ∈ lw_tbl := lw_at lw_m1 134 rfl
theorem q387 : (Jvm.Cond.instanceMethod ({ cls := "SearchHouse", name := "byteAt", desc := "(I)I" } : Jvm.MethodName)) ∈ lw_all := lw_g (lw_at lw_m1 135 rfl) rfl
theorem q388 : (Jvm.Cond.code ({ cls := "SearchHouse", name := "byteAt", desc := "(I)I" } : Jvm.MethodName) prog_1_method_3_code (2 : Nat) (Option.some Jvm.ClassFile.FieldType.int)) ∈ lw_all := lw_g (lw_at lw_m1 136 rfl) rfl
theorem q389 : (Jvm.Cond.methodLink "SearchHouse" (63 : Nat) ({ cls := "SearchHouse", name := "isLetter", desc := "(I)Z" } : Jvm.MethodName)) ∈ lw_all := lw_g (lw_at lw_m1 137 rfl) rfl
theorem q390 : (Jvm.Cond.static ({ cls := "SearchHouse", name := "isLetter", desc := "(I)Z" } : Jvm.MethodName)) ∈ lw_all := lw_g (lw_at lw_m1 138 rfl) rfl
theorem q391 : (Jvm.Cond.code ({ cls := "SearchHouse", name := "isLetter", desc := "(I)Z" } : Jvm.MethodName) prog_1_method_2_code (1 : Nat) (Option.some Jvm.ClassFile.FieldType.boolean)) ∈ lw_all := lw_g (lw_at lw_m1 139 rfl) rfl
theorem q392 : (Jvm.Cond.methodLink "SearchHouse" (78 : Nat) ({ cls := "SearchHouse$Rows", name := "has", desc := "([BII)Z" } : Jvm.MethodName)) ∈ lw_all := lw_g (lw_at lw_m1 140 rfl) rfl
theorem q393 : (Jvm.Cond.instanceMethod ({ cls := "SearchHouse$Rows", name := "has", desc := "([BII)Z" } : Jvm.MethodName)) ∈ lw_all := lw_g (lw_at lw_m1 141 rfl) rfl
theorem q394 : (Jvm.Cond.selects "SearchHouse$Rows" ({ cls := "SearchHouse$Rows", name := "has", desc := "([BII)Z" } : Jvm.MethodName) ({ cls := "SearchHouse$Rows", name := "has", desc := "([BII)Z" } : Jvm.MethodName)) ∈ lw_all := lw_g (lw_at lw_m1 142 rfl) rfl
theorem q395 : (Jvm.Cond.code ({ cls := "SearchHouse$Rows", name := "has", desc := "([BII)Z" } : Jvm.MethodName) prog_8_method_4_code (6 : Nat) (Option.some Jvm.ClassFile.FieldType.boolean)) ∈ lw_all := lw_g (lw_at lw_m1 143 rfl) rfl
theorem q396 : (Jvm.Cond.methodLink "SearchHouse$Rows" (29 : Nat) ({ cls := "SearchHouse$Rows", name := "is", desc := "(I[BII)Z" } : Jvm.MethodName)) ∈ lw_all := lw_g (lw_at lw_m1 144 rfl) rfl
theorem q397 : (Jvm.Cond.instanceMethod ({ cls := "SearchHouse$Rows", name := "is", desc := "(I[BII)Z" } : Jvm.MethodName)) ∈ lw_all := lw_g (lw_at lw_m1 145 rfl) rfl
theorem q398 : (Jvm.Cond.selects "SearchHouse$Rows" ({ cls := "SearchHouse$Rows", name := "is", desc := "(I[BII)Z" } : Jvm.MethodName) ({ cls := "SearchHouse$Rows", name := "is", desc := "(I[BII)Z" } : Jvm.MethodName)) ∈ lw_all := lw_g (lw_at lw_m1 146 rfl) rfl
theorem q399 : (Jvm.Cond.code ({ cls := "SearchHouse$Rows", name := "is", desc := "(I[BII)Z" } : Jvm.MethodName) prog_8_method_3_code (7 : Nat) (Option.some Jvm.ClassFile.FieldType.boolean)) ∈ lw_all := lw_g (lw_at lw_m1 147 rfl) rfl
theorem q400 : (Jvm.Cond.methodLink "SearchHouse" (82 : Nat) ({ cls := "SearchHouse$Rows", name := "add", desc := "([BII)V" } : Jvm.MethodName)) ∈ lw_all := lw_g (lw_at lw_m1 148 rfl) rfl
theorem q401 : (Jvm.Cond.instanceMethod ({ cls := "SearchHouse$Rows", name := "add", desc := "([BII)V" } : Jvm.MethodName)) ∈ lw_all := lw_g (lw_at lw_m1 149 rfl) rfl
theorem q402 : (Jvm.Cond.selects "SearchHouse$Rows" ({ cls := "SearchHouse$Rows", name := "add", desc := "([BII)V" } : Jvm.MethodName) ({ cls := "SearchHouse$Rows", name := "add", desc := "([BII)V" } : Jvm.MethodName)) ∈ lw_all := lw_g (lw_at lw_m1 150 rfl) rfl
theorem q403 : (Jvm.Cond.code ({ cls := "SearchHouse$Rows", name := "add", desc := "([BII)V" } : Jvm.MethodName) prog_8_method_2_code (4 : Nat) (Option.none : Option Jvm.ClassFile.FieldType)) ∈ lw_all := lw_g (lw_at lw_m1 151 rfl) rfl
theorem q404 : (Jvm.Cond.methodLink "SearchHouse$Rows" (23 : Nat) ({ cls := "java/lang/System", name := "arraycopy", desc := "(Ljava/lang/Object;ILjava/lang/Object;II)V" } : Jvm.MethodName)) ∈ lw_all := lw_g (lw_at lw_m1 152 rfl) rfl
theorem q405 : (Jvm.Cond.static ({ cls := "java/lang/System", name := "arraycopy", desc := "(Ljava/lang/Object;ILjava/lang/Object;II)V" } : Jvm.MethodName)) ∈ lw_all := lw_g (lw_at lw_m1 153 rfl) rfl
theorem q406 : (Jvm.Cond.native ({ cls := "java/lang/System", name := "arraycopy", desc := "(Ljava/lang/Object;ILjava/lang/Object;II)V" } : Jvm.MethodName)) ∈ lw_all := lw_g (lw_at lw_m1 154 rfl) rfl
theorem q407 : (Jvm.Cond.methodLink "SearchHouseLaw" (32 : Nat) ({ cls := "SearchHouse", name := "synonym", desc := "(I)I" } : Jvm.MethodName)) ∈ lw_all := lw_g (lw_at lw_m1 155 rfl) rfl
theorem q408 : (Jvm.Cond.instanceMethod ({ cls := "SearchHouse", name := "synonym", desc := "(I)I" } : Jvm.MethodName)) ∈ lw_all := lw_g (lw_at lw_m1 156 rfl) rfl
theorem q409 : (Jvm.Cond.selects "SearchHouse" ({ cls := "SearchHouse", name := "synonym", desc := "(I)I" } : Jvm.MethodName) ({ cls := "SearchHouse", name := "synonym", desc := "(I)I" } : Jvm.MethodName)) ∈ lw_all := lw_g (lw_at lw_m1 157 rfl) rfl
theorem q410 : (Jvm.Cond.code ({ cls := "SearchHouse", name := "synonym", desc := "(I)I" } : Jvm.MethodName) prog_1_method_12_code (5 : Nat) (Option.some Jvm.ClassFile.FieldType.int)) ∈ lw_all := lw_g (lw_at lw_m1 158 rfl) rfl
theorem q411 : (Jvm.Cond.methodLink "SearchHouseLaw" (36 : Nat) ({ cls := "SearchHouse", name := "analyse", desc := "(I)I" } : Jvm.MethodName)) ∈ lw_all := lw_g (lw_at lw_m1 159 rfl) rfl
theorem q412 : (Jvm.Cond.instanceMethod ({ cls := "SearchHouse", name := "analyse", desc := "(I)I" } : Jvm.MethodName)) ∈ lw_all := lw_g (lw_at lw_m1 160 rfl) rfl
theorem q413 : (Jvm.Cond.selects "SearchHouse" ({ cls := "SearchHouse", name := "analyse", desc := "(I)I" } : Jvm.MethodName) ({ cls := "SearchHouse", name := "analyse", desc := "(I)I" } : Jvm.MethodName)) ∈ lw_all := lw_g (lw_at lw_m1 161 rfl) rfl
theorem q414 : (Jvm.Cond.code ({ cls := "SearchHouse", name := "analyse", desc := "(I)I" } : Jvm.MethodName) prog_1_method_13_code (3 : Nat) (Option.some Jvm.ClassFile.FieldType.int)) ∈ lw_all := lw_g (lw_at lw_m1 162 rfl) rfl
theorem q415 : (Jvm.Cond.methodLink "SearchHouse" (90 : Nat) ({ cls := "SearchHouse$Analyser", name := "analyse", desc := "([BIILSearchHouse$Tokens;)V" } : Jvm.MethodName)) ∈ lw_all := lw_g (lw_at lw_m1 163 rfl) rfl
theorem q416 : (Jvm.Cond.instanceMethod ({ cls := "SearchHouse$Analyser", name := "analyse", desc := "([BIILSearchHouse$Tokens;)V" } : Jvm.MethodName)) ∈ lw_all := lw_g (lw_at lw_m1 164 rfl) rfl
theorem q417 : (Jvm.Cond.selects "SearchHouse$Analyser" ({ cls := "SearchHouse$Analyser", name := "analyse", desc := "([BIILSearchHouse$Tokens;)V" } : Jvm.MethodName) ({ cls := "SearchHouse$Analyser", name := "analyse", desc := "([BIILSearchHouse$Tokens;)V" } : Jvm.MethodName)) ∈ lw_all := lw_g (lw_at lw_m1 165 rfl) rfl
theorem q418 : (Jvm.Cond.code ({ cls := "SearchHouse$Analyser", name := "analyse", desc := "([BIILSearchHouse$Tokens;)V" } : Jvm.MethodName) prog_2_method_3_code (10 : Nat) (Option.none : Option Jvm.ClassFile.FieldType)) ∈ lw_all := lw_g (lw_at lw_m1 166 rfl) rfl
theorem q419 : (Jvm.Cond.methodLinkNest "SearchHouse$Analyser" (37 : Nat) ({ cls := "SearchHouse", name := "isLetter", desc := "(I)Z" } : Jvm.MethodName) "SearchHouse") ∈ lw_tbl := lw_at lw_m1 167 rfl
theorem q420 : (Jvm.Cond.methodLink "SearchHouse$Analyser" (41 : Nat) ({ cls := "SearchHouse$Analyser", name := "folded", desc := "(I)I" } : Jvm.MethodName)) ∈ lw_all := lw_g (lw_at lw_m1 168 rfl) rfl
theorem q421 : (Jvm.Cond.instanceMethod ({ cls := "SearchHouse$Analyser", name := "folded", desc := "(I)I" } : Jvm.MethodName)) ∈ lw_all := lw_g (lw_at lw_m1 169 rfl) rfl
theorem q422 : (Jvm.Cond.selects "SearchHouse$Analyser" ({ cls := "SearchHouse$Analyser", name := "folded", desc := "(I)I" } : Jvm.MethodName) ({ cls := "SearchHouse$Analyser", name := "folded", desc := "(I)I" } : Jvm.MethodName)) ∈ lw_all := lw_g (lw_at lw_m1 170 rfl) rfl
theorem q423 : (Jvm.Cond.code ({ cls := "SearchHouse$Analyser", name := "folded", desc := "(I)I" } : Jvm.MethodName) prog_2_method_2_code (2 : Nat) (Option.some Jvm.ClassFile.FieldType.int)) ∈ lw_all := lw_g (lw_at lw_m1 171 rfl) rfl
theorem q424 : (Jvm.Cond.methodLink "SearchHouse$Analyser" (45 : Nat) ({ cls := "SearchHouse$Rows", name := "has", desc := "([BII)Z" } : Jvm.MethodName)) ∈ lw_all := lw_g (lw_at lw_m1 172 rfl) rfl
theorem q425 : (Jvm.Cond.methodLink "SearchHouse$Analyser" (49 : Nat) ({ cls := "SearchHouse$Analyser", name := "tokens", desc := "(IIIILSearchHouse$Tokens;)V" } : Jvm.MethodName)) ∈ lw_all := lw_g (lw_at lw_m1 173 rfl) rfl
theorem q426 : (Jvm.Cond.privateMethod ({ cls := "SearchHouse$Analyser", name := "tokens", desc := "(IIIILSearchHouse$Tokens;)V" } : Jvm.MethodName)) ∈ lw_tbl := lw_at lw_m1 174 rfl
theorem q427 : (Jvm.Cond.instanceMethod ({ cls := "SearchHouse$Analyser", name := "tokens", desc := "(IIIILSearchHouse$Tokens;)V" } : Jvm.MethodName)) ∈ lw_all := lw_g (lw_at lw_m1 175 rfl) rfl
theorem q428 : (Jvm.Cond.code ({ cls := "SearchHouse$Analyser", name := "tokens", desc := "(IIIILSearchHouse$Tokens;)V" } : Jvm.MethodName) prog_2_method_4_code (11 : Nat) (Option.none : Option Jvm.ClassFile.FieldType)) ∈ lw_all := lw_g (lw_at lw_m1 176 rfl) rfl
theorem q429 : (Jvm.Cond.methodLink "SearchHouse$Analyser" (54 : Nat) ({ cls := "SearchHouse$Rows", name := "is", desc := "(I[BII)Z" } : Jvm.MethodName)) ∈ lw_all := lw_g (lw_at lw_m1 177 rfl) rfl
theorem q430 : (Jvm.Cond.methodLink "SearchHouse$Analyser" (61 : Nat) ({ cls := "SearchHouse$Analyser", name := "plural", desc := "(I)I" } : Jvm.MethodName)) ∈ lw_all := lw_g (lw_at lw_m1 178 rfl) rfl
theorem q431 : (Jvm.Cond.privateMethod ({ cls := "SearchHouse$Analyser", name := "plural", desc := "(I)I" } : Jvm.MethodName)) ∈ lw_tbl := lw_at lw_m1 179 rfl
theorem q432 : (Jvm.Cond.instanceMethod ({ cls := "SearchHouse$Analyser", name := "plural", desc := "(I)I" } : Jvm.MethodName)) ∈ lw_all := lw_g (lw_at lw_m1 180 rfl) rfl
theorem q433 : (Jvm.Cond.code ({ cls := "SearchHouse$Analyser", name := "plural", desc := "(I)I" } : Jvm.MethodName) prog_2_method_6_code (2 : Nat) (Option.some Jvm.ClassFile.FieldType.int)) ∈ lw_all := lw_g (lw_at lw_m1 181 rfl) rfl
theorem q434 : (Jvm.Cond.stringRef "SearchHouse$Analyser" (93 : Nat) "ies") ∈ lw_tbl := lw_at lw_m1 182 rfl
theorem q435 : (Jvm.Cond.methodLink "SearchHouse$Analyser" (95 : Nat) ({ cls := "SearchHouse$Analyser", name := "ends", desc := "(ILjava/lang/String;)Z" } : Jvm.MethodName)) ∈ lw_all := lw_g (lw_at lw_m1 183 rfl) rfl
theorem q436 : (Jvm.Cond.privateMethod ({ cls := "SearchHouse$Analyser", name := "ends", desc := "(ILjava/lang/String;)Z" } : Jvm.MethodName)) ∈ lw_tbl := lw_at lw_m1 184 rfl
theorem q437 : (Jvm.Cond.instanceMethod ({ cls := "SearchHouse$Analyser", name := "ends", desc := "(ILjava/lang/String;)Z" } : Jvm.MethodName)) ∈ lw_all := lw_g (lw_at lw_m1 185 rfl) rfl
theorem q438 : (Jvm.Cond.code ({ cls := "SearchHouse$Analyser", name := "ends", desc := "(ILjava/lang/String;)Z" } : Jvm.MethodName) prog_2_method_5_code (6 : Nat) (Option.some Jvm.ClassFile.FieldType.boolean)) ∈ lw_all := lw_g (lw_at lw_m1 186 rfl) rfl
theorem q439 : (Jvm.Cond.methodLink "SearchHouse$Analyser" (83 : Nat) ({ cls := "java/lang/String", name := "length", desc := "()I" } : Jvm.MethodName)) ∈ lw_all := lw_g (lw_at lw_m1 187 rfl) rfl
theorem q440 : (Jvm.Cond.instanceMethod ({ cls := "java/lang/String", name := "length", desc := "()I" } : Jvm.MethodName)) ∈ lw_all := lw_g (lw_at lw_m1 188 rfl) rfl
theorem q441 : (Jvm.Cond.selects "java/lang/String" ({ cls := "java/lang/String", name := "length", desc := "()I" } : Jvm.MethodName) ({ cls := "java/lang/String", name := "length", desc := "()I" } : Jvm.MethodName)) ∈ lw_all := lw_g (lw_at lw_m1 189 rfl) rfl
theorem q442 : (Jvm.Cond.code ({ cls := "java/lang/String", name := "length", desc := "()I" } : Jvm.MethodName) prog_26_method_54_code (1 : Nat) (Option.some Jvm.ClassFile.FieldType.int)) ∈ lw_all := lw_g (lw_at lw_m1 190 rfl) rfl
theorem q443 : (Jvm.Cond.methodLink "java/lang/String" (335 : Nat) ({ cls := "java/lang/String", name := "coder", desc := "()B" } : Jvm.MethodName)) ∈ lw_all := lw_g (lw_at lw_m1 191 rfl) rfl
theorem q444 : (Jvm.Cond.instanceMethod ({ cls := "java/lang/String", name := "coder", desc := "()B" } : Jvm.MethodName)) ∈ lw_all := lw_g (lw_at lw_m1 192 rfl) rfl
theorem q445 : (Jvm.Cond.selects "java/lang/String" ({ cls := "java/lang/String", name := "coder", desc := "()B" } : Jvm.MethodName) ({ cls := "java/lang/String", name := "coder", desc := "()B" } : Jvm.MethodName)) ∈ lw_all := lw_g (lw_at lw_m1 193 rfl) rfl
theorem q446 : (Jvm.Cond.code ({ cls := "java/lang/String", name := "coder", desc := "()B" } : Jvm.MethodName) prog_26_method_152_code (1 : Nat) (Option.some Jvm.ClassFile.FieldType.byte)) ∈ lw_all := lw_g (lw_at lw_m1 194 rfl) rfl
theorem q447 : (Jvm.Cond.fieldLink "java/lang/String" (38 : Nat) "java/lang/String" "COMPACT_STRINGS" "Z") ∈ lw_all := lw_g (lw_at lw_m1 195 rfl) rfl
theorem q448 : (Jvm.Cond.laysStatic "java/lang/String" "COMPACT_STRINGS" "Z") ∈ lw_tbl := lw_at lw_m1 196 rfl
theorem q449 : (Jvm.Cond.methodLink "SearchHouse$Analyser" (89 : Nat) ({ cls := "java/lang/String", name := "charAt", desc := "(I)C" } : Jvm.MethodName)) ∈ lw_all := lw_g (lw_at lw_m1 197 rfl) rfl
theorem q450 : (Jvm.Cond.instanceMethod ({ cls := "java/lang/String", name := "charAt", desc := "(I)C" } : Jvm.MethodName)) ∈ lw_all := lw_g (lw_at lw_m1 198 rfl) rfl
theorem q451 : (Jvm.Cond.selects "java/lang/String" ({ cls := "java/lang/String", name := "charAt", desc := "(I)C" } : Jvm.MethodName) ({ cls := "java/lang/String", name := "charAt", desc := "(I)C" } : Jvm.MethodName)) ∈ lw_all := lw_g (lw_at lw_m1 199 rfl) rfl
theorem q452 : (Jvm.Cond.code ({ cls := "java/lang/String", name := "charAt", desc := "(I)C" } : Jvm.MethodName) prog_26_method_56_code (2 : Nat) (Option.some Jvm.ClassFile.FieldType.char)) ∈ lw_all := lw_g (lw_at lw_m1 200 rfl) rfl
theorem q453 : (Jvm.Cond.methodLink "java/lang/String" (492 : Nat) ({ cls := "java/lang/String", name := "isLatin1", desc := "()Z" } : Jvm.MethodName)) ∈ lw_all := lw_g (lw_at lw_m1 201 rfl) rfl
theorem q454 : (Jvm.Cond.instanceMethod ({ cls := "java/lang/String", name := "isLatin1", desc := "()Z" } : Jvm.MethodName)) ∈ lw_all := lw_g (lw_at lw_m1 202 rfl) rfl
theorem q455 : (Jvm.Cond.selects "java/lang/String" ({ cls := "java/lang/String", name := "isLatin1", desc := "()Z" } : Jvm.MethodName) ({ cls := "java/lang/String", name := "isLatin1", desc := "()Z" } : Jvm.MethodName)) ∈ lw_all := lw_g (lw_at lw_m1 203 rfl) rfl
theorem q456 : (Jvm.Cond.code ({ cls := "java/lang/String", name := "isLatin1", desc := "()Z" } : Jvm.MethodName) prog_26_method_154_code (1 : Nat) (Option.some Jvm.ClassFile.FieldType.boolean)) ∈ lw_all := lw_g (lw_at lw_m1 204 rfl) rfl
theorem q457 : (Jvm.Cond.methodLink "java/lang/String" (495 : Nat) ({ cls := "java/lang/StringLatin1", name := "charAt", desc := "([BI)C" } : Jvm.MethodName)) ∈ lw_all := lw_g (lw_at lw_m1 205 rfl) rfl
theorem q458 : (Jvm.Cond.static ({ cls := "java/lang/StringLatin1", name := "charAt", desc := "([BI)C" } : Jvm.MethodName)) ∈ lw_all := lw_g (lw_at lw_m1 206 rfl) rfl
theorem q459 : (Jvm.Cond.code ({ cls := "java/lang/StringLatin1", name := "charAt", desc := "([BI)C" } : Jvm.MethodName) prog_27_method_2_code (2 : Nat) (Option.some Jvm.ClassFile.FieldType.char)) ∈ lw_all := lw_g (lw_at lw_m1 207 rfl) rfl
theorem q460 : (Jvm.Cond.methodLink "java/lang/StringLatin1" (9 : Nat) ({ cls := "java/lang/String", name := "checkIndex", desc := "(II)V" } : Jvm.MethodName)) ∈ lw_all := lw_g (lw_at lw_m1 208 rfl) rfl
theorem q461 : (Jvm.Cond.static ({ cls := "java/lang/String", name := "checkIndex", desc := "(II)V" } : Jvm.MethodName)) ∈ lw_all := lw_g (lw_at lw_m1 209 rfl) rfl
theorem q462 : (Jvm.Cond.code ({ cls := "java/lang/String", name := "checkIndex", desc := "(II)V" } : Jvm.MethodName) prog_26_method_155_code (2 : Nat) (Option.none : Option Jvm.ClassFile.FieldType)) ∈ lw_all := lw_g (lw_at lw_m1 210 rfl) rfl
theorem q463 : (Jvm.Cond.fieldLink "java/lang/String" (1053 : Nat) "jdk/internal/util/Preconditions" "SIOOBE_FORMATTER" "Ljava/util/function/BiFunction;") ∈ lw_all := lw_g (lw_at lw_m1 211 rfl) rfl
theorem q464 : (Jvm.Cond.laysStatic "jdk/internal/util/Preconditions" "SIOOBE_FORMATTER" "Ljava/util/function/BiFunction;") ∈ lw_tbl := lw_at lw_m1 212 rfl
theorem q465 : (Jvm.Cond.methodLink "java/lang/String" (1059 : Nat) ({ cls := "jdk/internal/util/Preconditions", name := "checkIndex", desc := "(IILjava/util/function/BiFunction;)I" } : Jvm.MethodName)) ∈ lw_all := lw_g (lw_at lw_m1 213 rfl) rfl
theorem q466 : (Jvm.Cond.static ({ cls := "jdk/internal/util/Preconditions", name := "checkIndex", desc := "(IILjava/util/function/BiFunction;)I" } : Jvm.MethodName)) ∈ lw_all := lw_g (lw_at lw_m1 214 rfl) rfl
theorem q467 : (Jvm.Cond.code ({ cls := "jdk/internal/util/Preconditions", name := "checkIndex", desc := "(IILjava/util/function/BiFunction;)I" } : Jvm.MethodName) prog_31_method_11_code (3 : Nat) (Option.some Jvm.ClassFile.FieldType.int)) ∈ lw_all := lw_g (lw_at lw_m1 215 rfl) rfl
theorem q468 : (Jvm.Cond.methodLink "java/lang/String" (498 : Nat) ({ cls := "java/lang/StringUTF16", name := "charAt", desc := "([BI)C" } : Jvm.MethodName)) ∈ lw_all := lw_g (lw_at lw_m1 216 rfl) rfl
theorem q469 : (Jvm.Cond.static ({ cls := "java/lang/StringUTF16", name := "charAt", desc := "([BI)C" } : Jvm.MethodName)) ∈ lw_all := lw_g (lw_at lw_m1 217 rfl) rfl
theorem q470 : (Jvm.Cond.code ({ cls := "java/lang/StringUTF16", name := "charAt", desc := "([BI)C" } : Jvm.MethodName) prog_28_method_83_code (2 : Nat) (Option.some Jvm.ClassFile.FieldType.char)) ∈ lw_all := lw_g (lw_at lw_m1 218 rfl) rfl
theorem q471 : (Jvm.Cond.methodLink "java/lang/StringUTF16" (67 : Nat) ({ cls := "java/lang/StringUTF16", name := "checkIndex", desc := "(I[B)V" } : Jvm.MethodName)) ∈ lw_all := lw_g (lw_at lw_m1 219 rfl) rfl
theorem q472 : (Jvm.Cond.static ({ cls := "java/lang/StringUTF16", name := "checkIndex", desc := "(I[B)V" } : Jvm.MethodName)) ∈ lw_all := lw_g (lw_at lw_m1 220 rfl) rfl
theorem q473 : (Jvm.Cond.code ({ cls := "java/lang/StringUTF16", name := "checkIndex", desc := "(I[B)V" } : Jvm.MethodName) prog_28_method_91_code (2 : Nat) (Option.none : Option Jvm.ClassFile.FieldType)) ∈ lw_all := lw_g (lw_at lw_m1 221 rfl) rfl
theorem q474 : (Jvm.Cond.methodLink "java/lang/StringUTF16" (48 : Nat) ({ cls := "java/lang/StringUTF16", name := "length", desc := "([B)I" } : Jvm.MethodName)) ∈ lw_all := lw_g (lw_at lw_m1 222 rfl) rfl
theorem q475 : (Jvm.Cond.static ({ cls := "java/lang/StringUTF16", name := "length", desc := "([B)I" } : Jvm.MethodName)) ∈ lw_all := lw_g (lw_at lw_m1 223 rfl) rfl
theorem q476 : (Jvm.Cond.code ({ cls := "java/lang/StringUTF16", name := "length", desc := "([B)I" } : Jvm.MethodName) prog_28_method_6_code (1 : Nat) (Option.some Jvm.ClassFile.FieldType.int)) ∈ lw_all := lw_g (lw_at lw_m1 224 rfl) rfl
theorem q477 : (Jvm.Cond.methodLink "java/lang/StringUTF16" (414 : Nat) ({ cls := "java/lang/String", name := "checkIndex", desc := "(II)V" } : Jvm.MethodName)) ∈ lw_all := lw_g (lw_at lw_m1 225 rfl) rfl
theorem q478 : (Jvm.Cond.methodLink "java/lang/StringUTF16" (71 : Nat) ({ cls := "java/lang/StringUTF16", name := "getChar", desc := "([BI)C" } : Jvm.MethodName)) ∈ lw_all := lw_g (lw_at lw_m1 226 rfl) rfl
theorem q479 : (Jvm.Cond.static ({ cls := "java/lang/StringUTF16", name := "getChar", desc := "([BI)C" } : Jvm.MethodName)) ∈ lw_all := lw_g (lw_at lw_m1 227 rfl) rfl
theorem q480 : (Jvm.Cond.code ({ cls := "java/lang/StringUTF16", name := "getChar", desc := "([BI)C" } : Jvm.MethodName) prog_28_method_5_code (2 : Nat) (Option.some Jvm.ClassFile.FieldType.char)) ∈ lw_all := lw_g (lw_at lw_m1 228 rfl) rfl
theorem q481 : (Jvm.Cond.fieldLink "java/lang/StringUTF16" (44 : Nat) "java/lang/StringUTF16" "$assertionsDisabled" "Z") ∈ lw_all := lw_g (lw_at lw_m1 229 rfl) rfl
theorem q482 : (Jvm.Cond.laysStatic "java/lang/StringUTF16" "$assertionsDisabled" "Z") ∈ lw_tbl := lw_at lw_m1 230 rfl
theorem q483 : (Jvm.Cond.fieldLink "java/lang/StringUTF16" (59 : Nat) "java/lang/StringUTF16" "HI_BYTE_SHIFT" "I") ∈ lw_all := lw_g (lw_at lw_m1 231 rfl) rfl
theorem q484 : (Jvm.Cond.laysStatic "java/lang/StringUTF16" "HI_BYTE_SHIFT" "I") ∈ lw_tbl := lw_at lw_m1 232 rfl
theorem q485 : (Jvm.Cond.fieldLink "java/lang/StringUTF16" (63 : Nat) "java/lang/StringUTF16" "LO_BYTE_SHIFT" "I") ∈ lw_all := lw_g (lw_at lw_m1 233 rfl) rfl
theorem q486 : (Jvm.Cond.laysStatic "java/lang/StringUTF16" "LO_BYTE_SHIFT" "I") ∈ lw_tbl := lw_at lw_m1 234 rfl
theorem q487 : (Jvm.Cond.stringRef "SearchHouse$Analyser" (99 : Nat) "aies") ∈ lw_tbl := lw_at lw_m1 235 rfl
theorem q488 : (Jvm.Cond.stringRef "SearchHouse$Analyser" (101 : Nat) "eies") ∈ lw_tbl := lw_at lw_m1 236 rfl
theorem q489 : (Jvm.Cond.stringRef "SearchHouse$Analyser" (103 : Nat) "es") ∈ lw_tbl := lw_at lw_m1 237 rfl
theorem q490 : (Jvm.Cond.stringRef "SearchHouse$Analyser" (105 : Nat) "aes") ∈ lw_tbl := lw_at lw_m1 238 rfl
theorem q491 : (Jvm.Cond.stringRef "SearchHouse$Analyser" (107 : Nat) "ees") ∈ lw_tbl := lw_at lw_m1 239 rfl
theorem q492 : (Jvm.Cond.stringRef "SearchHouse$Analyser" (109 : Nat) "oes") ∈ lw_tbl := lw_at lw_m2 0 rfl
theorem q493 : (Jvm.Cond.stringRef "SearchHouse$Analyser" (111 : Nat) "s") ∈ lw_tbl := lw_at lw_m2 1 rfl
theorem q494 : (Jvm.Cond.stringRef "SearchHouse$Analyser" (113 : Nat) "us") ∈ lw_tbl := lw_at lw_m2 2 rfl
theorem q495 : (Jvm.Cond.stringRef "SearchHouse$Analyser" (115 : Nat) "ss") ∈ lw_tbl := lw_at lw_m2 3 rfl
theorem q496 : (Jvm.Cond.methodLink "SearchHouse$Analyser" (64 : Nat) ({ cls := "SearchHouse$Analyser", name := "stemmed", desc := "(I)I" } : Jvm.MethodName)) ∈ lw_all := lw_g (lw_at lw_m2 4 rfl) rfl
theorem q497 : (Jvm.Cond.privateMethod ({ cls := "SearchHouse$Analyser", name := "stemmed", desc := "(I)I" } : Jvm.MethodName)) ∈ lw_tbl := lw_at lw_m2 5 rfl
theorem q498 : (Jvm.Cond.instanceMethod ({ cls := "SearchHouse$Analyser", name := "stemmed", desc := "(I)I" } : Jvm.MethodName)) ∈ lw_all := lw_g (lw_at lw_m2 6 rfl) rfl
theorem q499 : (Jvm.Cond.code ({ cls := "SearchHouse$Analyser", name := "stemmed", desc := "(I)I" } : Jvm.MethodName) prog_2_method_12_code (4 : Nat) (Option.some Jvm.ClassFile.FieldType.int)) ∈ lw_all := lw_g (lw_at lw_m2 7 rfl) rfl
theorem q500 : (Jvm.Cond.stringRef "SearchHouse$Analyser" (124 : Nat) "sses") ∈ lw_tbl := lw_at lw_m2 8 rfl
theorem q501 : (Jvm.Cond.methodLink "SearchHouse$Analyser" (126 : Nat) ({ cls := "SearchHouse$Analyser", name := "past", desc := "(I)I" } : Jvm.MethodName)) ∈ lw_all := lw_g (lw_at lw_m2 9 rfl) rfl
theorem q502 : (Jvm.Cond.privateMethod ({ cls := "SearchHouse$Analyser", name := "past", desc := "(I)I" } : Jvm.MethodName)) ∈ lw_tbl := lw_at lw_m2 10 rfl
theorem q503 : (Jvm.Cond.instanceMethod ({ cls := "SearchHouse$Analyser", name := "past", desc := "(I)I" } : Jvm.MethodName)) ∈ lw_all := lw_g (lw_at lw_m2 11 rfl) rfl
theorem q504 : (Jvm.Cond.code ({ cls := "SearchHouse$Analyser", name := "past", desc := "(I)I" } : Jvm.MethodName) prog_2_method_13_code (4 : Nat) (Option.some Jvm.ClassFile.FieldType.int)) ∈ lw_all := lw_g (lw_at lw_m2 12 rfl) rfl
theorem q505 : (Jvm.Cond.stringRef "SearchHouse$Analyser" (135 : Nat) "eed") ∈ lw_tbl := lw_at lw_m2 13 rfl
theorem q506 : (Jvm.Cond.methodLink "SearchHouse$Analyser" (137 : Nat) ({ cls := "SearchHouse$Analyser", name := "measure", desc := "(I)I" } : Jvm.MethodName)) ∈ lw_all := lw_g (lw_at lw_m2 14 rfl) rfl
theorem q507 : (Jvm.Cond.privateMethod ({ cls := "SearchHouse$Analyser", name := "measure", desc := "(I)I" } : Jvm.MethodName)) ∈ lw_tbl := lw_at lw_m2 15 rfl
theorem q508 : (Jvm.Cond.instanceMethod ({ cls := "SearchHouse$Analyser", name := "measure", desc := "(I)I" } : Jvm.MethodName)) ∈ lw_all := lw_g (lw_at lw_m2 16 rfl) rfl
theorem q509 : (Jvm.Cond.code ({ cls := "SearchHouse$Analyser", name := "measure", desc := "(I)I" } : Jvm.MethodName) prog_2_method_11_code (6 : Nat) (Option.some Jvm.ClassFile.FieldType.int)) ∈ lw_all := lw_g (lw_at lw_m2 17 rfl) rfl
theorem q510 : (Jvm.Cond.methodLink "SearchHouse$Analyser" (120 : Nat) ({ cls := "SearchHouse$Analyser", name := "isVowelBehind", desc := "(IZ)Z" } : Jvm.MethodName)) ∈ lw_all := lw_g (lw_at lw_m2 18 rfl) rfl
theorem q511 : (Jvm.Cond.privateMethod ({ cls := "SearchHouse$Analyser", name := "isVowelBehind", desc := "(IZ)Z" } : Jvm.MethodName)) ∈ lw_tbl := lw_at lw_m2 19 rfl
theorem q512 : (Jvm.Cond.instanceMethod ({ cls := "SearchHouse$Analyser", name := "isVowelBehind", desc := "(IZ)Z" } : Jvm.MethodName)) ∈ lw_all := lw_g (lw_at lw_m2 20 rfl) rfl
theorem q513 : (Jvm.Cond.code ({ cls := "SearchHouse$Analyser", name := "isVowelBehind", desc := "(IZ)Z" } : Jvm.MethodName) prog_2_method_9_code (3 : Nat) (Option.some Jvm.ClassFile.FieldType.boolean)) ∈ lw_all := lw_g (lw_at lw_m2 21 rfl) rfl
theorem q514 : (Jvm.Cond.methodLink "SearchHouse$Analyser" (117 : Nat) ({ cls := "SearchHouse$Analyser", name := "isPlainVowel", desc := "(I)Z" } : Jvm.MethodName)) ∈ lw_all := lw_g (lw_at lw_m2 22 rfl) rfl
theorem q515 : (Jvm.Cond.static ({ cls := "SearchHouse$Analyser", name := "isPlainVowel", desc := "(I)Z" } : Jvm.MethodName)) ∈ lw_all := lw_g (lw_at lw_m2 23 rfl) rfl
theorem q516 : (Jvm.Cond.code ({ cls := "SearchHouse$Analyser", name := "isPlainVowel", desc := "(I)Z" } : Jvm.MethodName) prog_2_method_8_code (1 : Nat) (Option.some Jvm.ClassFile.FieldType.boolean)) ∈ lw_all := lw_g (lw_at lw_m2 24 rfl) rfl
theorem q517 : (Jvm.Cond.stringRef "SearchHouse$Analyser" (140 : Nat) "ed") ∈ lw_tbl := lw_at lw_m2 25 rfl
theorem q518 : (Jvm.Cond.stringRef "SearchHouse$Analyser" (142 : Nat) "ing") ∈ lw_tbl := lw_at lw_m2 26 rfl
theorem q519 : (Jvm.Cond.methodLink "SearchHouse$Analyser" (129 : Nat) ({ cls := "SearchHouse$Analyser", name := "hasVowel", desc := "(I)Z" } : Jvm.MethodName)) ∈ lw_all := lw_g (lw_at lw_m2 27 rfl) rfl
theorem q520 : (Jvm.Cond.privateMethod ({ cls := "SearchHouse$Analyser", name := "hasVowel", desc := "(I)Z" } : Jvm.MethodName)) ∈ lw_tbl := lw_at lw_m2 28 rfl
theorem q521 : (Jvm.Cond.instanceMethod ({ cls := "SearchHouse$Analyser", name := "hasVowel", desc := "(I)Z" } : Jvm.MethodName)) ∈ lw_all := lw_g (lw_at lw_m2 29 rfl) rfl
theorem q522 : (Jvm.Cond.code ({ cls := "SearchHouse$Analyser", name := "hasVowel", desc := "(I)Z" } : Jvm.MethodName) prog_2_method_10_code (4 : Nat) (Option.some Jvm.ClassFile.FieldType.boolean)) ∈ lw_all := lw_g (lw_at lw_m2 30 rfl) rfl
theorem q523 : (Jvm.Cond.stringRef "SearchHouse$Analyser" (144 : Nat) "at") ∈ lw_tbl := lw_at lw_m2 31 rfl
theorem q524 : (Jvm.Cond.stringRef "SearchHouse$Analyser" (146 : Nat) "bl") ∈ lw_tbl := lw_at lw_m2 32 rfl
theorem q525 : (Jvm.Cond.stringRef "SearchHouse$Analyser" (148 : Nat) "iz") ∈ lw_tbl := lw_at lw_m2 33 rfl
theorem q526 : (Jvm.Cond.methodLink "SearchHouse$Analyser" (150 : Nat) ({ cls := "SearchHouse$Analyser", name := "withE", desc := "(I)I" } : Jvm.MethodName)) ∈ lw_all := lw_g (lw_at lw_m2 34 rfl) rfl
theorem q527 : (Jvm.Cond.privateMethod ({ cls := "SearchHouse$Analyser", name := "withE", desc := "(I)I" } : Jvm.MethodName)) ∈ lw_tbl := lw_at lw_m2 35 rfl
theorem q528 : (Jvm.Cond.instanceMethod ({ cls := "SearchHouse$Analyser", name := "withE", desc := "(I)I" } : Jvm.MethodName)) ∈ lw_all := lw_g (lw_at lw_m2 36 rfl) rfl
theorem q529 : (Jvm.Cond.code ({ cls := "SearchHouse$Analyser", name := "withE", desc := "(I)I" } : Jvm.MethodName) prog_2_method_14_code (2 : Nat) (Option.some Jvm.ClassFile.FieldType.int)) ∈ lw_all := lw_g (lw_at lw_m2 37 rfl) rfl
theorem q530 : (Jvm.Cond.methodLink "SearchHouse$Analyser" (153 : Nat) ({ cls := "SearchHouse$Analyser", name := "isVowel", desc := "(I)Z" } : Jvm.MethodName)) ∈ lw_all := lw_g (lw_at lw_m2 38 rfl) rfl
theorem q531 : (Jvm.Cond.privateMethod ({ cls := "SearchHouse$Analyser", name := "isVowel", desc := "(I)Z" } : Jvm.MethodName)) ∈ lw_tbl := lw_at lw_m2 39 rfl
theorem q532 : (Jvm.Cond.instanceMethod ({ cls := "SearchHouse$Analyser", name := "isVowel", desc := "(I)Z" } : Jvm.MethodName)) ∈ lw_all := lw_g (lw_at lw_m2 40 rfl) rfl
theorem q533 : (Jvm.Cond.code ({ cls := "SearchHouse$Analyser", name := "isVowel", desc := "(I)Z" } : Jvm.MethodName) prog_2_method_7_code (4 : Nat) (Option.some Jvm.ClassFile.FieldType.boolean)) ∈ lw_all := lw_g (lw_at lw_m2 41 rfl) rfl
theorem q534 : (Jvm.Cond.methodLink "SearchHouse$Analyser" (132 : Nat) ({ cls := "SearchHouse$Analyser", name := "suffix", desc := "(I)I" } : Jvm.MethodName)) ∈ lw_all := lw_g (lw_at lw_m2 42 rfl) rfl
theorem q535 : (Jvm.Cond.privateMethod ({ cls := "SearchHouse$Analyser", name := "suffix", desc := "(I)I" } : Jvm.MethodName)) ∈ lw_tbl := lw_at lw_m2 43 rfl
theorem q536 : (Jvm.Cond.instanceMethod ({ cls := "SearchHouse$Analyser", name := "suffix", desc := "(I)I" } : Jvm.MethodName)) ∈ lw_all := lw_g (lw_at lw_m2 44 rfl) rfl
theorem q537 : (Jvm.Cond.code ({ cls := "SearchHouse$Analyser", name := "suffix", desc := "(I)I" } : Jvm.MethodName) prog_2_method_15_code (8 : Nat) (Option.some Jvm.ClassFile.FieldType.int)) ∈ lw_all := lw_g (lw_at lw_m2 45 rfl) rfl
theorem q538 : (Jvm.Cond.stringRef "SearchHouse$Analyser" (156 : Nat) "ational ate,tional tion,enci ence,anci ance,izer ize,alli al,ization ize,ation ate,ator ate,alism al,iveness ive,fulness ful,ousness ous,aliti al,iviti ive,biliti ble,icate ic,ative ,alize al,iciti ic,ical ic,ful ,ness ,") ∈ lw_tbl := lw_at lw_m2 46 rfl
theorem q539 : (Jvm.Cond.methodLink "SearchHouse$Analyser" (158 : Nat) ({ cls := "java/lang/String", name := "indexOf", desc := "(II)I" } : Jvm.MethodName)) ∈ lw_all := lw_g (lw_at lw_m2 47 rfl) rfl
theorem q540 : (Jvm.Cond.instanceMethod ({ cls := "java/lang/String", name := "indexOf", desc := "(II)I" } : Jvm.MethodName)) ∈ lw_all := lw_g (lw_at lw_m2 48 rfl) rfl
theorem q541 : (Jvm.Cond.selects "java/lang/String" ({ cls := "java/lang/String", name := "indexOf", desc := "(II)I" } : Jvm.MethodName) ({ cls := "java/lang/String", name := "indexOf", desc := "(II)I" } : Jvm.MethodName)) ∈ lw_all := lw_g (lw_at lw_m2 49 rfl) rfl
theorem q542 : (Jvm.Cond.code ({ cls := "java/lang/String", name := "indexOf", desc := "(II)I" } : Jvm.MethodName) prog_26_method_80_code (3 : Nat) (Option.some Jvm.ClassFile.FieldType.int)) ∈ lw_all := lw_g (lw_at lw_m2 50 rfl) rfl
theorem q543 : (Jvm.Cond.methodLink "java/lang/String" (505 : Nat) ({ cls := "java/lang/String", name := "length", desc := "()I" } : Jvm.MethodName)) ∈ lw_all := lw_g (lw_at lw_m2 51 rfl) rfl
theorem q544 : (Jvm.Cond.methodLink "java/lang/String" (637 : Nat) ({ cls := "java/lang/StringLatin1", name := "indexOf", desc := "([BIII)I" } : Jvm.MethodName)) ∈ lw_all := lw_g (lw_at lw_m2 52 rfl) rfl
theorem q545 : (Jvm.Cond.static ({ cls := "java/lang/StringLatin1", name := "indexOf", desc := "([BIII)I" } : Jvm.MethodName)) ∈ lw_all := lw_g (lw_at lw_m2 53 rfl) rfl
theorem q546 : (Jvm.Cond.code ({ cls := "java/lang/StringLatin1", name := "indexOf", desc := "([BIII)I" } : Jvm.MethodName) prog_27_method_22_code (4 : Nat) (Option.some Jvm.ClassFile.FieldType.int)) ∈ lw_all := lw_g (lw_at lw_m2 54 rfl) rfl
theorem q547 : (Jvm.Cond.methodLink "java/lang/StringLatin1" (88 : Nat) ({ cls := "java/lang/StringLatin1", name := "canEncode", desc := "(I)Z" } : Jvm.MethodName)) ∈ lw_all := lw_g (lw_at lw_m2 55 rfl) rfl
theorem q548 : (Jvm.Cond.static ({ cls := "java/lang/StringLatin1", name := "canEncode", desc := "(I)Z" } : Jvm.MethodName)) ∈ lw_all := lw_g (lw_at lw_m2 56 rfl) rfl
theorem q549 : (Jvm.Cond.code ({ cls := "java/lang/StringLatin1", name := "canEncode", desc := "(I)Z" } : Jvm.MethodName) prog_27_method_4_code (1 : Nat) (Option.some Jvm.ClassFile.FieldType.boolean)) ∈ lw_all := lw_g (lw_at lw_m2 57 rfl) rfl
theorem q550 : (Jvm.Cond.methodLink "java/lang/StringLatin1" (92 : Nat) ({ cls := "java/lang/Math", name := "max", desc := "(II)I" } : Jvm.MethodName)) ∈ lw_all := lw_g (lw_at lw_m2 58 rfl) rfl
theorem q551 : (Jvm.Cond.static ({ cls := "java/lang/Math", name := "max", desc := "(II)I" } : Jvm.MethodName)) ∈ lw_all := lw_g (lw_at lw_m2 59 rfl) rfl
theorem q552 : (Jvm.Cond.code ({ cls := "java/lang/Math", name := "max", desc := "(II)I" } : Jvm.MethodName) prog_22_method_65_code (2 : Nat) (Option.some Jvm.ClassFile.FieldType.int)) ∈ lw_all := lw_g (lw_at lw_m2 60 rfl) rfl
theorem q553 : (Jvm.Cond.methodLink "java/lang/StringLatin1" (38 : Nat) ({ cls := "java/lang/Math", name := "min", desc := "(II)I" } : Jvm.MethodName)) ∈ lw_all := lw_g (lw_at lw_m2 61 rfl) rfl
theorem q554 : (Jvm.Cond.static ({ cls := "java/lang/Math", name := "min", desc := "(II)I" } : Jvm.MethodName)) ∈ lw_all := lw_g (lw_at lw_m2 62 rfl) rfl
theorem q555 : (Jvm.Cond.code ({ cls := "java/lang/Math", name := "min", desc := "(II)I" } : Jvm.MethodName) prog_22_method_69_code (2 : Nat) (Option.some Jvm.ClassFile.FieldType.int)) ∈ lw_all := lw_g (lw_at lw_m2 63 rfl) rfl
theorem q556 : (Jvm.Cond.methodLink "java/lang/StringLatin1" (95 : Nat) ({ cls := "java/lang/StringLatin1", name := "indexOfChar", desc := "([BIII)I" } : Jvm.MethodName)) ∈ lw_all := lw_g (lw_at lw_m2 64 rfl) rfl
theorem q557 : (Jvm.Cond.static ({ cls := "java/lang/StringLatin1", name := "indexOfChar", desc := "([BIII)I" } : Jvm.MethodName)) ∈ lw_all := lw_g (lw_at lw_m2 65 rfl) rfl
theorem q558 : (Jvm.Cond.code ({ cls := "java/lang/StringLatin1", name := "indexOfChar", desc := "([BIII)I" } : Jvm.MethodName) prog_27_method_23_code (6 : Nat) (Option.some Jvm.ClassFile.FieldType.int)) ∈ lw_all := lw_g (lw_at lw_m2 66 rfl) rfl
theorem q559 : (Jvm.Cond.methodLink "java/lang/String" (640 : Nat) ({ cls := "java/lang/StringUTF16", name := "indexOf", desc := "([BIII)I" } : Jvm.MethodName)) ∈ lw_all := lw_g (lw_at lw_m2 67 rfl) rfl
theorem q560 : (Jvm.Cond.static ({ cls := "java/lang/StringUTF16", name := "indexOf", desc := "([BIII)I" } : Jvm.MethodName)) ∈ lw_all := lw_g (lw_at lw_m2 68 rfl) rfl
theorem q561 : (Jvm.Cond.code ({ cls := "java/lang/StringUTF16", name := "indexOf", desc := "([BIII)I" } : Jvm.MethodName) prog_28_method_40_code (4 : Nat) (Option.some Jvm.ClassFile.FieldType.int)) ∈ lw_all := lw_g (lw_at lw_m2 69 rfl) rfl
theorem q562 : (Jvm.Cond.methodLink "java/lang/StringUTF16" (224 : Nat) ({ cls := "java/lang/Math", name := "max", desc := "(II)I" } : Jvm.MethodName)) ∈ lw_all := lw_g (lw_at lw_m2 70 rfl) rfl
theorem q563 : (Jvm.Cond.methodLink "java/lang/StringUTF16" (183 : Nat) ({ cls := "java/lang/Math", name := "min", desc := "(II)I" } : Jvm.MethodName)) ∈ lw_all := lw_g (lw_at lw_m2 71 rfl) rfl
theorem q564 : (Jvm.Cond.constant "java/lang/StringUTF16" (227 : Nat) (65536 : Int32)) ∈ lw_all := lw_g (lw_at lw_m2 72 rfl) rfl
theorem q565 : (Jvm.Cond.methodLink "java/lang/StringUTF16" (228 : Nat) ({ cls := "java/lang/StringUTF16", name := "indexOfChar", desc := "([BIII)I" } : Jvm.MethodName)) ∈ lw_all := lw_g (lw_at lw_m2 73 rfl) rfl
theorem q566 : (Jvm.Cond.static ({ cls := "java/lang/StringUTF16", name := "indexOfChar", desc := "([BIII)I" } : Jvm.MethodName)) ∈ lw_all := lw_g (lw_at lw_m2 74 rfl) rfl
theorem q567 : (Jvm.Cond.code ({ cls := "java/lang/StringUTF16", name := "indexOfChar", desc := "([BIII)I" } : Jvm.MethodName) prog_28_method_47_code (4 : Nat) (Option.some Jvm.ClassFile.FieldType.int)) ∈ lw_all := lw_g (lw_at lw_m2 75 rfl) rfl
theorem q568 : (Jvm.Cond.methodLink "java/lang/StringUTF16" (96 : Nat) ({ cls := "java/lang/StringUTF16", name := "checkBoundsBeginEnd", desc := "(II[B)V" } : Jvm.MethodName)) ∈ lw_all := lw_g (lw_at lw_m2 76 rfl) rfl
theorem q569 : (Jvm.Cond.static ({ cls := "java/lang/StringUTF16", name := "checkBoundsBeginEnd", desc := "(II[B)V" } : Jvm.MethodName)) ∈ lw_all := lw_g (lw_at lw_m2 77 rfl) rfl
theorem q570 : (Jvm.Cond.code ({ cls := "java/lang/StringUTF16", name := "checkBoundsBeginEnd", desc := "(II[B)V" } : Jvm.MethodName) prog_28_method_93_code (3 : Nat) (Option.none : Option Jvm.ClassFile.FieldType)) ∈ lw_all := lw_g (lw_at lw_m2 78 rfl) rfl
theorem q571 : (Jvm.Cond.methodLink "java/lang/StringUTF16" (241 : Nat) ({ cls := "java/lang/String", name := "checkBoundsBeginEnd", desc := "(III)V" } : Jvm.MethodName)) ∈ lw_all := lw_g (lw_at lw_m2 79 rfl) rfl
theorem q572 : (Jvm.Cond.static ({ cls := "java/lang/String", name := "checkBoundsBeginEnd", desc := "(III)V" } : Jvm.MethodName)) ∈ lw_all := lw_g (lw_at lw_m2 80 rfl) rfl
theorem q573 : (Jvm.Cond.code ({ cls := "java/lang/String", name := "checkBoundsBeginEnd", desc := "(III)V" } : Jvm.MethodName) prog_26_method_158_code (3 : Nat) (Option.none : Option Jvm.ClassFile.FieldType)) ∈ lw_all := lw_g (lw_at lw_m2 81 rfl) rfl
theorem q574 : (Jvm.Cond.methodLink "java/lang/String" (1062 : Nat) ({ cls := "jdk/internal/util/Preconditions", name := "checkFromToIndex", desc := "(IIILjava/util/function/BiFunction;)I" } : Jvm.MethodName)) ∈ lw_all := lw_g (lw_at lw_m2 82 rfl) rfl
theorem q575 : (Jvm.Cond.static ({ cls := "jdk/internal/util/Preconditions", name := "checkFromToIndex", desc := "(IIILjava/util/function/BiFunction;)I" } : Jvm.MethodName)) ∈ lw_all := lw_g (lw_at lw_m2 83 rfl) rfl
theorem q576 : (Jvm.Cond.code ({ cls := "jdk/internal/util/Preconditions", name := "checkFromToIndex", desc := "(IIILjava/util/function/BiFunction;)I" } : Jvm.MethodName) prog_31_method_12_code (4 : Nat) (Option.some Jvm.ClassFile.FieldType.int)) ∈ lw_all := lw_g (lw_at lw_m2 84 rfl) rfl
theorem q577 : (Jvm.Cond.methodLink "java/lang/StringUTF16" (244 : Nat) ({ cls := "java/lang/StringUTF16", name := "indexOfCharUnsafe", desc := "([BIII)I" } : Jvm.MethodName)) ∈ lw_all := lw_g (lw_at lw_m2 85 rfl) rfl
theorem q578 : (Jvm.Cond.static ({ cls := "java/lang/StringUTF16", name := "indexOfCharUnsafe", desc := "([BIII)I" } : Jvm.MethodName)) ∈ lw_all := lw_g (lw_at lw_m2 86 rfl) rfl
theorem q579 : (Jvm.Cond.code ({ cls := "java/lang/StringUTF16", name := "indexOfCharUnsafe", desc := "([BIII)I" } : Jvm.MethodName) prog_28_method_48_code (5 : Nat) (Option.some Jvm.ClassFile.FieldType.int)) ∈ lw_all := lw_g (lw_at lw_m2 87 rfl) rfl
theorem q580 : (Jvm.Cond.methodLink "java/lang/StringUTF16" (232 : Nat) ({ cls := "java/lang/StringUTF16", name := "indexOfSupplementary", desc := "([BIII)I" } : Jvm.MethodName)) ∈ lw_all := lw_g (lw_at lw_m2 88 rfl) rfl
theorem q581 : (Jvm.Cond.static ({ cls := "java/lang/StringUTF16", name := "indexOfSupplementary", desc := "([BIII)I" } : Jvm.MethodName)) ∈ lw_all := lw_g (lw_at lw_m2 89 rfl) rfl
theorem q582 : (Jvm.Cond.code ({ cls := "java/lang/StringUTF16", name := "indexOfSupplementary", desc := "([BIII)I" } : Jvm.MethodName) prog_28_method_49_code (7 : Nat) (Option.some Jvm.ClassFile.FieldType.int)) ∈ lw_all := lw_g (lw_at lw_m2 90 rfl) rfl
theorem q583 : (Jvm.Cond.methodLink "java/lang/StringUTF16" (164 : Nat) ({ cls := "java/lang/Character", name := "isValidCodePoint", desc := "(I)Z" } : Jvm.MethodName)) ∈ lw_all := lw_g (lw_at lw_m2 91 rfl) rfl
theorem q584 : (Jvm.Cond.static ({ cls := "java/lang/Character", name := "isValidCodePoint", desc := "(I)Z" } : Jvm.MethodName)) ∈ lw_all := lw_g (lw_at lw_m2 92 rfl) rfl
theorem q585 : (Jvm.Cond.code ({ cls := "java/lang/Character", name := "isValidCodePoint", desc := "(I)Z" } : Jvm.MethodName) prog_15_method_11_code (2 : Nat) (Option.some Jvm.ClassFile.FieldType.boolean)) ∈ lw_all := lw_g (lw_at lw_m2 93 rfl) rfl
theorem q586 : (Jvm.Cond.methodLink "java/lang/StringUTF16" (157 : Nat) ({ cls := "java/lang/Character", name := "highSurrogate", desc := "(I)C" } : Jvm.MethodName)) ∈ lw_all := lw_g (lw_at lw_m2 94 rfl) rfl
theorem q587 : (Jvm.Cond.static ({ cls := "java/lang/Character", name := "highSurrogate", desc := "(I)C" } : Jvm.MethodName)) ∈ lw_all := lw_g (lw_at lw_m2 95 rfl) rfl
theorem q588 : (Jvm.Cond.code ({ cls := "java/lang/Character", name := "highSurrogate", desc := "(I)C" } : Jvm.MethodName) prog_15_method_28_code (1 : Nat) (Option.some Jvm.ClassFile.FieldType.char)) ∈ lw_all := lw_g (lw_at lw_m2 96 rfl) rfl
theorem q589 : (Jvm.Cond.constant "java/lang/Character" (110 : Nat) (55232 : Int32)) ∈ lw_all := lw_g (lw_at lw_m2 97 rfl) rfl
theorem q590 : (Jvm.Cond.methodLink "java/lang/StringUTF16" (161 : Nat) ({ cls := "java/lang/Character", name := "lowSurrogate", desc := "(I)C" } : Jvm.MethodName)) ∈ lw_all := lw_g (lw_at lw_m2 98 rfl) rfl
theorem q591 : (Jvm.Cond.static ({ cls := "java/lang/Character", name := "lowSurrogate", desc := "(I)C" } : Jvm.MethodName)) ∈ lw_all := lw_g (lw_at lw_m2 99 rfl) rfl
theorem q592 : (Jvm.Cond.code ({ cls := "java/lang/Character", name := "lowSurrogate", desc := "(I)C" } : Jvm.MethodName) prog_15_method_29_code (1 : Nat) (Option.some Jvm.ClassFile.FieldType.char)) ∈ lw_all := lw_g (lw_at lw_m2 100 rfl) rfl
theorem q593 : (Jvm.Cond.constant "java/lang/Character" (76 : Nat) (56320 : Int32)) ∈ lw_all := lw_g (lw_at lw_m2 101 rfl) rfl
theorem q594 : (Jvm.Cond.methodLink "SearchHouse$Analyser" (70 : Nat) ({ cls := "SearchHouse$Tokens", name := "add", desc := "([BIIIII)V" } : Jvm.MethodName)) ∈ lw_all := lw_g (lw_at lw_m2 102 rfl) rfl
theorem q595 : (Jvm.Cond.instanceMethod ({ cls := "SearchHouse$Tokens", name := "add", desc := "([BIIIII)V" } : Jvm.MethodName)) ∈ lw_all := lw_g (lw_at lw_m2 103 rfl) rfl
theorem q596 : (Jvm.Cond.selects "SearchHouse$Tokens" ({ cls := "SearchHouse$Tokens", name := "add", desc := "([BIIIII)V" } : Jvm.MethodName) ({ cls := "SearchHouse$Tokens", name := "add", desc := "([BIIIII)V" } : Jvm.MethodName)) ∈ lw_all := lw_g (lw_at lw_m2 104 rfl) rfl
theorem q597 : (Jvm.Cond.code ({ cls := "SearchHouse$Tokens", name := "add", desc := "([BIIIII)V" } : Jvm.MethodName) prog_10_method_3_code (7 : Nat) (Option.none : Option Jvm.ClassFile.FieldType)) ∈ lw_all := lw_g (lw_at lw_m2 105 rfl) rfl
theorem q598 : (Jvm.Cond.methodLink "SearchHouse$Tokens" (28 : Nat) ({ cls := "java/lang/Math", name := "min", desc := "(II)I" } : Jvm.MethodName)) ∈ lw_all := lw_g (lw_at lw_m2 106 rfl) rfl
theorem q599 : (Jvm.Cond.methodLink "SearchHouse$Tokens" (38 : Nat) ({ cls := "java/lang/System", name := "arraycopy", desc := "(Ljava/lang/Object;ILjava/lang/Object;II)V" } : Jvm.MethodName)) ∈ lw_all := lw_g (lw_at lw_m2 107 rfl) rfl
theorem q600 : (Jvm.Cond.methodLink "SearchHouse$Analyser" (74 : Nat) ({ cls := "SearchHouse$Tokens", name := "has", desc := "(I[BII)Z" } : Jvm.MethodName)) ∈ lw_all := lw_g (lw_at lw_m2 108 rfl) rfl
theorem q601 : (Jvm.Cond.instanceMethod ({ cls := "SearchHouse$Tokens", name := "has", desc := "(I[BII)Z" } : Jvm.MethodName)) ∈ lw_all := lw_g (lw_at lw_m2 109 rfl) rfl
theorem q602 : (Jvm.Cond.selects "SearchHouse$Tokens" ({ cls := "SearchHouse$Tokens", name := "has", desc := "(I[BII)Z" } : Jvm.MethodName) ({ cls := "SearchHouse$Tokens", name := "has", desc := "(I[BII)Z" } : Jvm.MethodName)) ∈ lw_all := lw_g (lw_at lw_m2 110 rfl) rfl
theorem q603 : (Jvm.Cond.code ({ cls := "SearchHouse$Tokens", name := "has", desc := "(I[BII)Z" } : Jvm.MethodName) prog_10_method_2_code (9 : Nat) (Option.some Jvm.ClassFile.FieldType.boolean)) ∈ lw_all := lw_g (lw_at lw_m2 111 rfl) rfl
theorem q604 : (Jvm.Cond.methodLink "SearchHouseLaw" (40 : Nat) ({ cls := "SearchHouse", name := "token", desc := "(II)I" } : Jvm.MethodName)) ∈ lw_all := lw_g (lw_at lw_m2 112 rfl) rfl
theorem q605 : (Jvm.Cond.instanceMethod ({ cls := "SearchHouse", name := "token", desc := "(II)I" } : Jvm.MethodName)) ∈ lw_all := lw_g (lw_at lw_m2 113 rfl) rfl
theorem q606 : (Jvm.Cond.selects "SearchHouse" ({ cls := "SearchHouse", name := "token", desc := "(II)I" } : Jvm.MethodName) ({ cls := "SearchHouse", name := "token", desc := "(II)I" } : Jvm.MethodName)) ∈ lw_all := lw_g (lw_at lw_m2 114 rfl) rfl
theorem q607 : (Jvm.Cond.code ({ cls := "SearchHouse", name := "token", desc := "(II)I" } : Jvm.MethodName) prog_1_method_14_code (3 : Nat) (Option.some Jvm.ClassFile.FieldType.int)) ∈ lw_all := lw_g (lw_at lw_m2 115 rfl) rfl
theorem q608 : (Jvm.Cond.methodLink "SearchHouseLaw" (45 : Nat) ({ cls := "SearchHouse", name := "letter", desc := "(II)I" } : Jvm.MethodName)) ∈ lw_all := lw_g (lw_at lw_m2 116 rfl) rfl
theorem q609 : (Jvm.Cond.instanceMethod ({ cls := "SearchHouse", name := "letter", desc := "(II)I" } : Jvm.MethodName)) ∈ lw_all := lw_g (lw_at lw_m2 117 rfl) rfl
theorem q610 : (Jvm.Cond.selects "SearchHouse" ({ cls := "SearchHouse", name := "letter", desc := "(II)I" } : Jvm.MethodName) ({ cls := "SearchHouse", name := "letter", desc := "(II)I" } : Jvm.MethodName)) ∈ lw_all := lw_g (lw_at lw_m2 118 rfl) rfl
theorem q611 : (Jvm.Cond.code ({ cls := "SearchHouse", name := "letter", desc := "(II)I" } : Jvm.MethodName) prog_1_method_15_code (3 : Nat) (Option.some Jvm.ClassFile.FieldType.int)) ∈ lw_all := lw_g (lw_at lw_m2 119 rfl) rfl
theorem q612 : (Jvm.Cond.methodLink "SearchHouseLaw" (49 : Nat) ({ cls := "SearchHouse", name := "field", desc := "(II)I" } : Jvm.MethodName)) ∈ lw_all := lw_g (lw_at lw_m2 120 rfl) rfl
theorem q613 : (Jvm.Cond.instanceMethod ({ cls := "SearchHouse", name := "field", desc := "(II)I" } : Jvm.MethodName)) ∈ lw_all := lw_g (lw_at lw_m2 121 rfl) rfl
theorem q614 : (Jvm.Cond.selects "SearchHouse" ({ cls := "SearchHouse", name := "field", desc := "(II)I" } : Jvm.MethodName) ({ cls := "SearchHouse", name := "field", desc := "(II)I" } : Jvm.MethodName)) ∈ lw_all := lw_g (lw_at lw_m2 122 rfl) rfl
theorem q615 : (Jvm.Cond.code ({ cls := "SearchHouse", name := "field", desc := "(II)I" } : Jvm.MethodName) prog_1_method_18_code (3 : Nat) (Option.some Jvm.ClassFile.FieldType.int)) ∈ lw_all := lw_g (lw_at lw_m2 123 rfl) rfl
theorem q616 : (Jvm.Cond.classLink "SearchHouseLaw" (7 : Nat) "SearchHouse") ∈ lw_all := lw_g (lw_at lw_m2 124 rfl) rfl
theorem q617 : (Jvm.Cond.methodLink "SearchHouseLaw" (9 : Nat) ({ cls := "SearchHouse", name := "<init>", desc := "()V" } : Jvm.MethodName)) ∈ lw_all := lw_g (lw_at lw_m2 125 rfl) rfl
theorem q618 : (Jvm.Cond.instanceMethod ({ cls := "SearchHouse", name := "<init>", desc := "()V" } : Jvm.MethodName)) ∈ lw_all := lw_g (lw_at lw_m2 126 rfl) rfl
theorem q619 : (Jvm.Cond.code ({ cls := "SearchHouse", name := "<init>", desc := "()V" } : Jvm.MethodName) prog_1_method_19_code (2 : Nat) (Option.none : Option Jvm.ClassFile.FieldType)) ∈ lw_all := lw_g (lw_at lw_m2 127 rfl) rfl
theorem q620 : (Jvm.Cond.methodLink "SearchHouse" (125 : Nat) ({ cls := "java/lang/Object", name := "<init>", desc := "()V" } : Jvm.MethodName)) ∈ lw_all := lw_g (lw_at lw_m2 128 rfl) rfl
theorem q621 : (Jvm.Cond.arrayOver (Jvm.ClassFile.FieldType.object "SearchHouse$Analyser")) ∈ lw_tbl := lw_at lw_m2 129 rfl
theorem q622 : (Jvm.Cond.classLink "SearchHouse" (95 : Nat) "SearchHouse$Tokens") ∈ lw_all := lw_g (lw_at lw_m2 130 rfl) rfl
theorem q623 : (Jvm.Cond.instantiable "SearchHouse$Tokens" (6 : Nat)) ∈ lw_all := lw_g (lw_at lw_m2 131 rfl) rfl
theorem q624 : (Jvm.Cond.methodLinkNest "SearchHouse" (130 : Nat) ({ cls := "SearchHouse$Tokens", name := "<init>", desc := "()V" } : Jvm.MethodName) "SearchHouse") ∈ lw_tbl := lw_at lw_m2 132 rfl
theorem q625 : (Jvm.Cond.instanceMethod ({ cls := "SearchHouse$Tokens", name := "<init>", desc := "()V" } : Jvm.MethodName)) ∈ lw_all := lw_g (lw_at lw_m2 133 rfl) rfl
theorem q626 : (Jvm.Cond.code ({ cls := "SearchHouse$Tokens", name := "<init>", desc := "()V" } : Jvm.MethodName) prog_10_method_1_code (1 : Nat) (Option.none : Option Jvm.ClassFile.FieldType)) ∈ lw_all := lw_g (lw_at lw_m2 134 rfl) rfl
theorem q627 : (Jvm.Cond.methodLink "SearchHouse$Tokens" (3 : Nat) ({ cls := "java/lang/Object", name := "<init>", desc := "()V" } : Jvm.MethodName)) ∈ lw_all := lw_g (lw_at lw_m2 135 rfl) rfl
theorem q628 : (Jvm.Cond.fieldLink "SearchHouse$Tokens" (9 : Nat) "SearchHouse$Tokens" "bytes" "[B") ∈ lw_all := lw_g (lw_at lw_m2 136 rfl) rfl
theorem q629 : (Jvm.Cond.fieldLinkNest "SearchHouse$Asking" (288 : Nat) "SearchHouse$Tokens" "bytes" "[B" "SearchHouse") ∈ lw_tbl := lw_at lw_m2 137 rfl
theorem q630 : (Jvm.Cond.fieldLinkNest "SearchHouse" (110 : Nat) "SearchHouse$Tokens" "bytes" "[B" "SearchHouse") ∈ lw_tbl := lw_at lw_m2 138 rfl
theorem q631 : (Jvm.Cond.fieldLink "SearchHouse$Tokens" (15 : Nat) "SearchHouse$Tokens" "sizes" "[I") ∈ lw_all := lw_g (lw_at lw_m2 139 rfl) rfl
theorem q632 : (Jvm.Cond.fieldLinkNest "SearchHouse$Asking" (289 : Nat) "SearchHouse$Tokens" "sizes" "[I" "SearchHouse") ∈ lw_tbl := lw_at lw_m2 140 rfl
theorem q633 : (Jvm.Cond.fieldLinkNest "SearchHouse" (107 : Nat) "SearchHouse$Tokens" "sizes" "[I" "SearchHouse") ∈ lw_tbl := lw_at lw_m2 141 rfl
theorem q634 : (Jvm.Cond.fieldLink "SearchHouse$Tokens" (19 : Nat) "SearchHouse$Tokens" "starts" "[I") ∈ lw_all := lw_g (lw_at lw_m2 142 rfl) rfl
theorem q635 : (Jvm.Cond.fieldLinkNest "SearchHouse" (97 : Nat) "SearchHouse$Tokens" "starts" "[I" "SearchHouse") ∈ lw_tbl := lw_at lw_m2 143 rfl
theorem q636 : (Jvm.Cond.fieldLink "SearchHouse$Tokens" (22 : Nat) "SearchHouse$Tokens" "ends" "[I") ∈ lw_all := lw_g (lw_at lw_m2 144 rfl) rfl
theorem q637 : (Jvm.Cond.fieldLinkNest "SearchHouse" (101 : Nat) "SearchHouse$Tokens" "ends" "[I" "SearchHouse") ∈ lw_tbl := lw_at lw_m2 145 rfl
theorem q638 : (Jvm.Cond.fieldLink "SearchHouse$Tokens" (25 : Nat) "SearchHouse$Tokens" "positions" "[I") ∈ lw_all := lw_g (lw_at lw_m2 146 rfl) rfl
theorem q639 : (Jvm.Cond.fieldLinkNest "SearchHouse$Asking" (287 : Nat) "SearchHouse$Tokens" "positions" "[I" "SearchHouse") ∈ lw_tbl := lw_at lw_m2 147 rfl
theorem q640 : (Jvm.Cond.fieldLinkNest "SearchHouse" (104 : Nat) "SearchHouse$Tokens" "positions" "[I" "SearchHouse") ∈ lw_tbl := lw_at lw_m2 148 rfl
theorem q641 : (Jvm.Cond.fieldLink "SearchHouse$Tokens" (34 : Nat) "SearchHouse$Tokens" "count" "I") ∈ lw_all := lw_g (lw_at lw_m2 149 rfl) rfl
theorem q642 : (Jvm.Cond.fieldLinkNest "SearchHouse$Analyser" (32 : Nat) "SearchHouse$Tokens" "count" "I" "SearchHouse") ∈ lw_tbl := lw_at lw_m2 150 rfl
theorem q643 : (Jvm.Cond.fieldLinkNest "SearchHouse" (94 : Nat) "SearchHouse$Tokens" "count" "I" "SearchHouse") ∈ lw_tbl := lw_at lw_m2 151 rfl
theorem q644 : (Jvm.Cond.fieldLinkNest "SearchHouse$Asking" (284 : Nat) "SearchHouse$Tokens" "count" "I" "SearchHouse") ∈ lw_tbl := lw_at lw_m2 152 rfl
theorem q645 : (Jvm.Cond.laysFinal "SearchHouse$Tokens" "SearchHouse$Tokens" "bytes" "[B") ∈ lw_all := lw_g (lw_at lw_m2 153 rfl) rfl
theorem q646 : (Jvm.Cond.soleField "SearchHouse$Tokens" "bytes") ∈ lw_all := lw_g (lw_at lw_m2 154 rfl) rfl
theorem q647 : (Jvm.Cond.laysFinal "SearchHouse$Tokens" "SearchHouse$Tokens" "sizes" "[I") ∈ lw_all := lw_g (lw_at lw_m2 155 rfl) rfl
theorem q648 : (Jvm.Cond.soleField "SearchHouse$Tokens" "sizes") ∈ lw_all := lw_g (lw_at lw_m2 156 rfl) rfl
theorem q649 : (Jvm.Cond.laysFinal "SearchHouse$Tokens" "SearchHouse$Tokens" "starts" "[I") ∈ lw_all := lw_g (lw_at lw_m2 157 rfl) rfl
theorem q650 : (Jvm.Cond.soleField "SearchHouse$Tokens" "starts") ∈ lw_all := lw_g (lw_at lw_m2 158 rfl) rfl
theorem q651 : (Jvm.Cond.laysFinal "SearchHouse$Tokens" "SearchHouse$Tokens" "ends" "[I") ∈ lw_all := lw_g (lw_at lw_m2 159 rfl) rfl
theorem q652 : (Jvm.Cond.soleField "SearchHouse$Tokens" "ends") ∈ lw_all := lw_g (lw_at lw_m2 160 rfl) rfl
theorem q653 : (Jvm.Cond.laysFinal "SearchHouse$Tokens" "SearchHouse$Tokens" "positions" "[I") ∈ lw_all := lw_g (lw_at lw_m2 161 rfl) rfl
theorem q654 : (Jvm.Cond.soleField "SearchHouse$Tokens" "positions") ∈ lw_all := lw_g (lw_at lw_m2 162 rfl) rfl
theorem q655 : (Jvm.Cond.lays "SearchHouse$Tokens" "SearchHouse$Tokens" "count" "I") ∈ lw_all := lw_g (lw_at lw_m2 163 rfl) rfl
theorem q656 : (Jvm.Cond.soleField "SearchHouse$Tokens" "count") ∈ lw_all := lw_g (lw_at lw_m2 164 rfl) rfl
theorem q657 : (Jvm.Cond.superclass "SearchHouse$Tokens" "java/lang/Object") ∈ lw_all := lw_g (lw_at lw_m2 165 rfl) rfl
theorem q658 : (Jvm.Cond.classLink "SearchHouse" (134 : Nat) "SearchHouse$Terms") ∈ lw_all := lw_g (lw_at lw_m2 166 rfl) rfl
theorem q659 : (Jvm.Cond.instantiable "SearchHouse$Terms" (9 : Nat)) ∈ lw_all := lw_g (lw_at lw_m2 167 rfl) rfl
theorem q660 : (Jvm.Cond.methodLinkNest "SearchHouse" (136 : Nat) ({ cls := "SearchHouse$Terms", name := "<init>", desc := "(LSearchHouse;)V" } : Jvm.MethodName) "SearchHouse") ∈ lw_tbl := lw_at lw_m2 168 rfl
theorem q661 : (Jvm.Cond.instanceMethod ({ cls := "SearchHouse$Terms", name := "<init>", desc := "(LSearchHouse;)V" } : Jvm.MethodName)) ∈ lw_all := lw_g (lw_at lw_m2 169 rfl) rfl
theorem q662 : (Jvm.Cond.code ({ cls := "SearchHouse$Terms", name := "<init>", desc := "(LSearchHouse;)V" } : Jvm.MethodName) prog_9_method_1_code (2 : Nat) (Option.none : Option Jvm.ClassFile.FieldType)) ∈ lw_all := lw_g (lw_at lw_m2 170 rfl) rfl
theorem q663 : (Jvm.Cond.methodLink "SearchHouse$Terms" (9 : Nat) ({ cls := "java/lang/Object", name := "<init>", desc := "()V" } : Jvm.MethodName)) ∈ lw_all := lw_g (lw_at lw_m2 171 rfl) rfl
theorem q664 : (Jvm.Cond.constant "SearchHouse$Terms" (15 : Nat) (730000 : Int32)) ∈ lw_all := lw_g (lw_at lw_m2 172 rfl) rfl
theorem q665 : (Jvm.Cond.constant "SearchHouse$Terms" (20 : Nat) (36500 : Int32)) ∈ lw_all := lw_g (lw_at lw_m2 173 rfl) rfl
theorem q666 : (Jvm.Cond.fieldLink "SearchHouse$Terms" (16 : Nat) "SearchHouse$Terms" "bytes" "[B") ∈ lw_all := lw_g (lw_at lw_m2 174 rfl) rfl
theorem q667 : (Jvm.Cond.fieldLinkNest "SearchHouse$Asking" (275 : Nat) "SearchHouse$Terms" "bytes" "[B" "SearchHouse") ∈ lw_tbl := lw_at lw_m2 175 rfl
theorem q668 : (Jvm.Cond.fieldLinkNest "SearchHouse" (494 : Nat) "SearchHouse$Terms" "bytes" "[B" "SearchHouse") ∈ lw_tbl := lw_at lw_m2 176 rfl
theorem q669 : (Jvm.Cond.fieldLink "SearchHouse$Terms" (21 : Nat) "SearchHouse$Terms" "fields" "[B") ∈ lw_all := lw_g (lw_at lw_m2 177 rfl) rfl
theorem q670 : (Jvm.Cond.fieldLinkNest "SearchHouse$Asking" (163 : Nat) "SearchHouse$Terms" "fields" "[B" "SearchHouse") ∈ lw_tbl := lw_at lw_m2 178 rfl
theorem q671 : (Jvm.Cond.fieldLinkNest "SearchHouse$World" (88 : Nat) "SearchHouse$Terms" "fields" "[B" "SearchHouse") ∈ lw_tbl := lw_at lw_m2 179 rfl
theorem q672 : (Jvm.Cond.fieldLinkNest "SearchHouse" (491 : Nat) "SearchHouse$Terms" "fields" "[B" "SearchHouse") ∈ lw_tbl := lw_at lw_m2 180 rfl
theorem q673 : (Jvm.Cond.fieldLink "SearchHouse$Terms" (24 : Nat) "SearchHouse$Terms" "sizes" "[B") ∈ lw_all := lw_g (lw_at lw_m2 181 rfl) rfl
theorem q674 : (Jvm.Cond.fieldLinkNest "SearchHouse$Asking" (272 : Nat) "SearchHouse$Terms" "sizes" "[B" "SearchHouse") ∈ lw_tbl := lw_at lw_m2 182 rfl
theorem q675 : (Jvm.Cond.fieldLinkNest "SearchHouse" (495 : Nat) "SearchHouse$Terms" "sizes" "[B" "SearchHouse") ∈ lw_tbl := lw_at lw_m2 183 rfl
theorem q676 : (Jvm.Cond.fieldLink "SearchHouse$Terms" (27 : Nat) "SearchHouse$Terms" "heads" "[I") ∈ lw_all := lw_g (lw_at lw_m2 184 rfl) rfl
theorem q677 : (Jvm.Cond.fieldLinkNest "SearchHouse$World" (93 : Nat) "SearchHouse$Terms" "heads" "[I" "SearchHouse") ∈ lw_tbl := lw_at lw_m2 185 rfl
theorem q678 : (Jvm.Cond.fieldLinkNest "SearchHouse$Asking" (187 : Nat) "SearchHouse$Terms" "heads" "[I" "SearchHouse") ∈ lw_tbl := lw_at lw_m2 186 rfl
theorem q679 : (Jvm.Cond.fieldLinkNest "SearchHouse" (458 : Nat) "SearchHouse$Terms" "heads" "[I" "SearchHouse") ∈ lw_tbl := lw_at lw_m2 187 rfl
theorem q680 : (Jvm.Cond.fieldLink "SearchHouse$Terms" (31 : Nat) "SearchHouse$Terms" "tails" "[I") ∈ lw_all := lw_g (lw_at lw_m2 188 rfl) rfl
theorem q681 : (Jvm.Cond.fieldLinkNest "SearchHouse" (455 : Nat) "SearchHouse$Terms" "tails" "[I" "SearchHouse") ∈ lw_tbl := lw_at lw_m2 189 rfl
theorem q682 : (Jvm.Cond.fieldLink "SearchHouse$Terms" (34 : Nat) "SearchHouse$Terms" "chained" "[I") ∈ lw_all := lw_g (lw_at lw_m2 190 rfl) rfl
theorem q683 : (Jvm.Cond.fieldLink "SearchHouse$Terms" (37 : Nat) "SearchHouse$Terms" "chains" "[I") ∈ lw_all := lw_g (lw_at lw_m2 191 rfl) rfl
theorem q684 : (Jvm.Cond.fieldLinkNest "SearchHouse" (488 : Nat) "SearchHouse$Terms" "chains" "[I" "SearchHouse") ∈ lw_tbl := lw_at lw_m2 192 rfl
theorem q685 : (Jvm.Cond.fieldLink "SearchHouse$Terms" (40 : Nat) "SearchHouse$Terms" "count" "I") ∈ lw_all := lw_g (lw_at lw_m2 193 rfl) rfl
theorem q686 : (Jvm.Cond.fieldLinkNest "SearchHouse$Asking" (161 : Nat) "SearchHouse$Terms" "count" "I" "SearchHouse") ∈ lw_tbl := lw_at lw_m2 194 rfl
theorem q687 : (Jvm.Cond.fieldLinkNest "SearchHouse" (454 : Nat) "SearchHouse$Terms" "count" "I" "SearchHouse") ∈ lw_tbl := lw_at lw_m2 195 rfl
theorem q688 : (Jvm.Cond.fieldLink "SearchHouse$Terms" (3 : Nat) "SearchHouse$Terms" "this$0" "LSearchHouse;") ∈ lw_all := lw_g (lw_at lw_m2 196 rfl) rfl
theorem q689 : (Jvm.Cond.laysFinal "SearchHouse$Terms" "SearchHouse$Terms" "bytes" "[B") ∈ lw_all := lw_g (lw_at lw_m2 197 rfl) rfl
theorem q690 : (Jvm.Cond.soleField "SearchHouse$Terms" "bytes") ∈ lw_all := lw_g (lw_at lw_m2 198 rfl) rfl
theorem q691 : (Jvm.Cond.laysFinal "SearchHouse$Terms" "SearchHouse$Terms" "fields" "[B") ∈ lw_all := lw_g (lw_at lw_m2 199 rfl) rfl
theorem q692 : (Jvm.Cond.soleField "SearchHouse$Terms" "fields") ∈ lw_all := lw_g (lw_at lw_m2 200 rfl) rfl
theorem q693 : (Jvm.Cond.laysFinal "SearchHouse$Terms" "SearchHouse$Terms" "sizes" "[B") ∈ lw_all := lw_g (lw_at lw_m2 201 rfl) rfl
theorem q694 : (Jvm.Cond.soleField "SearchHouse$Terms" "sizes") ∈ lw_all := lw_g (lw_at lw_m2 202 rfl) rfl
theorem q695 : (Jvm.Cond.laysFinal "SearchHouse$Terms" "SearchHouse$Terms" "heads" "[I") ∈ lw_all := lw_g (lw_at lw_m2 203 rfl) rfl
theorem q696 : (Jvm.Cond.soleField "SearchHouse$Terms" "heads") ∈ lw_all := lw_g (lw_at lw_m2 204 rfl) rfl
theorem q697 : (Jvm.Cond.laysFinal "SearchHouse$Terms" "SearchHouse$Terms" "tails" "[I") ∈ lw_all := lw_g (lw_at lw_m2 205 rfl) rfl
theorem q698 : (Jvm.Cond.soleField "SearchHouse$Terms" "tails") ∈ lw_all := lw_g (lw_at lw_m2 206 rfl) rfl
theorem q699 : (Jvm.Cond.laysFinal "SearchHouse$Terms" "SearchHouse$Terms" "chained" "[I") ∈ lw_all := lw_g (lw_at lw_m2 207 rfl) rfl
theorem q700 : (Jvm.Cond.soleField "SearchHouse$Terms" "chained") ∈ lw_all := lw_g (lw_at lw_m2 208 rfl) rfl
theorem q701 : (Jvm.Cond.laysFinal "SearchHouse$Terms" "SearchHouse$Terms" "chains" "[I") ∈ lw_all := lw_g (lw_at lw_m2 209 rfl) rfl
theorem q702 : (Jvm.Cond.soleField "SearchHouse$Terms" "chains") ∈ lw_all := lw_g (lw_at lw_m2 210 rfl) rfl
theorem q703 : (Jvm.Cond.lays "SearchHouse$Terms" "SearchHouse$Terms" "count" "I") ∈ lw_all := lw_g (lw_at lw_m2 211 rfl) rfl
theorem q704 : (Jvm.Cond.soleField "SearchHouse$Terms" "count") ∈ lw_all := lw_g (lw_at lw_m2 212 rfl) rfl
theorem q705 : (Jvm.Cond.laysFinal "SearchHouse$Terms" "SearchHouse$Terms" "this$0" "LSearchHouse;") ∈ lw_all := lw_g (lw_at lw_m2 213 rfl) rfl
theorem q706 : (Jvm.Cond.soleField "SearchHouse$Terms" "this$0") ∈ lw_all := lw_g (lw_at lw_m2 214 rfl) rfl
theorem q707 : (Jvm.Cond.superclass "SearchHouse$Terms" "java/lang/Object") ∈ lw_all := lw_g (lw_at lw_m2 215 rfl) rfl
theorem q708 : (Jvm.Cond.constant "SearchHouse" (172 : Nat) (60000 : Int32)) ∈ lw_all := lw_g (lw_at lw_m2 216 rfl) rfl
theorem q709 : (Jvm.Cond.constant "SearchHouse" (216 : Nat) (36500 : Int32)) ∈ lw_all := lw_g (lw_at lw_m2 217 rfl) rfl
theorem q710 : (Jvm.Cond.classLink "SearchHouse" (220 : Nat) "SearchHouse$User") ∈ lw_all := lw_g (lw_at lw_m2 218 rfl) rfl
theorem q711 : (Jvm.Cond.arrayOver (Jvm.ClassFile.FieldType.object "SearchHouse$User")) ∈ lw_tbl := lw_at lw_m2 219 rfl
theorem q712 : (Jvm.Cond.classLink "SearchHouse" (226 : Nat) "SearchHouse$Question") ∈ lw_all := lw_g (lw_at lw_m2 220 rfl) rfl
theorem q713 : (Jvm.Cond.instantiable "SearchHouse$Question" (17 : Nat)) ∈ lw_all := lw_g (lw_at lw_m2 221 rfl) rfl
theorem q714 : (Jvm.Cond.methodLinkNest "SearchHouse" (228 : Nat) ({ cls := "SearchHouse$Question", name := "<init>", desc := "()V" } : Jvm.MethodName) "SearchHouse") ∈ lw_tbl := lw_at lw_m2 222 rfl
theorem q715 : (Jvm.Cond.instanceMethod ({ cls := "SearchHouse$Question", name := "<init>", desc := "()V" } : Jvm.MethodName)) ∈ lw_all := lw_g (lw_at lw_m2 223 rfl) rfl
theorem q716 : (Jvm.Cond.code ({ cls := "SearchHouse$Question", name := "<init>", desc := "()V" } : Jvm.MethodName) prog_6_method_1_code (1 : Nat) (Option.none : Option Jvm.ClassFile.FieldType)) ∈ lw_all := lw_g (lw_at lw_m2 224 rfl) rfl
theorem q717 : (Jvm.Cond.methodLink "SearchHouse$Question" (1 : Nat) ({ cls := "java/lang/Object", name := "<init>", desc := "()V" } : Jvm.MethodName)) ∈ lw_all := lw_g (lw_at lw_m2 225 rfl) rfl
theorem q718 : (Jvm.Cond.fieldLink "SearchHouse$Question" (7 : Nat) "SearchHouse$Question" "bytes" "[B") ∈ lw_all := lw_g (lw_at lw_m2 226 rfl) rfl
theorem q719 : (Jvm.Cond.fieldLinkNest "SearchHouse$Reader" (31 : Nat) "SearchHouse$Question" "bytes" "[B" "SearchHouse") ∈ lw_tbl := lw_at lw_m2 227 rfl
theorem q720 : (Jvm.Cond.fieldLinkNest "SearchHouse$Asking" (124 : Nat) "SearchHouse$Question" "bytes" "[B" "SearchHouse") ∈ lw_tbl := lw_at lw_m2 228 rfl
theorem q721 : (Jvm.Cond.fieldLinkNest "SearchHouse" (503 : Nat) "SearchHouse$Question" "bytes" "[B" "SearchHouse") ∈ lw_tbl := lw_at lw_m2 229 rfl
theorem q722 : (Jvm.Cond.fieldLink "SearchHouse$Question" (51 : Nat) "SearchHouse$Question" "size" "I") ∈ lw_all := lw_g (lw_at lw_m2 230 rfl) rfl
theorem q723 : (Jvm.Cond.fieldLinkNest "SearchHouse$Reader" (75 : Nat) "SearchHouse$Question" "size" "I" "SearchHouse") ∈ lw_tbl := lw_at lw_m2 231 rfl
theorem q724 : (Jvm.Cond.fieldLinkNest "SearchHouse" (504 : Nat) "SearchHouse$Question" "size" "I" "SearchHouse") ∈ lw_tbl := lw_at lw_m2 232 rfl
theorem q725 : (Jvm.Cond.fieldLink "SearchHouse$Question" (61 : Nat) "SearchHouse$Question" "nodes" "I") ∈ lw_all := lw_g (lw_at lw_m2 233 rfl) rfl
theorem q726 : (Jvm.Cond.fieldLinkNest "SearchHouse$Asking" (90 : Nat) "SearchHouse$Question" "nodes" "I" "SearchHouse") ∈ lw_tbl := lw_at lw_m2 234 rfl
theorem q727 : (Jvm.Cond.fieldLinkNest "SearchHouse$Reader" (49 : Nat) "SearchHouse$Question" "nodes" "I" "SearchHouse") ∈ lw_tbl := lw_at lw_m2 235 rfl
theorem q728 : (Jvm.Cond.fieldLink "SearchHouse$Question" (64 : Nat) "SearchHouse$Question" "ones" "I") ∈ lw_all := lw_g (lw_at lw_m2 236 rfl) rfl
theorem q729 : (Jvm.Cond.fieldLinkNest "SearchHouse$Reader" (78 : Nat) "SearchHouse$Question" "ones" "I" "SearchHouse") ∈ lw_tbl := lw_at lw_m2 237 rfl
theorem q730 : (Jvm.Cond.fieldLinkNest "SearchHouse" (521 : Nat) "SearchHouse$Question" "ones" "I" "SearchHouse") ∈ lw_tbl := lw_at lw_m2 238 rfl
theorem q731 : (Jvm.Cond.fieldLink "SearchHouse$Question" (67 : Nat) "SearchHouse$Question" "root" "I") ∈ lw_all := lw_g (lw_at lw_m2 239 rfl) rfl
theorem q732 : (Jvm.Cond.fieldLinkNest "SearchHouse$Reader" (85 : Nat) "SearchHouse$Question" "root" "I" "SearchHouse") ∈ lw_tbl := lw_at lw_m3 0 rfl
theorem q733 : (Jvm.Cond.fieldLinkNest "SearchHouse" (587 : Nat) "SearchHouse$Question" "root" "I" "SearchHouse") ∈ lw_tbl := lw_at lw_m3 1 rfl
theorem q734 : (Jvm.Cond.fieldLink "SearchHouse$Question" (13 : Nat) "SearchHouse$Question" "kinds" "[I") ∈ lw_all := lw_g (lw_at lw_m3 2 rfl) rfl
theorem q735 : (Jvm.Cond.fieldLinkNest "SearchHouse$Asking" (95 : Nat) "SearchHouse$Question" "kinds" "[I" "SearchHouse") ∈ lw_tbl := lw_at lw_m3 3 rfl
theorem q736 : (Jvm.Cond.fieldLinkNest "SearchHouse$Reader" (52 : Nat) "SearchHouse$Question" "kinds" "[I" "SearchHouse") ∈ lw_tbl := lw_at lw_m3 4 rfl
theorem q737 : (Jvm.Cond.fieldLink "SearchHouse$Question" (17 : Nat) "SearchHouse$Question" "members" "[I") ∈ lw_all := lw_g (lw_at lw_m3 5 rfl) rfl
theorem q738 : (Jvm.Cond.fieldLinkNest "SearchHouse$Reader" (56 : Nat) "SearchHouse$Question" "members" "[I" "SearchHouse") ∈ lw_tbl := lw_at lw_m3 6 rfl
theorem q739 : (Jvm.Cond.fieldLinkNest "SearchHouse$Asking" (370 : Nat) "SearchHouse$Question" "members" "[I" "SearchHouse") ∈ lw_tbl := lw_at lw_m3 7 rfl
theorem q740 : (Jvm.Cond.fieldLink "SearchHouse$Question" (20 : Nat) "SearchHouse$Question" "besides" "[I") ∈ lw_all := lw_g (lw_at lw_m3 8 rfl) rfl
theorem q741 : (Jvm.Cond.fieldLinkNest "SearchHouse$Reader" (59 : Nat) "SearchHouse$Question" "besides" "[I" "SearchHouse") ∈ lw_tbl := lw_at lw_m3 9 rfl
theorem q742 : (Jvm.Cond.fieldLinkNest "SearchHouse$Asking" (388 : Nat) "SearchHouse$Question" "besides" "[I" "SearchHouse") ∈ lw_tbl := lw_at lw_m3 10 rfl
theorem q743 : (Jvm.Cond.fieldLink "SearchHouse$Question" (23 : Nat) "SearchHouse$Question" "signs" "[I") ∈ lw_all := lw_g (lw_at lw_m3 11 rfl) rfl
theorem q744 : (Jvm.Cond.fieldLinkNest "SearchHouse$Reader" (62 : Nat) "SearchHouse$Question" "signs" "[I" "SearchHouse") ∈ lw_tbl := lw_at lw_m3 12 rfl
theorem q745 : (Jvm.Cond.fieldLinkNest "SearchHouse$Asking" (392 : Nat) "SearchHouse$Question" "signs" "[I" "SearchHouse") ∈ lw_tbl := lw_at lw_m3 13 rfl
theorem q746 : (Jvm.Cond.fieldLink "SearchHouse$Question" (26 : Nat) "SearchHouse$Question" "boosts" "[J") ∈ lw_all := lw_g (lw_at lw_m3 14 rfl) rfl
theorem q747 : (Jvm.Cond.fieldLinkNest "SearchHouse$Reader" (65 : Nat) "SearchHouse$Question" "boosts" "[J" "SearchHouse") ∈ lw_tbl := lw_at lw_m3 15 rfl
theorem q748 : (Jvm.Cond.fieldLinkNest "SearchHouse$Asking" (358 : Nat) "SearchHouse$Question" "boosts" "[J" "SearchHouse") ∈ lw_tbl := lw_at lw_m3 16 rfl
theorem q749 : (Jvm.Cond.fieldLink "SearchHouse$Question" (30 : Nat) "SearchHouse$Question" "fields" "[I") ∈ lw_all := lw_g (lw_at lw_m3 17 rfl) rfl
theorem q750 : (Jvm.Cond.fieldLinkNest "SearchHouse$Asking" (105 : Nat) "SearchHouse$Question" "fields" "[I" "SearchHouse") ∈ lw_tbl := lw_at lw_m3 18 rfl
theorem q751 : (Jvm.Cond.fieldLinkNest "SearchHouse$Reader" (69 : Nat) "SearchHouse$Question" "fields" "[I" "SearchHouse") ∈ lw_tbl := lw_at lw_m3 19 rfl
theorem q752 : (Jvm.Cond.fieldLink "SearchHouse$Question" (33 : Nat) "SearchHouse$Question" "froms" "[I") ∈ lw_all := lw_g (lw_at lw_m3 20 rfl) rfl
theorem q753 : (Jvm.Cond.fieldLinkNest "SearchHouse$Asking" (127 : Nat) "SearchHouse$Question" "froms" "[I" "SearchHouse") ∈ lw_tbl := lw_at lw_m3 21 rfl
theorem q754 : (Jvm.Cond.fieldLinkNest "SearchHouse$Reader" (149 : Nat) "SearchHouse$Question" "froms" "[I" "SearchHouse") ∈ lw_tbl := lw_at lw_m3 22 rfl
theorem q755 : (Jvm.Cond.fieldLink "SearchHouse$Question" (36 : Nat) "SearchHouse$Question" "tos" "[I") ∈ lw_all := lw_g (lw_at lw_m3 23 rfl) rfl
theorem q756 : (Jvm.Cond.fieldLinkNest "SearchHouse$Asking" (130 : Nat) "SearchHouse$Question" "tos" "[I" "SearchHouse") ∈ lw_tbl := lw_at lw_m3 24 rfl
theorem q757 : (Jvm.Cond.fieldLinkNest "SearchHouse$Reader" (152 : Nat) "SearchHouse$Question" "tos" "[I" "SearchHouse") ∈ lw_tbl := lw_at lw_m3 25 rfl
theorem q758 : (Jvm.Cond.fieldLink "SearchHouse$Question" (39 : Nat) "SearchHouse$Question" "numbers" "[I") ∈ lw_all := lw_g (lw_at lw_m3 26 rfl) rfl
theorem q759 : (Jvm.Cond.fieldLinkNest "SearchHouse$Reader" (72 : Nat) "SearchHouse$Question" "numbers" "[I" "SearchHouse") ∈ lw_tbl := lw_at lw_m3 27 rfl
theorem q760 : (Jvm.Cond.fieldLinkNest "SearchHouse$Asking" (265 : Nat) "SearchHouse$Question" "numbers" "[I" "SearchHouse") ∈ lw_tbl := lw_at lw_m3 28 rfl
theorem q761 : (Jvm.Cond.fieldLink "SearchHouse$Question" (42 : Nat) "SearchHouse$Question" "lows" "[J") ∈ lw_all := lw_g (lw_at lw_m3 29 rfl) rfl
theorem q762 : (Jvm.Cond.fieldLinkNest "SearchHouse$Asking" (235 : Nat) "SearchHouse$Question" "lows" "[J" "SearchHouse") ∈ lw_tbl := lw_at lw_m3 30 rfl
theorem q763 : (Jvm.Cond.fieldLinkNest "SearchHouse$Reader" (159 : Nat) "SearchHouse$Question" "lows" "[J" "SearchHouse") ∈ lw_tbl := lw_at lw_m3 31 rfl
theorem q764 : (Jvm.Cond.fieldLink "SearchHouse$Question" (45 : Nat) "SearchHouse$Question" "highs" "[J") ∈ lw_all := lw_g (lw_at lw_m3 32 rfl) rfl
theorem q765 : (Jvm.Cond.fieldLinkNest "SearchHouse$Asking" (238 : Nat) "SearchHouse$Question" "highs" "[J" "SearchHouse") ∈ lw_tbl := lw_at lw_m3 33 rfl
theorem q766 : (Jvm.Cond.fieldLinkNest "SearchHouse$Reader" (170 : Nat) "SearchHouse$Question" "highs" "[J" "SearchHouse") ∈ lw_tbl := lw_at lw_m3 34 rfl
theorem q767 : (Jvm.Cond.fieldLink "SearchHouse$Question" (48 : Nat) "SearchHouse$Question" "radii" "[J") ∈ lw_all := lw_g (lw_at lw_m3 35 rfl) rfl
theorem q768 : (Jvm.Cond.fieldLinkNest "SearchHouse$Asking" (241 : Nat) "SearchHouse$Question" "radii" "[J" "SearchHouse") ∈ lw_tbl := lw_at lw_m3 36 rfl
theorem q769 : (Jvm.Cond.fieldLinkNest "SearchHouse$Reader" (175 : Nat) "SearchHouse$Question" "radii" "[J" "SearchHouse") ∈ lw_tbl := lw_at lw_m3 37 rfl
theorem q770 : (Jvm.Cond.laysFinal "SearchHouse$Question" "SearchHouse$Question" "bytes" "[B") ∈ lw_all := lw_g (lw_at lw_m3 38 rfl) rfl
theorem q771 : (Jvm.Cond.soleField "SearchHouse$Question" "bytes") ∈ lw_all := lw_g (lw_at lw_m3 39 rfl) rfl
theorem q772 : (Jvm.Cond.lays "SearchHouse$Question" "SearchHouse$Question" "size" "I") ∈ lw_all := lw_g (lw_at lw_m3 40 rfl) rfl
theorem q773 : (Jvm.Cond.soleField "SearchHouse$Question" "size") ∈ lw_all := lw_g (lw_at lw_m3 41 rfl) rfl
theorem q774 : (Jvm.Cond.lays "SearchHouse$Question" "SearchHouse$Question" "nodes" "I") ∈ lw_all := lw_g (lw_at lw_m3 42 rfl) rfl
theorem q775 : (Jvm.Cond.soleField "SearchHouse$Question" "nodes") ∈ lw_all := lw_g (lw_at lw_m3 43 rfl) rfl
theorem q776 : (Jvm.Cond.lays "SearchHouse$Question" "SearchHouse$Question" "ones" "I") ∈ lw_all := lw_g (lw_at lw_m3 44 rfl) rfl
theorem q777 : (Jvm.Cond.soleField "SearchHouse$Question" "ones") ∈ lw_all := lw_g (lw_at lw_m3 45 rfl) rfl
theorem q778 : (Jvm.Cond.lays "SearchHouse$Question" "SearchHouse$Question" "root" "I") ∈ lw_all := lw_g (lw_at lw_m3 46 rfl) rfl
theorem q779 : (Jvm.Cond.soleField "SearchHouse$Question" "root") ∈ lw_all := lw_g (lw_at lw_m3 47 rfl) rfl
theorem q780 : (Jvm.Cond.laysFinal "SearchHouse$Question" "SearchHouse$Question" "kinds" "[I") ∈ lw_all := lw_g (lw_at lw_m3 48 rfl) rfl
theorem q781 : (Jvm.Cond.soleField "SearchHouse$Question" "kinds") ∈ lw_all := lw_g (lw_at lw_m3 49 rfl) rfl
theorem q782 : (Jvm.Cond.laysFinal "SearchHouse$Question" "SearchHouse$Question" "members" "[I") ∈ lw_all := lw_g (lw_at lw_m3 50 rfl) rfl
theorem q783 : (Jvm.Cond.soleField "SearchHouse$Question" "members") ∈ lw_all := lw_g (lw_at lw_m3 51 rfl) rfl
theorem q784 : (Jvm.Cond.laysFinal "SearchHouse$Question" "SearchHouse$Question" "besides" "[I") ∈ lw_all := lw_g (lw_at lw_m3 52 rfl) rfl
theorem q785 : (Jvm.Cond.soleField "SearchHouse$Question" "besides") ∈ lw_all := lw_g (lw_at lw_m3 53 rfl) rfl
theorem q786 : (Jvm.Cond.laysFinal "SearchHouse$Question" "SearchHouse$Question" "signs" "[I") ∈ lw_all := lw_g (lw_at lw_m3 54 rfl) rfl
theorem q787 : (Jvm.Cond.soleField "SearchHouse$Question" "signs") ∈ lw_all := lw_g (lw_at lw_m3 55 rfl) rfl
theorem q788 : (Jvm.Cond.laysFinal "SearchHouse$Question" "SearchHouse$Question" "boosts" "[J") ∈ lw_all := lw_g (lw_at lw_m3 56 rfl) rfl
theorem q789 : (Jvm.Cond.soleField "SearchHouse$Question" "boosts") ∈ lw_all := lw_g (lw_at lw_m3 57 rfl) rfl
theorem q790 : (Jvm.Cond.laysFinal "SearchHouse$Question" "SearchHouse$Question" "fields" "[I") ∈ lw_all := lw_g (lw_at lw_m3 58 rfl) rfl
theorem q791 : (Jvm.Cond.soleField "SearchHouse$Question" "fields") ∈ lw_all := lw_g (lw_at lw_m3 59 rfl) rfl
theorem q792 : (Jvm.Cond.laysFinal "SearchHouse$Question" "SearchHouse$Question" "froms" "[I") ∈ lw_all := lw_g (lw_at lw_m3 60 rfl) rfl
theorem q793 : (Jvm.Cond.soleField "SearchHouse$Question" "froms") ∈ lw_all := lw_g (lw_at lw_m3 61 rfl) rfl
theorem q794 : (Jvm.Cond.laysFinal "SearchHouse$Question" "SearchHouse$Question" "tos" "[I") ∈ lw_all := lw_g (lw_at lw_m3 62 rfl) rfl
theorem q795 : (Jvm.Cond.soleField "SearchHouse$Question" "tos") ∈ lw_all := lw_g (lw_at lw_m3 63 rfl) rfl
theorem q796 : (Jvm.Cond.laysFinal "SearchHouse$Question" "SearchHouse$Question" "numbers" "[I") ∈ lw_all := lw_g (lw_at lw_m3 64 rfl) rfl
theorem q797 : (Jvm.Cond.soleField "SearchHouse$Question" "numbers") ∈ lw_all := lw_g (lw_at lw_m3 65 rfl) rfl
theorem q798 : (Jvm.Cond.laysFinal "SearchHouse$Question" "SearchHouse$Question" "lows" "[J") ∈ lw_all := lw_g (lw_at lw_m3 66 rfl) rfl
theorem q799 : (Jvm.Cond.soleField "SearchHouse$Question" "lows") ∈ lw_all := lw_g (lw_at lw_m3 67 rfl) rfl
theorem q800 : (Jvm.Cond.laysFinal "SearchHouse$Question" "SearchHouse$Question" "highs" "[J") ∈ lw_all := lw_g (lw_at lw_m3 68 rfl) rfl
theorem q801 : (Jvm.Cond.soleField "SearchHouse$Question" "highs") ∈ lw_all := lw_g (lw_at lw_m3 69 rfl) rfl
theorem q802 : (Jvm.Cond.laysFinal "SearchHouse$Question" "SearchHouse$Question" "radii" "[J") ∈ lw_all := lw_g (lw_at lw_m3 70 rfl) rfl
theorem q803 : (Jvm.Cond.soleField "SearchHouse$Question" "radii") ∈ lw_all := lw_g (lw_at lw_m3 71 rfl) rfl
theorem q804 : (Jvm.Cond.superclass "SearchHouse$Question" "java/lang/Object") ∈ lw_all := lw_g (lw_at lw_m3 72 rfl) rfl
theorem q805 : (Jvm.Cond.arrayClass Jvm.ClassFile.FieldType.short) ∈ lw_all := lw_g (lw_at lw_m3 73 rfl) rfl
theorem q806 : (Jvm.Cond.arrayClass Jvm.ClassFile.FieldType.long) ∈ lw_all := lw_g (lw_at lw_m3 74 rfl) rfl
theorem q807 : (Jvm.Cond.arrayClass Jvm.ClassFile.FieldType.boolean) ∈ lw_all := lw_g (lw_at lw_m3 75 rfl) rfl
theorem q808 : (Jvm.Cond.arrayOver (Jvm.ClassFile.FieldType.object "SearchHouse$Question")) ∈ lw_tbl := lw_at lw_m3 76 rfl
theorem q809 : (Jvm.Cond.classLink "SearchHouse" (240 : Nat) "SearchHouse$Reader") ∈ lw_all := lw_g (lw_at lw_m3 77 rfl) rfl
theorem q810 : (Jvm.Cond.instantiable "SearchHouse$Reader" (4 : Nat)) ∈ lw_all := lw_g (lw_at lw_m3 78 rfl) rfl
theorem q811 : (Jvm.Cond.methodLinkNest "SearchHouse" (242 : Nat) ({ cls := "SearchHouse$Reader", name := "<init>", desc := "(LSearchHouse;)V" } : Jvm.MethodName) "SearchHouse") ∈ lw_tbl := lw_at lw_m3 79 rfl
theorem q812 : (Jvm.Cond.instanceMethod ({ cls := "SearchHouse$Reader", name := "<init>", desc := "(LSearchHouse;)V" } : Jvm.MethodName)) ∈ lw_all := lw_g (lw_at lw_m3 80 rfl) rfl
theorem q813 : (Jvm.Cond.code ({ cls := "SearchHouse$Reader", name := "<init>", desc := "(LSearchHouse;)V" } : Jvm.MethodName) prog_7_method_1_code (2 : Nat) (Option.none : Option Jvm.ClassFile.FieldType)) ∈ lw_all := lw_g (lw_at lw_m3 81 rfl) rfl
theorem q814 : (Jvm.Cond.methodLink "SearchHouse$Reader" (9 : Nat) ({ cls := "java/lang/Object", name := "<init>", desc := "()V" } : Jvm.MethodName)) ∈ lw_all := lw_g (lw_at lw_m3 82 rfl) rfl
theorem q815 : (Jvm.Cond.fieldLink "SearchHouse$Reader" (27 : Nat) "SearchHouse$Reader" "q" "LSearchHouse$Question;") ∈ lw_all := lw_g (lw_at lw_m3 83 rfl) rfl
theorem q816 : (Jvm.Cond.fieldLink "SearchHouse$Reader" (20 : Nat) "SearchHouse$Reader" "at" "I") ∈ lw_all := lw_g (lw_at lw_m3 84 rfl) rfl
theorem q817 : (Jvm.Cond.fieldLink "SearchHouse$Reader" (24 : Nat) "SearchHouse$Reader" "end" "I") ∈ lw_all := lw_g (lw_at lw_m3 85 rfl) rfl
theorem q818 : (Jvm.Cond.fieldLink "SearchHouse$Reader" (3 : Nat) "SearchHouse$Reader" "this$0" "LSearchHouse;") ∈ lw_all := lw_g (lw_at lw_m3 86 rfl) rfl
theorem q819 : (Jvm.Cond.lays "SearchHouse$Reader" "SearchHouse$Reader" "q" "LSearchHouse$Question;") ∈ lw_all := lw_g (lw_at lw_m3 87 rfl) rfl
theorem q820 : (Jvm.Cond.soleField "SearchHouse$Reader" "q") ∈ lw_all := lw_g (lw_at lw_m3 88 rfl) rfl
theorem q821 : (Jvm.Cond.lays "SearchHouse$Reader" "SearchHouse$Reader" "at" "I") ∈ lw_all := lw_g (lw_at lw_m3 89 rfl) rfl
theorem q822 : (Jvm.Cond.soleField "SearchHouse$Reader" "at") ∈ lw_all := lw_g (lw_at lw_m3 90 rfl) rfl
theorem q823 : (Jvm.Cond.lays "SearchHouse$Reader" "SearchHouse$Reader" "end" "I") ∈ lw_all := lw_g (lw_at lw_m3 91 rfl) rfl
theorem q824 : (Jvm.Cond.soleField "SearchHouse$Reader" "end") ∈ lw_all := lw_g (lw_at lw_m3 92 rfl) rfl
theorem q825 : (Jvm.Cond.laysFinal "SearchHouse$Reader" "SearchHouse$Reader" "this$0" "LSearchHouse;") ∈ lw_all := lw_g (lw_at lw_m3 93 rfl) rfl
theorem q826 : (Jvm.Cond.soleField "SearchHouse$Reader" "this$0") ∈ lw_all := lw_g (lw_at lw_m3 94 rfl) rfl
theorem q827 : (Jvm.Cond.superclass "SearchHouse$Reader" "java/lang/Object") ∈ lw_all := lw_g (lw_at lw_m3 95 rfl) rfl
theorem q828 : (Jvm.Cond.classLink "SearchHouse" (265 : Nat) "SearchHouse$Asking") ∈ lw_all := lw_g (lw_at lw_m3 96 rfl) rfl
theorem q829 : (Jvm.Cond.instantiable "SearchHouse$Asking" (21 : Nat)) ∈ lw_all := lw_g (lw_at lw_m3 97 rfl) rfl
theorem q830 : (Jvm.Cond.methodLinkNest "SearchHouse" (267 : Nat) ({ cls := "SearchHouse$Asking", name := "<init>", desc := "(LSearchHouse;)V" } : Jvm.MethodName) "SearchHouse") ∈ lw_tbl := lw_at lw_m3 98 rfl
theorem q831 : (Jvm.Cond.instanceMethod ({ cls := "SearchHouse$Asking", name := "<init>", desc := "(LSearchHouse;)V" } : Jvm.MethodName)) ∈ lw_all := lw_g (lw_at lw_m3 99 rfl) rfl
theorem q832 : (Jvm.Cond.code ({ cls := "SearchHouse$Asking", name := "<init>", desc := "(LSearchHouse;)V" } : Jvm.MethodName) prog_3_method_1_code (2 : Nat) (Option.none : Option Jvm.ClassFile.FieldType)) ∈ lw_all := lw_g (lw_at lw_m3 100 rfl) rfl
theorem q833 : (Jvm.Cond.methodLink "SearchHouse$Asking" (9 : Nat) ({ cls := "java/lang/Object", name := "<init>", desc := "()V" } : Jvm.MethodName)) ∈ lw_all := lw_g (lw_at lw_m3 101 rfl) rfl
theorem q834 : (Jvm.Cond.classLink "SearchHouse$Asking" (15 : Nat) "SearchHouse$Question") ∈ lw_all := lw_g (lw_at lw_m3 102 rfl) rfl
theorem q835 : (Jvm.Cond.methodLinkNest "SearchHouse$Asking" (17 : Nat) ({ cls := "SearchHouse$Question", name := "<init>", desc := "()V" } : Jvm.MethodName) "SearchHouse") ∈ lw_tbl := lw_at lw_m3 103 rfl
theorem q836 : (Jvm.Cond.classLink "SearchHouse$Asking" (22 : Nat) "SearchHouse$World") ∈ lw_all := lw_g (lw_at lw_m3 104 rfl) rfl
theorem q837 : (Jvm.Cond.instantiable "SearchHouse$World" (10 : Nat)) ∈ lw_all := lw_g (lw_at lw_m3 105 rfl) rfl
theorem q838 : (Jvm.Cond.methodLinkNest "SearchHouse$Asking" (24 : Nat) ({ cls := "SearchHouse$World", name := "<init>", desc := "(LSearchHouse;)V" } : Jvm.MethodName) "SearchHouse") ∈ lw_tbl := lw_at lw_m3 106 rfl
theorem q839 : (Jvm.Cond.instanceMethod ({ cls := "SearchHouse$World", name := "<init>", desc := "(LSearchHouse;)V" } : Jvm.MethodName)) ∈ lw_all := lw_g (lw_at lw_m3 107 rfl) rfl
theorem q840 : (Jvm.Cond.code ({ cls := "SearchHouse$World", name := "<init>", desc := "(LSearchHouse;)V" } : Jvm.MethodName) prog_12_method_1_code (2 : Nat) (Option.none : Option Jvm.ClassFile.FieldType)) ∈ lw_all := lw_g (lw_at lw_m3 108 rfl) rfl
theorem q841 : (Jvm.Cond.methodLink "SearchHouse$World" (9 : Nat) ({ cls := "java/lang/Object", name := "<init>", desc := "()V" } : Jvm.MethodName)) ∈ lw_all := lw_g (lw_at lw_m3 109 rfl) rfl
theorem q842 : (Jvm.Cond.fieldLink "SearchHouse$World" (15 : Nat) "SearchHouse$World" "seen" "[Z") ∈ lw_all := lw_g (lw_at lw_m3 110 rfl) rfl
theorem q843 : (Jvm.Cond.fieldLinkNest "SearchHouse$Asking" (154 : Nat) "SearchHouse$World" "seen" "[Z" "SearchHouse") ∈ lw_tbl := lw_at lw_m3 111 rfl
theorem q844 : (Jvm.Cond.fieldLinkNest "SearchHouse" (584 : Nat) "SearchHouse$World" "seen" "[Z" "SearchHouse") ∈ lw_tbl := lw_at lw_m3 112 rfl
theorem q845 : (Jvm.Cond.fieldLink "SearchHouse$World" (32 : Nat) "SearchHouse$World" "blind" "I") ∈ lw_all := lw_g (lw_at lw_m3 113 rfl) rfl
theorem q846 : (Jvm.Cond.fieldLinkNest "SearchHouse" (597 : Nat) "SearchHouse$World" "blind" "I" "SearchHouse") ∈ lw_tbl := lw_at lw_m3 114 rfl
theorem q847 : (Jvm.Cond.fieldLink "SearchHouse$World" (19 : Nat) "SearchHouse$World" "having" "[I") ∈ lw_all := lw_g (lw_at lw_m3 115 rfl) rfl
theorem q848 : (Jvm.Cond.fieldLinkNest "SearchHouse$Asking" (170 : Nat) "SearchHouse$World" "having" "[I" "SearchHouse") ∈ lw_tbl := lw_at lw_m3 116 rfl
theorem q849 : (Jvm.Cond.fieldLink "SearchHouse$World" (23 : Nat) "SearchHouse$World" "tokens" "[I") ∈ lw_all := lw_g (lw_at lw_m3 117 rfl) rfl
theorem q850 : (Jvm.Cond.fieldLinkNest "SearchHouse$Asking" (338 : Nat) "SearchHouse$World" "tokens" "[I" "SearchHouse") ∈ lw_tbl := lw_at lw_m3 118 rfl
theorem q851 : (Jvm.Cond.fieldLink "SearchHouse$World" (26 : Nat) "SearchHouse$World" "children" "[I") ∈ lw_all := lw_g (lw_at lw_m3 119 rfl) rfl
theorem q852 : (Jvm.Cond.fieldLinkNest "SearchHouse$Asking" (367 : Nat) "SearchHouse$World" "children" "[I" "SearchHouse") ∈ lw_tbl := lw_at lw_m3 120 rfl
theorem q853 : (Jvm.Cond.fieldLink "SearchHouse$World" (29 : Nat) "SearchHouse$World" "besides" "[I") ∈ lw_all := lw_g (lw_at lw_m3 121 rfl) rfl
theorem q854 : (Jvm.Cond.fieldLinkNest "SearchHouse$Asking" (376 : Nat) "SearchHouse$World" "besides" "[I" "SearchHouse") ∈ lw_tbl := lw_at lw_m3 122 rfl
theorem q855 : (Jvm.Cond.fieldLink "SearchHouse$World" (36 : Nat) "SearchHouse$World" "first" "I") ∈ lw_all := lw_g (lw_at lw_m3 123 rfl) rfl
theorem q856 : (Jvm.Cond.fieldLinkNest "SearchHouse$Asking" (151 : Nat) "SearchHouse$World" "first" "I" "SearchHouse") ∈ lw_tbl := lw_at lw_m3 124 rfl
theorem q857 : (Jvm.Cond.fieldLink "SearchHouse$World" (42 : Nat) "SearchHouse$World" "end" "I") ∈ lw_all := lw_g (lw_at lw_m3 125 rfl) rfl
theorem q858 : (Jvm.Cond.fieldLinkNest "SearchHouse$Asking" (98 : Nat) "SearchHouse$World" "end" "I" "SearchHouse") ∈ lw_tbl := lw_at lw_m3 126 rfl
theorem q859 : (Jvm.Cond.fieldLink "SearchHouse$World" (45 : Nat) "SearchHouse$World" "alone" "Z") ∈ lw_all := lw_g (lw_at lw_m3 127 rfl) rfl
theorem q860 : (Jvm.Cond.fieldLinkNest "SearchHouse$Asking" (177 : Nat) "SearchHouse$World" "alone" "Z" "SearchHouse") ∈ lw_tbl := lw_at lw_m3 128 rfl
theorem q861 : (Jvm.Cond.fieldLink "SearchHouse$World" (3 : Nat) "SearchHouse$World" "this$0" "LSearchHouse;") ∈ lw_all := lw_g (lw_at lw_m3 129 rfl) rfl
theorem q862 : (Jvm.Cond.laysFinal "SearchHouse$World" "SearchHouse$World" "seen" "[Z") ∈ lw_all := lw_g (lw_at lw_m3 130 rfl) rfl
theorem q863 : (Jvm.Cond.soleField "SearchHouse$World" "seen") ∈ lw_all := lw_g (lw_at lw_m3 131 rfl) rfl
theorem q864 : (Jvm.Cond.lays "SearchHouse$World" "SearchHouse$World" "blind" "I") ∈ lw_all := lw_g (lw_at lw_m3 132 rfl) rfl
theorem q865 : (Jvm.Cond.soleField "SearchHouse$World" "blind") ∈ lw_all := lw_g (lw_at lw_m3 133 rfl) rfl
theorem q866 : (Jvm.Cond.laysFinal "SearchHouse$World" "SearchHouse$World" "having" "[I") ∈ lw_all := lw_g (lw_at lw_m3 134 rfl) rfl
theorem q867 : (Jvm.Cond.soleField "SearchHouse$World" "having") ∈ lw_all := lw_g (lw_at lw_m3 135 rfl) rfl
theorem q868 : (Jvm.Cond.laysFinal "SearchHouse$World" "SearchHouse$World" "tokens" "[I") ∈ lw_all := lw_g (lw_at lw_m3 136 rfl) rfl
theorem q869 : (Jvm.Cond.soleField "SearchHouse$World" "tokens") ∈ lw_all := lw_g (lw_at lw_m3 137 rfl) rfl
theorem q870 : (Jvm.Cond.laysFinal "SearchHouse$World" "SearchHouse$World" "children" "[I") ∈ lw_all := lw_g (lw_at lw_m3 138 rfl) rfl
theorem q871 : (Jvm.Cond.soleField "SearchHouse$World" "children") ∈ lw_all := lw_g (lw_at lw_m3 139 rfl) rfl
theorem q872 : (Jvm.Cond.laysFinal "SearchHouse$World" "SearchHouse$World" "besides" "[I") ∈ lw_all := lw_g (lw_at lw_m3 140 rfl) rfl
theorem q873 : (Jvm.Cond.soleField "SearchHouse$World" "besides") ∈ lw_all := lw_g (lw_at lw_m3 141 rfl) rfl
theorem q874 : (Jvm.Cond.lays "SearchHouse$World" "SearchHouse$World" "first" "I") ∈ lw_all := lw_g (lw_at lw_m3 142 rfl) rfl
theorem q875 : (Jvm.Cond.soleField "SearchHouse$World" "first") ∈ lw_all := lw_g (lw_at lw_m3 143 rfl) rfl
theorem q876 : (Jvm.Cond.lays "SearchHouse$World" "SearchHouse$World" "end" "I") ∈ lw_all := lw_g (lw_at lw_m3 144 rfl) rfl
theorem q877 : (Jvm.Cond.soleField "SearchHouse$World" "end") ∈ lw_all := lw_g (lw_at lw_m3 145 rfl) rfl
theorem q878 : (Jvm.Cond.lays "SearchHouse$World" "SearchHouse$World" "alone" "Z") ∈ lw_all := lw_g (lw_at lw_m3 146 rfl) rfl
theorem q879 : (Jvm.Cond.soleField "SearchHouse$World" "alone") ∈ lw_all := lw_g (lw_at lw_m3 147 rfl) rfl
theorem q880 : (Jvm.Cond.laysFinal "SearchHouse$World" "SearchHouse$World" "this$0" "LSearchHouse;") ∈ lw_all := lw_g (lw_at lw_m3 148 rfl) rfl
theorem q881 : (Jvm.Cond.soleField "SearchHouse$World" "this$0") ∈ lw_all := lw_g (lw_at lw_m3 149 rfl) rfl
theorem q882 : (Jvm.Cond.superclass "SearchHouse$World" "java/lang/Object") ∈ lw_all := lw_g (lw_at lw_m3 150 rfl) rfl
theorem q883 : (Jvm.Cond.constant "SearchHouse$Asking" (39 : Nat) (36060 : Int32)) ∈ lw_all := lw_g (lw_at lw_m3 151 rfl) rfl
theorem q884 : (Jvm.Cond.constant "SearchHouse$Asking" (59 : Nat) (72120 : Int32)) ∈ lw_all := lw_g (lw_at lw_m3 152 rfl) rfl
theorem q885 : (Jvm.Cond.fieldLink "SearchHouse$Asking" (18 : Nat) "SearchHouse$Asking" "q" "LSearchHouse$Question;") ∈ lw_all := lw_g (lw_at lw_m3 153 rfl) rfl
theorem q886 : (Jvm.Cond.fieldLinkNest "SearchHouse" (577 : Nat) "SearchHouse$Asking" "q" "LSearchHouse$Question;" "SearchHouse") ∈ lw_tbl := lw_at lw_m3 154 rfl
theorem q887 : (Jvm.Cond.fieldLink "SearchHouse$Asking" (27 : Nat) "SearchHouse$Asking" "world" "LSearchHouse$World;") ∈ lw_all := lw_g (lw_at lw_m3 155 rfl) rfl
theorem q888 : (Jvm.Cond.fieldLinkNest "SearchHouse" (568 : Nat) "SearchHouse$Asking" "world" "LSearchHouse$World;" "SearchHouse") ∈ lw_tbl := lw_at lw_m3 156 rfl
theorem q889 : (Jvm.Cond.fieldLink "SearchHouse$Asking" (325 : Nat) "SearchHouse$Asking" "formula" "I") ∈ lw_all := lw_g (lw_at lw_m3 157 rfl) rfl
theorem q890 : (Jvm.Cond.fieldLinkNest "SearchHouse" (580 : Nat) "SearchHouse$Asking" "formula" "I" "SearchHouse") ∈ lw_tbl := lw_at lw_m3 158 rfl
theorem q891 : (Jvm.Cond.fieldLink "SearchHouse$Asking" (31 : Nat) "SearchHouse$Asking" "rows" "[I") ∈ lw_all := lw_g (lw_at lw_m3 159 rfl) rfl
theorem q892 : (Jvm.Cond.fieldLink "SearchHouse$Asking" (35 : Nat) "SearchHouse$Asking" "sums" "[J") ∈ lw_all := lw_g (lw_at lw_m3 160 rfl) rfl
theorem q893 : (Jvm.Cond.fieldLink "SearchHouse$Asking" (40 : Nat) "SearchHouse$Asking" "found" "[S") ∈ lw_all := lw_g (lw_at lw_m3 161 rfl) rfl
theorem q894 : (Jvm.Cond.fieldLink "SearchHouse$Asking" (80 : Nat) "SearchHouse$Asking" "rowCount" "I") ∈ lw_all := lw_g (lw_at lw_m3 162 rfl) rfl
theorem q895 : (Jvm.Cond.fieldLink "SearchHouse$Asking" (44 : Nat) "SearchHouse$Asking" "firstPlaces" "[I") ∈ lw_all := lw_g (lw_at lw_m3 163 rfl) rfl
theorem q896 : (Jvm.Cond.fieldLink "SearchHouse$Asking" (47 : Nat) "SearchHouse$Asking" "placeCounts" "[I") ∈ lw_all := lw_g (lw_at lw_m3 164 rfl) rfl
theorem q897 : (Jvm.Cond.fieldLink "SearchHouse$Asking" (50 : Nat) "SearchHouse$Asking" "positions" "[I") ∈ lw_all := lw_g (lw_at lw_m3 165 rfl) rfl
theorem q898 : (Jvm.Cond.fieldLink "SearchHouse$Asking" (53 : Nat) "SearchHouse$Asking" "firstTerms" "[I") ∈ lw_all := lw_g (lw_at lw_m3 166 rfl) rfl
theorem q899 : (Jvm.Cond.fieldLink "SearchHouse$Asking" (56 : Nat) "SearchHouse$Asking" "places" "[I") ∈ lw_all := lw_g (lw_at lw_m3 167 rfl) rfl
theorem q900 : (Jvm.Cond.fieldLink "SearchHouse$Asking" (84 : Nat) "SearchHouse$Asking" "placeCount" "I") ∈ lw_all := lw_g (lw_at lw_m3 168 rfl) rfl
theorem q901 : (Jvm.Cond.fieldLink "SearchHouse$Asking" (87 : Nat) "SearchHouse$Asking" "termCount" "I") ∈ lw_all := lw_g (lw_at lw_m3 169 rfl) rfl
theorem q902 : (Jvm.Cond.fieldLink "SearchHouse$Asking" (60 : Nat) "SearchHouse$Asking" "known" "[J") ∈ lw_all := lw_g (lw_at lw_m3 170 rfl) rfl
theorem q903 : (Jvm.Cond.fieldLink "SearchHouse$Asking" (63 : Nat) "SearchHouse$Asking" "pattern" "[B") ∈ lw_all := lw_g (lw_at lw_m3 171 rfl) rfl
theorem q904 : (Jvm.Cond.fieldLink "SearchHouse$Asking" (244 : Nat) "SearchHouse$Asking" "patternSize" "I") ∈ lw_all := lw_g (lw_at lw_m3 172 rfl) rfl
theorem q905 : (Jvm.Cond.fieldLink "SearchHouse$Asking" (67 : Nat) "SearchHouse$Asking" "at" "[J") ∈ lw_all := lw_g (lw_at lw_m3 173 rfl) rfl
theorem q906 : (Jvm.Cond.fieldLink "SearchHouse$Asking" (70 : Nat) "SearchHouse$Asking" "owners" "[I") ∈ lw_all := lw_g (lw_at lw_m3 174 rfl) rfl
theorem q907 : (Jvm.Cond.fieldLink "SearchHouse$Asking" (73 : Nat) "SearchHouse$Asking" "tried" "[Z") ∈ lw_all := lw_g (lw_at lw_m3 175 rfl) rfl
theorem q908 : (Jvm.Cond.fieldLink "SearchHouse$Asking" (3 : Nat) "SearchHouse$Asking" "this$0" "LSearchHouse;") ∈ lw_all := lw_g (lw_at lw_m3 176 rfl) rfl
theorem q909 : (Jvm.Cond.laysFinal "SearchHouse$Asking" "SearchHouse$Asking" "q" "LSearchHouse$Question;") ∈ lw_all := lw_g (lw_at lw_m3 177 rfl) rfl
theorem q910 : (Jvm.Cond.soleField "SearchHouse$Asking" "q") ∈ lw_all := lw_g (lw_at lw_m3 178 rfl) rfl
theorem q911 : (Jvm.Cond.laysFinal "SearchHouse$Asking" "SearchHouse$Asking" "world" "LSearchHouse$World;") ∈ lw_all := lw_g (lw_at lw_m3 179 rfl) rfl
theorem q912 : (Jvm.Cond.soleField "SearchHouse$Asking" "world") ∈ lw_all := lw_g (lw_at lw_m3 180 rfl) rfl
theorem q913 : (Jvm.Cond.lays "SearchHouse$Asking" "SearchHouse$Asking" "formula" "I") ∈ lw_all := lw_g (lw_at lw_m3 181 rfl) rfl
theorem q914 : (Jvm.Cond.soleField "SearchHouse$Asking" "formula") ∈ lw_all := lw_g (lw_at lw_m3 182 rfl) rfl
theorem q915 : (Jvm.Cond.laysFinal "SearchHouse$Asking" "SearchHouse$Asking" "rows" "[I") ∈ lw_all := lw_g (lw_at lw_m3 183 rfl) rfl
theorem q916 : (Jvm.Cond.soleField "SearchHouse$Asking" "rows") ∈ lw_all := lw_g (lw_at lw_m3 184 rfl) rfl
theorem q917 : (Jvm.Cond.laysFinal "SearchHouse$Asking" "SearchHouse$Asking" "sums" "[J") ∈ lw_all := lw_g (lw_at lw_m3 185 rfl) rfl
theorem q918 : (Jvm.Cond.soleField "SearchHouse$Asking" "sums") ∈ lw_all := lw_g (lw_at lw_m3 186 rfl) rfl
theorem q919 : (Jvm.Cond.laysFinal "SearchHouse$Asking" "SearchHouse$Asking" "found" "[S") ∈ lw_all := lw_g (lw_at lw_m3 187 rfl) rfl
theorem q920 : (Jvm.Cond.soleField "SearchHouse$Asking" "found") ∈ lw_all := lw_g (lw_at lw_m3 188 rfl) rfl
theorem q921 : (Jvm.Cond.lays "SearchHouse$Asking" "SearchHouse$Asking" "rowCount" "I") ∈ lw_all := lw_g (lw_at lw_m3 189 rfl) rfl
theorem q922 : (Jvm.Cond.soleField "SearchHouse$Asking" "rowCount") ∈ lw_all := lw_g (lw_at lw_m3 190 rfl) rfl
theorem q923 : (Jvm.Cond.laysFinal "SearchHouse$Asking" "SearchHouse$Asking" "firstPlaces" "[I") ∈ lw_all := lw_g (lw_at lw_m3 191 rfl) rfl
theorem q924 : (Jvm.Cond.soleField "SearchHouse$Asking" "firstPlaces") ∈ lw_all := lw_g (lw_at lw_m3 192 rfl) rfl
theorem q925 : (Jvm.Cond.laysFinal "SearchHouse$Asking" "SearchHouse$Asking" "placeCounts" "[I") ∈ lw_all := lw_g (lw_at lw_m3 193 rfl) rfl
theorem q926 : (Jvm.Cond.soleField "SearchHouse$Asking" "placeCounts") ∈ lw_all := lw_g (lw_at lw_m3 194 rfl) rfl
theorem q927 : (Jvm.Cond.laysFinal "SearchHouse$Asking" "SearchHouse$Asking" "positions" "[I") ∈ lw_all := lw_g (lw_at lw_m3 195 rfl) rfl
theorem q928 : (Jvm.Cond.soleField "SearchHouse$Asking" "positions") ∈ lw_all := lw_g (lw_at lw_m3 196 rfl) rfl
theorem q929 : (Jvm.Cond.laysFinal "SearchHouse$Asking" "SearchHouse$Asking" "firstTerms" "[I") ∈ lw_all := lw_g (lw_at lw_m3 197 rfl) rfl
theorem q930 : (Jvm.Cond.soleField "SearchHouse$Asking" "firstTerms") ∈ lw_all := lw_g (lw_at lw_m3 198 rfl) rfl
theorem q931 : (Jvm.Cond.laysFinal "SearchHouse$Asking" "SearchHouse$Asking" "places" "[I") ∈ lw_all := lw_g (lw_at lw_m3 199 rfl) rfl
theorem q932 : (Jvm.Cond.soleField "SearchHouse$Asking" "places") ∈ lw_all := lw_g (lw_at lw_m3 200 rfl) rfl
theorem q933 : (Jvm.Cond.lays "SearchHouse$Asking" "SearchHouse$Asking" "placeCount" "I") ∈ lw_all := lw_g (lw_at lw_m3 201 rfl) rfl
theorem q934 : (Jvm.Cond.soleField "SearchHouse$Asking" "placeCount") ∈ lw_all := lw_g (lw_at lw_m3 202 rfl) rfl
theorem q935 : (Jvm.Cond.lays "SearchHouse$Asking" "SearchHouse$Asking" "termCount" "I") ∈ lw_all := lw_g (lw_at lw_m3 203 rfl) rfl
theorem q936 : (Jvm.Cond.soleField "SearchHouse$Asking" "termCount") ∈ lw_all := lw_g (lw_at lw_m3 204 rfl) rfl
theorem q937 : (Jvm.Cond.laysFinal "SearchHouse$Asking" "SearchHouse$Asking" "known" "[J") ∈ lw_all := lw_g (lw_at lw_m3 205 rfl) rfl
theorem q938 : (Jvm.Cond.soleField "SearchHouse$Asking" "known") ∈ lw_all := lw_g (lw_at lw_m3 206 rfl) rfl
theorem q939 : (Jvm.Cond.laysFinal "SearchHouse$Asking" "SearchHouse$Asking" "pattern" "[B") ∈ lw_all := lw_g (lw_at lw_m3 207 rfl) rfl
theorem q940 : (Jvm.Cond.soleField "SearchHouse$Asking" "pattern") ∈ lw_all := lw_g (lw_at lw_m3 208 rfl) rfl
theorem q941 : (Jvm.Cond.lays "SearchHouse$Asking" "SearchHouse$Asking" "patternSize" "I") ∈ lw_all := lw_g (lw_at lw_m3 209 rfl) rfl
theorem q942 : (Jvm.Cond.soleField "SearchHouse$Asking" "patternSize") ∈ lw_all := lw_g (lw_at lw_m3 210 rfl) rfl
theorem q943 : (Jvm.Cond.laysFinal "SearchHouse$Asking" "SearchHouse$Asking" "at" "[J") ∈ lw_all := lw_g (lw_at lw_m3 211 rfl) rfl
theorem q944 : (Jvm.Cond.soleField "SearchHouse$Asking" "at") ∈ lw_all := lw_g (lw_at lw_m3 212 rfl) rfl
theorem q945 : (Jvm.Cond.laysFinal "SearchHouse$Asking" "SearchHouse$Asking" "owners" "[I") ∈ lw_all := lw_g (lw_at lw_m3 213 rfl) rfl
theorem q946 : (Jvm.Cond.soleField "SearchHouse$Asking" "owners") ∈ lw_all := lw_g (lw_at lw_m3 214 rfl) rfl
theorem q947 : (Jvm.Cond.laysFinal "SearchHouse$Asking" "SearchHouse$Asking" "tried" "[Z") ∈ lw_all := lw_g (lw_at lw_m3 215 rfl) rfl
theorem q948 : (Jvm.Cond.soleField "SearchHouse$Asking" "tried") ∈ lw_all := lw_g (lw_at lw_m3 216 rfl) rfl
theorem q949 : (Jvm.Cond.laysFinal "SearchHouse$Asking" "SearchHouse$Asking" "this$0" "LSearchHouse;") ∈ lw_all := lw_g (lw_at lw_m3 217 rfl) rfl
theorem q950 : (Jvm.Cond.soleField "SearchHouse$Asking" "this$0") ∈ lw_all := lw_g (lw_at lw_m3 218 rfl) rfl
theorem q951 : (Jvm.Cond.superclass "SearchHouse$Asking" "java/lang/Object") ∈ lw_all := lw_g (lw_at lw_m3 219 rfl) rfl
theorem q952 : (Jvm.Cond.classLink "SearchHouse" (362 : Nat) "SearchHouse$Importer") ∈ lw_all := lw_g (lw_at lw_m3 220 rfl) rfl
theorem q953 : (Jvm.Cond.instantiable "SearchHouse$Importer" (3 : Nat)) ∈ lw_all := lw_g (lw_at lw_m3 221 rfl) rfl
theorem q954 : (Jvm.Cond.methodLinkNest "SearchHouse" (364 : Nat) ({ cls := "SearchHouse$Importer", name := "<init>", desc := "(LSearchHouse;)V" } : Jvm.MethodName) "SearchHouse") ∈ lw_tbl := lw_at lw_m3 222 rfl
theorem q955 : (Jvm.Cond.instanceMethod ({ cls := "SearchHouse$Importer", name := "<init>", desc := "(LSearchHouse;)V" } : Jvm.MethodName)) ∈ lw_all := lw_g (lw_at lw_m3 223 rfl) rfl
theorem q956 : (Jvm.Cond.code ({ cls := "SearchHouse$Importer", name := "<init>", desc := "(LSearchHouse;)V" } : Jvm.MethodName) prog_5_method_1_code (2 : Nat) (Option.none : Option Jvm.ClassFile.FieldType)) ∈ lw_all := lw_g (lw_at lw_m3 224 rfl) rfl
theorem q957 : (Jvm.Cond.methodLink "SearchHouse$Importer" (9 : Nat) ({ cls := "java/lang/Object", name := "<init>", desc := "()V" } : Jvm.MethodName)) ∈ lw_all := lw_g (lw_at lw_m3 225 rfl) rfl
theorem q958 : (Jvm.Cond.fieldLink "SearchHouse$Importer" (24 : Nat) "SearchHouse$Importer" "at" "I") ∈ lw_all := lw_g (lw_at lw_m3 226 rfl) rfl
theorem q959 : (Jvm.Cond.fieldLink "SearchHouse$Importer" (20 : Nat) "SearchHouse$Importer" "end" "I") ∈ lw_all := lw_g (lw_at lw_m3 227 rfl) rfl
theorem q960 : (Jvm.Cond.fieldLink "SearchHouse$Importer" (3 : Nat) "SearchHouse$Importer" "this$0" "LSearchHouse;") ∈ lw_all := lw_g (lw_at lw_m3 228 rfl) rfl
theorem q961 : (Jvm.Cond.lays "SearchHouse$Importer" "SearchHouse$Importer" "at" "I") ∈ lw_all := lw_g (lw_at lw_m3 229 rfl) rfl
theorem q962 : (Jvm.Cond.soleField "SearchHouse$Importer" "at") ∈ lw_all := lw_g (lw_at lw_m3 230 rfl) rfl
theorem q963 : (Jvm.Cond.lays "SearchHouse$Importer" "SearchHouse$Importer" "end" "I") ∈ lw_all := lw_g (lw_at lw_m3 231 rfl) rfl
theorem q964 : (Jvm.Cond.soleField "SearchHouse$Importer" "end") ∈ lw_all := lw_g (lw_at lw_m3 232 rfl) rfl
theorem q965 : (Jvm.Cond.laysFinal "SearchHouse$Importer" "SearchHouse$Importer" "this$0" "LSearchHouse;") ∈ lw_all := lw_g (lw_at lw_m3 233 rfl) rfl
theorem q966 : (Jvm.Cond.soleField "SearchHouse$Importer" "this$0") ∈ lw_all := lw_g (lw_at lw_m3 234 rfl) rfl
theorem q967 : (Jvm.Cond.superclass "SearchHouse$Importer" "java/lang/Object") ∈ lw_all := lw_g (lw_at lw_m3 235 rfl) rfl
theorem q968 : (Jvm.Cond.methodLink "SearchHouse" (369 : Nat) ({ cls := "SearchHouse$Terms", name := "clear", desc := "()V" } : Jvm.MethodName)) ∈ lw_all := lw_g (lw_at lw_m3 236 rfl) rfl
theorem q969 : (Jvm.Cond.instanceMethod ({ cls := "SearchHouse$Terms", name := "clear", desc := "()V" } : Jvm.MethodName)) ∈ lw_all := lw_g (lw_at lw_m3 237 rfl) rfl
theorem q970 : (Jvm.Cond.selects "SearchHouse$Terms" ({ cls := "SearchHouse$Terms", name := "clear", desc := "()V" } : Jvm.MethodName) ({ cls := "SearchHouse$Terms", name := "clear", desc := "()V" } : Jvm.MethodName)) ∈ lw_all := lw_g (lw_at lw_m3 238 rfl) rfl
theorem q971 : (Jvm.Cond.code ({ cls := "SearchHouse$Terms", name := "clear", desc := "()V" } : Jvm.MethodName) prog_9_method_2_code (2 : Nat) (Option.none : Option Jvm.ClassFile.FieldType)) ∈ lw_all := lw_g (lw_at lw_m3 239 rfl) rfl
theorem q972 : (Jvm.Cond.instantiable "SearchHouse$User" (3 : Nat)) ∈ lw_all := lw_g (lw_at lw_m4 0 rfl) rfl
theorem q973 : (Jvm.Cond.methodLinkNest "SearchHouse" (372 : Nat) ({ cls := "SearchHouse$User", name := "<init>", desc := "()V" } : Jvm.MethodName) "SearchHouse") ∈ lw_tbl := lw_at lw_m4 1 rfl
theorem q974 : (Jvm.Cond.instanceMethod ({ cls := "SearchHouse$User", name := "<init>", desc := "()V" } : Jvm.MethodName)) ∈ lw_all := lw_g (lw_at lw_m4 2 rfl) rfl
theorem q975 : (Jvm.Cond.code ({ cls := "SearchHouse$User", name := "<init>", desc := "()V" } : Jvm.MethodName) prog_11_method_1_code (1 : Nat) (Option.none : Option Jvm.ClassFile.FieldType)) ∈ lw_all := lw_g (lw_at lw_m4 3 rfl) rfl
theorem q976 : (Jvm.Cond.methodLink "SearchHouse$User" (1 : Nat) ({ cls := "java/lang/Object", name := "<init>", desc := "()V" } : Jvm.MethodName)) ∈ lw_all := lw_g (lw_at lw_m4 4 rfl) rfl
theorem q977 : (Jvm.Cond.classLink "SearchHouse$User" (7 : Nat) "SearchHouse$Question") ∈ lw_all := lw_g (lw_at lw_m4 5 rfl) rfl
theorem q978 : (Jvm.Cond.methodLinkNest "SearchHouse$User" (9 : Nat) ({ cls := "SearchHouse$Question", name := "<init>", desc := "()V" } : Jvm.MethodName) "SearchHouse") ∈ lw_tbl := lw_at lw_m4 6 rfl
theorem q979 : (Jvm.Cond.fieldLink "SearchHouse$User" (10 : Nat) "SearchHouse$User" "hides" "LSearchHouse$Question;") ∈ lw_all := lw_g (lw_at lw_m4 7 rfl) rfl
theorem q980 : (Jvm.Cond.fieldLinkNest "SearchHouse" (530 : Nat) "SearchHouse$User" "hides" "LSearchHouse$Question;" "SearchHouse") ∈ lw_tbl := lw_at lw_m4 8 rfl
theorem q981 : (Jvm.Cond.fieldLinkNest "SearchHouse" (533 : Nat) "SearchHouse$User" "hasHides" "Z" "SearchHouse") ∈ lw_tbl := lw_at lw_m4 9 rfl
theorem q982 : (Jvm.Cond.fieldLinkNest "SearchHouse" (536 : Nat) "SearchHouse$User" "blind" "I" "SearchHouse") ∈ lw_tbl := lw_at lw_m4 10 rfl
theorem q983 : (Jvm.Cond.laysFinal "SearchHouse$User" "SearchHouse$User" "hides" "LSearchHouse$Question;") ∈ lw_all := lw_g (lw_at lw_m4 11 rfl) rfl
theorem q984 : (Jvm.Cond.soleField "SearchHouse$User" "hides") ∈ lw_all := lw_g (lw_at lw_m4 12 rfl) rfl
theorem q985 : (Jvm.Cond.lays "SearchHouse$User" "SearchHouse$User" "hasHides" "Z") ∈ lw_all := lw_g (lw_at lw_m4 13 rfl) rfl
theorem q986 : (Jvm.Cond.soleField "SearchHouse$User" "hasHides") ∈ lw_all := lw_g (lw_at lw_m4 14 rfl) rfl
theorem q987 : (Jvm.Cond.lays "SearchHouse$User" "SearchHouse$User" "blind" "I") ∈ lw_all := lw_g (lw_at lw_m4 15 rfl) rfl
theorem q988 : (Jvm.Cond.soleField "SearchHouse$User" "blind") ∈ lw_all := lw_g (lw_at lw_m4 16 rfl) rfl
theorem q989 : (Jvm.Cond.superclass "SearchHouse$User" "java/lang/Object") ∈ lw_all := lw_g (lw_at lw_m4 17 rfl) rfl
theorem q990 : (Jvm.Cond.fieldLink "SearchHouse" (1 : Nat) "SearchHouse" "tape" "[B") ∈ lw_all := lw_g (lw_at lw_m4 18 rfl) rfl
theorem q991 : (Jvm.Cond.fieldLinkNest "SearchHouse$Importer" (53 : Nat) "SearchHouse" "tape" "[B" "SearchHouse") ∈ lw_tbl := lw_at lw_m4 19 rfl
theorem q992 : (Jvm.Cond.fieldLink "SearchHouse" (7 : Nat) "SearchHouse" "size" "I") ∈ lw_all := lw_g (lw_at lw_m4 20 rfl) rfl
theorem q993 : (Jvm.Cond.fieldLink "SearchHouse" (28 : Nat) "SearchHouse" "word" "[B") ∈ lw_all := lw_g (lw_at lw_m4 21 rfl) rfl
theorem q994 : (Jvm.Cond.fieldLinkNest "SearchHouse$Importer" (88 : Nat) "SearchHouse" "analysers" "[LSearchHouse$Analyser;" "SearchHouse") ∈ lw_tbl := lw_at lw_m4 22 rfl
theorem q995 : (Jvm.Cond.fieldLink "SearchHouse" (22 : Nat) "SearchHouse" "analysers" "[LSearchHouse$Analyser;") ∈ lw_all := lw_g (lw_at lw_m4 23 rfl) rfl
theorem q996 : (Jvm.Cond.fieldLinkNest "SearchHouse$Asking" (247 : Nat) "SearchHouse" "analysers" "[LSearchHouse$Analyser;" "SearchHouse") ∈ lw_tbl := lw_at lw_m4 24 rfl
theorem q997 : (Jvm.Cond.fieldLinkNest "SearchHouse$Importer" (92 : Nat) "SearchHouse" "analyserCount" "I" "SearchHouse") ∈ lw_tbl := lw_at lw_m4 25 rfl
theorem q998 : (Jvm.Cond.fieldLink "SearchHouse" (15 : Nat) "SearchHouse" "analyserCount" "I") ∈ lw_all := lw_g (lw_at lw_m4 26 rfl) rfl
theorem q999 : (Jvm.Cond.fieldLink "SearchHouse" (86 : Nat) "SearchHouse" "told" "LSearchHouse$Tokens;") ∈ lw_all := lw_g (lw_at lw_m4 27 rfl) rfl
theorem q1000 : (Jvm.Cond.fieldLinkNest "SearchHouse$Asking" (276 : Nat) "SearchHouse" "work" "LSearchHouse$Tokens;" "SearchHouse") ∈ lw_tbl := lw_at lw_m4 28 rfl
theorem q1001 : (Jvm.Cond.fieldLink "SearchHouse" (131 : Nat) "SearchHouse" "work" "LSearchHouse$Tokens;") ∈ lw_all := lw_g (lw_at lw_m4 29 rfl) rfl
theorem q1002 : (Jvm.Cond.fieldLinkNest "SearchHouse$World" (81 : Nat) "SearchHouse" "fieldKinds" "[I" "SearchHouse") ∈ lw_tbl := lw_at lw_m4 30 rfl
theorem q1003 : (Jvm.Cond.fieldLinkNest "SearchHouse$Asking" (184 : Nat) "SearchHouse" "fieldKinds" "[I" "SearchHouse") ∈ lw_tbl := lw_at lw_m4 31 rfl
theorem q1004 : (Jvm.Cond.fieldLinkNest "SearchHouse$Importer" (158 : Nat) "SearchHouse" "fieldKinds" "[I" "SearchHouse") ∈ lw_tbl := lw_at lw_m4 32 rfl
theorem q1005 : (Jvm.Cond.fieldLink "SearchHouse" (119 : Nat) "SearchHouse" "fieldKinds" "[I") ∈ lw_all := lw_g (lw_at lw_m4 33 rfl) rfl
theorem q1006 : (Jvm.Cond.fieldLinkNest "SearchHouse$Reader" (133 : Nat) "SearchHouse" "fieldKinds" "[I" "SearchHouse") ∈ lw_tbl := lw_at lw_m4 34 rfl
theorem q1007 : (Jvm.Cond.fieldLinkNest "SearchHouse$Asking" (251 : Nat) "SearchHouse" "fieldAnalysers" "[I" "SearchHouse") ∈ lw_tbl := lw_at lw_m4 35 rfl
theorem q1008 : (Jvm.Cond.fieldLink "SearchHouse" (122 : Nat) "SearchHouse" "fieldAnalysers" "[I") ∈ lw_all := lw_g (lw_at lw_m4 36 rfl) rfl
theorem q1009 : (Jvm.Cond.fieldLinkNest "SearchHouse$World" (71 : Nat) "SearchHouse" "fieldCount" "I" "SearchHouse") ∈ lw_tbl := lw_at lw_m4 37 rfl
theorem q1010 : (Jvm.Cond.fieldLink "SearchHouse" (113 : Nat) "SearchHouse" "fieldCount" "I") ∈ lw_all := lw_g (lw_at lw_m4 38 rfl) rfl
theorem q1011 : (Jvm.Cond.fieldLinkNest "SearchHouse$Asking" (120 : Nat) "SearchHouse" "terms" "LSearchHouse$Terms;" "SearchHouse") ∈ lw_tbl := lw_at lw_m4 39 rfl
theorem q1012 : (Jvm.Cond.fieldLinkNest "SearchHouse$World" (84 : Nat) "SearchHouse" "terms" "LSearchHouse$Terms;" "SearchHouse") ∈ lw_tbl := lw_at lw_m4 40 rfl
theorem q1013 : (Jvm.Cond.fieldLink "SearchHouse" (139 : Nat) "SearchHouse" "terms" "LSearchHouse$Terms;") ∈ lw_all := lw_g (lw_at lw_m4 41 rfl) rfl
theorem q1014 : (Jvm.Cond.fieldLinkNest "SearchHouse$World" (74 : Nat) "SearchHouse" "valueFields" "[B" "SearchHouse") ∈ lw_tbl := lw_at lw_m4 42 rfl
theorem q1015 : (Jvm.Cond.fieldLinkNest "SearchHouse$Asking" (208 : Nat) "SearchHouse" "valueFields" "[B" "SearchHouse") ∈ lw_tbl := lw_at lw_m4 43 rfl
theorem q1016 : (Jvm.Cond.fieldLink "SearchHouse" (143 : Nat) "SearchHouse" "valueFields" "[B") ∈ lw_all := lw_g (lw_at lw_m4 44 rfl) rfl
theorem q1017 : (Jvm.Cond.fieldLinkNest "SearchHouse$World" (96 : Nat) "SearchHouse" "valueObjects" "[S" "SearchHouse") ∈ lw_tbl := lw_at lw_m4 45 rfl
theorem q1018 : (Jvm.Cond.fieldLinkNest "SearchHouse$Asking" (190 : Nat) "SearchHouse" "valueObjects" "[S" "SearchHouse") ∈ lw_tbl := lw_at lw_m4 46 rfl
theorem q1019 : (Jvm.Cond.fieldLink "SearchHouse" (146 : Nat) "SearchHouse" "valueObjects" "[S") ∈ lw_all := lw_g (lw_at lw_m4 47 rfl) rfl
theorem q1020 : (Jvm.Cond.fieldLink "SearchHouse" (150 : Nat) "SearchHouse" "valueStarts" "[I") ∈ lw_all := lw_g (lw_at lw_m4 48 rfl) rfl
theorem q1021 : (Jvm.Cond.fieldLink "SearchHouse" (153 : Nat) "SearchHouse" "valueSizes" "[I") ∈ lw_all := lw_g (lw_at lw_m4 49 rfl) rfl
theorem q1022 : (Jvm.Cond.fieldLinkNest "SearchHouse$Asking" (232 : Nat) "SearchHouse" "valueNumbers" "[J" "SearchHouse") ∈ lw_tbl := lw_at lw_m4 50 rfl
theorem q1023 : (Jvm.Cond.fieldLink "SearchHouse" (156 : Nat) "SearchHouse" "valueNumbers" "[J") ∈ lw_all := lw_g (lw_at lw_m4 51 rfl) rfl
theorem q1024 : (Jvm.Cond.fieldLinkNest "SearchHouse$Asking" (214 : Nat) "SearchHouse" "valueTokens" "[I" "SearchHouse") ∈ lw_tbl := lw_at lw_m4 52 rfl
theorem q1025 : (Jvm.Cond.fieldLink "SearchHouse" (160 : Nat) "SearchHouse" "valueTokens" "[I") ∈ lw_all := lw_g (lw_at lw_m4 53 rfl) rfl
theorem q1026 : (Jvm.Cond.fieldLinkNest "SearchHouse$World" (78 : Nat) "SearchHouse" "valueTokenCounts" "[I" "SearchHouse") ∈ lw_tbl := lw_at lw_m4 54 rfl
theorem q1027 : (Jvm.Cond.fieldLinkNest "SearchHouse$Asking" (217 : Nat) "SearchHouse" "valueTokenCounts" "[I" "SearchHouse") ∈ lw_tbl := lw_at lw_m4 55 rfl
theorem q1028 : (Jvm.Cond.fieldLink "SearchHouse" (163 : Nat) "SearchHouse" "valueTokenCounts" "[I") ∈ lw_all := lw_g (lw_at lw_m4 56 rfl) rfl
theorem q1029 : (Jvm.Cond.fieldLinkNest "SearchHouse$Asking" (211 : Nat) "SearchHouse" "valueTerms" "[I" "SearchHouse") ∈ lw_tbl := lw_at lw_m4 57 rfl
theorem q1030 : (Jvm.Cond.fieldLink "SearchHouse" (166 : Nat) "SearchHouse" "valueTerms" "[I") ∈ lw_all := lw_g (lw_at lw_m4 58 rfl) rfl
theorem q1031 : (Jvm.Cond.fieldLinkNest "SearchHouse$World" (103 : Nat) "SearchHouse" "valueNexts" "[I" "SearchHouse") ∈ lw_tbl := lw_at lw_m4 59 rfl
theorem q1032 : (Jvm.Cond.fieldLinkNest "SearchHouse$Asking" (196 : Nat) "SearchHouse" "valueNexts" "[I" "SearchHouse") ∈ lw_tbl := lw_at lw_m4 60 rfl
theorem q1033 : (Jvm.Cond.fieldLink "SearchHouse" (169 : Nat) "SearchHouse" "valueNexts" "[I") ∈ lw_all := lw_g (lw_at lw_m4 61 rfl) rfl
theorem q1034 : (Jvm.Cond.fieldLinkNest "SearchHouse$World" (65 : Nat) "SearchHouse" "valueCount" "I" "SearchHouse") ∈ lw_tbl := lw_at lw_m4 62 rfl
theorem q1035 : (Jvm.Cond.fieldLinkNest "SearchHouse$Asking" (205 : Nat) "SearchHouse" "valueCount" "I" "SearchHouse") ∈ lw_tbl := lw_at lw_m4 63 rfl
theorem q1036 : (Jvm.Cond.fieldLink "SearchHouse" (373 : Nat) "SearchHouse" "valueCount" "I") ∈ lw_all := lw_g (lw_at lw_m4 64 rfl) rfl
theorem q1037 : (Jvm.Cond.fieldLink "SearchHouse" (173 : Nat) "SearchHouse" "heap" "[B") ∈ lw_all := lw_g (lw_at lw_m4 65 rfl) rfl
theorem q1038 : (Jvm.Cond.fieldLink "SearchHouse" (379 : Nat) "SearchHouse" "heapSize" "I") ∈ lw_all := lw_g (lw_at lw_m4 66 rfl) rfl
theorem q1039 : (Jvm.Cond.fieldLinkNest "SearchHouse$Asking" (220 : Nat) "SearchHouse" "tokenTerms" "[I" "SearchHouse") ∈ lw_tbl := lw_at lw_m4 67 rfl
theorem q1040 : (Jvm.Cond.fieldLink "SearchHouse" (176 : Nat) "SearchHouse" "tokenTerms" "[I") ∈ lw_all := lw_g (lw_at lw_m4 68 rfl) rfl
theorem q1041 : (Jvm.Cond.fieldLinkNest "SearchHouse$World" (106 : Nat) "SearchHouse" "tokenNexts" "[I" "SearchHouse") ∈ lw_tbl := lw_at lw_m4 69 rfl
theorem q1042 : (Jvm.Cond.fieldLinkNest "SearchHouse$Asking" (199 : Nat) "SearchHouse" "tokenNexts" "[I" "SearchHouse") ∈ lw_tbl := lw_at lw_m4 70 rfl
theorem q1043 : (Jvm.Cond.fieldLink "SearchHouse" (179 : Nat) "SearchHouse" "tokenNexts" "[I") ∈ lw_all := lw_g (lw_at lw_m4 71 rfl) rfl
theorem q1044 : (Jvm.Cond.fieldLinkNest "SearchHouse$World" (100 : Nat) "SearchHouse" "tokenValues" "[S" "SearchHouse") ∈ lw_tbl := lw_at lw_m4 72 rfl
theorem q1045 : (Jvm.Cond.fieldLinkNest "SearchHouse$Asking" (193 : Nat) "SearchHouse" "tokenValues" "[S" "SearchHouse") ∈ lw_tbl := lw_at lw_m4 73 rfl
theorem q1046 : (Jvm.Cond.fieldLink "SearchHouse" (182 : Nat) "SearchHouse" "tokenValues" "[S") ∈ lw_all := lw_g (lw_at lw_m4 74 rfl) rfl
theorem q1047 : (Jvm.Cond.fieldLinkNest "SearchHouse$Asking" (307 : Nat) "SearchHouse" "tokenPositions" "[S" "SearchHouse") ∈ lw_tbl := lw_at lw_m4 75 rfl
theorem q1048 : (Jvm.Cond.fieldLink "SearchHouse" (185 : Nat) "SearchHouse" "tokenPositions" "[S") ∈ lw_all := lw_g (lw_at lw_m4 76 rfl) rfl
theorem q1049 : (Jvm.Cond.fieldLink "SearchHouse" (188 : Nat) "SearchHouse" "tokenStarts" "[S") ∈ lw_all := lw_g (lw_at lw_m4 77 rfl) rfl
theorem q1050 : (Jvm.Cond.fieldLink "SearchHouse" (191 : Nat) "SearchHouse" "tokenEnds" "[S") ∈ lw_all := lw_g (lw_at lw_m4 78 rfl) rfl
theorem q1051 : (Jvm.Cond.fieldLink "SearchHouse" (382 : Nat) "SearchHouse" "tokenCount" "I") ∈ lw_all := lw_g (lw_at lw_m4 79 rfl) rfl
theorem q1052 : (Jvm.Cond.fieldLink "SearchHouse" (385 : Nat) "SearchHouse" "wordCount" "I") ∈ lw_all := lw_g (lw_at lw_m4 80 rfl) rfl
theorem q1053 : (Jvm.Cond.fieldLinkNest "SearchHouse$World" (59 : Nat) "SearchHouse" "draftFirst" "I" "SearchHouse") ∈ lw_tbl := lw_at lw_m4 81 rfl
theorem q1054 : (Jvm.Cond.fieldLinkNest "SearchHouse$Asking" (202 : Nat) "SearchHouse" "draftFirst" "I" "SearchHouse") ∈ lw_tbl := lw_at lw_m4 82 rfl
theorem q1055 : (Jvm.Cond.fieldLinkNest "SearchHouse$Importer" (128 : Nat) "SearchHouse" "draftFirst" "I" "SearchHouse") ∈ lw_tbl := lw_at lw_m4 83 rfl
theorem q1056 : (Jvm.Cond.fieldLink "SearchHouse" (376 : Nat) "SearchHouse" "draftFirst" "I") ∈ lw_all := lw_g (lw_at lw_m4 84 rfl) rfl
theorem q1057 : (Jvm.Cond.fieldLink "SearchHouse" (431 : Nat) "SearchHouse" "draftTerms" "I") ∈ lw_all := lw_g (lw_at lw_m4 85 rfl) rfl
theorem q1058 : (Jvm.Cond.fieldLinkNest "SearchHouse$World" (56 : Nat) "SearchHouse" "firsts" "[I" "SearchHouse") ∈ lw_tbl := lw_at lw_m4 86 rfl
theorem q1059 : (Jvm.Cond.fieldLinkNest "SearchHouse$Importer" (125 : Nat) "SearchHouse" "firsts" "[I" "SearchHouse") ∈ lw_tbl := lw_at lw_m4 87 rfl
theorem q1060 : (Jvm.Cond.fieldLinkNest "SearchHouse$Asking" (226 : Nat) "SearchHouse" "firsts" "[I" "SearchHouse") ∈ lw_tbl := lw_at lw_m4 88 rfl
theorem q1061 : (Jvm.Cond.fieldLink "SearchHouse" (194 : Nat) "SearchHouse" "firsts" "[I") ∈ lw_all := lw_g (lw_at lw_m4 89 rfl) rfl
theorem q1062 : (Jvm.Cond.fieldLinkNest "SearchHouse$World" (62 : Nat) "SearchHouse" "counts" "[I" "SearchHouse") ∈ lw_tbl := lw_at lw_m4 90 rfl
theorem q1063 : (Jvm.Cond.fieldLinkNest "SearchHouse$Importer" (131 : Nat) "SearchHouse" "counts" "[I" "SearchHouse") ∈ lw_tbl := lw_at lw_m4 91 rfl
theorem q1064 : (Jvm.Cond.fieldLinkNest "SearchHouse$Asking" (229 : Nat) "SearchHouse" "counts" "[I" "SearchHouse") ∈ lw_tbl := lw_at lw_m4 92 rfl
theorem q1065 : (Jvm.Cond.fieldLink "SearchHouse" (197 : Nat) "SearchHouse" "counts" "[I") ∈ lw_all := lw_g (lw_at lw_m4 93 rfl) rfl
theorem q1066 : (Jvm.Cond.fieldLinkNest "SearchHouse$World" (68 : Nat) "SearchHouse" "parents" "[I" "SearchHouse") ∈ lw_tbl := lw_at lw_m4 94 rfl
theorem q1067 : (Jvm.Cond.fieldLinkNest "SearchHouse$Importer" (134 : Nat) "SearchHouse" "parents" "[I" "SearchHouse") ∈ lw_tbl := lw_at lw_m4 95 rfl
theorem q1068 : (Jvm.Cond.fieldLink "SearchHouse" (200 : Nat) "SearchHouse" "parents" "[I") ∈ lw_all := lw_g (lw_at lw_m4 96 rfl) rfl
theorem q1069 : (Jvm.Cond.fieldLinkNest "SearchHouse$Asking" (379 : Nat) "SearchHouse" "parents" "[I" "SearchHouse") ∈ lw_tbl := lw_at lw_m4 97 rfl
theorem q1070 : (Jvm.Cond.fieldLinkNest "SearchHouse$Importer" (137 : Nat) "SearchHouse" "cames" "[I" "SearchHouse") ∈ lw_tbl := lw_at lw_m4 98 rfl
theorem q1071 : (Jvm.Cond.fieldLink "SearchHouse" (203 : Nat) "SearchHouse" "cames" "[I") ∈ lw_all := lw_g (lw_at lw_m4 99 rfl) rfl
theorem q1072 : (Jvm.Cond.fieldLinkNest "SearchHouse$Importer" (141 : Nat) "SearchHouse" "gones" "[I" "SearchHouse") ∈ lw_tbl := lw_at lw_m4 100 rfl
theorem q1073 : (Jvm.Cond.fieldLink "SearchHouse" (206 : Nat) "SearchHouse" "gones" "[I") ∈ lw_all := lw_g (lw_at lw_m4 101 rfl) rfl
theorem q1074 : (Jvm.Cond.fieldLinkNest "SearchHouse$Importer" (144 : Nat) "SearchHouse" "held" "[Z" "SearchHouse") ∈ lw_tbl := lw_at lw_m4 102 rfl
theorem q1075 : (Jvm.Cond.fieldLink "SearchHouse" (209 : Nat) "SearchHouse" "held" "[Z") ∈ lw_all := lw_g (lw_at lw_m4 103 rfl) rfl
theorem q1076 : (Jvm.Cond.fieldLinkNest "SearchHouse$World" (39 : Nat) "SearchHouse" "next" "I" "SearchHouse") ∈ lw_tbl := lw_at lw_m4 104 rfl
theorem q1077 : (Jvm.Cond.fieldLinkNest "SearchHouse$Importer" (78 : Nat) "SearchHouse" "next" "I" "SearchHouse") ∈ lw_tbl := lw_at lw_m4 105 rfl
theorem q1078 : (Jvm.Cond.fieldLinkNest "SearchHouse$Asking" (223 : Nat) "SearchHouse" "next" "I" "SearchHouse") ∈ lw_tbl := lw_at lw_m4 106 rfl
theorem q1079 : (Jvm.Cond.fieldLink "SearchHouse" (437 : Nat) "SearchHouse" "next" "I") ∈ lw_all := lw_g (lw_at lw_m4 107 rfl) rfl
theorem q1080 : (Jvm.Cond.fieldLink "SearchHouse" (464 : Nat) "SearchHouse" "version" "I") ∈ lw_all := lw_g (lw_at lw_m4 108 rfl) rfl
theorem q1081 : (Jvm.Cond.fieldLink "SearchHouse" (448 : Nat) "SearchHouse" "greatest" "I") ∈ lw_all := lw_g (lw_at lw_m4 109 rfl) rfl
theorem q1082 : (Jvm.Cond.fieldLink "SearchHouse" (473 : Nat) "SearchHouse" "committed" "I") ∈ lw_all := lw_g (lw_at lw_m4 110 rfl) rfl
theorem q1083 : (Jvm.Cond.fieldLink "SearchHouse" (213 : Nat) "SearchHouse" "pins" "[I") ∈ lw_all := lw_g (lw_at lw_m4 111 rfl) rfl
theorem q1084 : (Jvm.Cond.fieldLink "SearchHouse" (217 : Nat) "SearchHouse" "moved" "[I") ∈ lw_all := lw_g (lw_at lw_m4 112 rfl) rfl
theorem q1085 : (Jvm.Cond.fieldLink "SearchHouse" (222 : Nat) "SearchHouse" "users" "[LSearchHouse$User;") ∈ lw_all := lw_g (lw_at lw_m4 113 rfl) rfl
theorem q1086 : (Jvm.Cond.fieldLink "SearchHouse" (527 : Nat) "SearchHouse" "user" "I") ∈ lw_all := lw_g (lw_at lw_m4 114 rfl) rfl
theorem q1087 : (Jvm.Cond.fieldLink "SearchHouse" (229 : Nat) "SearchHouse" "question" "LSearchHouse$Question;") ∈ lw_all := lw_g (lw_at lw_m4 115 rfl) rfl
theorem q1088 : (Jvm.Cond.fieldLink "SearchHouse" (517 : Nat) "SearchHouse" "hasQuestion" "Z") ∈ lw_all := lw_g (lw_at lw_m4 116 rfl) rfl
theorem q1089 : (Jvm.Cond.fieldLink "SearchHouse" (233 : Nat) "SearchHouse" "draft" "LSearchHouse$Question;") ∈ lw_all := lw_g (lw_at lw_m4 117 rfl) rfl
theorem q1090 : (Jvm.Cond.fieldLink "SearchHouse" (236 : Nat) "SearchHouse" "kept" "[LSearchHouse$Question;") ∈ lw_all := lw_g (lw_at lw_m4 118 rfl) rfl
theorem q1091 : (Jvm.Cond.fieldLink "SearchHouse" (524 : Nat) "SearchHouse" "keptCount" "I") ∈ lw_all := lw_g (lw_at lw_m4 119 rfl) rfl
theorem q1092 : (Jvm.Cond.fieldLink "SearchHouse" (243 : Nat) "SearchHouse" "reader" "LSearchHouse$Reader;") ∈ lw_all := lw_g (lw_at lw_m4 120 rfl) rfl
theorem q1093 : (Jvm.Cond.fieldLink "SearchHouse" (247 : Nat) "SearchHouse" "table" "[I") ∈ lw_all := lw_g (lw_at lw_m4 121 rfl) rfl
theorem q1094 : (Jvm.Cond.fieldLink "SearchHouse" (250 : Nat) "SearchHouse" "marked" "[Z") ∈ lw_all := lw_g (lw_at lw_m4 122 rfl) rfl
theorem q1095 : (Jvm.Cond.fieldLinkNest "SearchHouse$Asking" (419 : Nat) "SearchHouse" "marked" "[Z" "SearchHouse") ∈ lw_tbl := lw_at lw_m4 123 rfl
theorem q1096 : (Jvm.Cond.fieldLink "SearchHouse" (253 : Nat) "SearchHouse" "lineDepths" "[I") ∈ lw_all := lw_g (lw_at lw_m4 124 rfl) rfl
theorem q1097 : (Jvm.Cond.fieldLinkNest "SearchHouse$Asking" (395 : Nat) "SearchHouse" "lineDepths" "[I" "SearchHouse") ∈ lw_tbl := lw_at lw_m4 125 rfl
theorem q1098 : (Jvm.Cond.fieldLink "SearchHouse" (256 : Nat) "SearchHouse" "lineKinds" "[I") ∈ lw_all := lw_g (lw_at lw_m4 126 rfl) rfl
theorem q1099 : (Jvm.Cond.fieldLinkNest "SearchHouse$Asking" (401 : Nat) "SearchHouse" "lineKinds" "[I" "SearchHouse") ∈ lw_tbl := lw_at lw_m4 127 rfl
theorem q1100 : (Jvm.Cond.fieldLink "SearchHouse" (259 : Nat) "SearchHouse" "lineScores" "[J") ∈ lw_all := lw_g (lw_at lw_m4 128 rfl) rfl
theorem q1101 : (Jvm.Cond.fieldLinkNest "SearchHouse$Asking" (404 : Nat) "SearchHouse" "lineScores" "[J" "SearchHouse") ∈ lw_tbl := lw_at lw_m4 129 rfl
theorem q1102 : (Jvm.Cond.fieldLink "SearchHouse" (262 : Nat) "SearchHouse" "lineFounds" "[I") ∈ lw_all := lw_g (lw_at lw_m4 130 rfl) rfl
theorem q1103 : (Jvm.Cond.fieldLinkNest "SearchHouse$Asking" (407 : Nat) "SearchHouse" "lineFounds" "[I" "SearchHouse") ∈ lw_tbl := lw_at lw_m4 131 rfl
theorem q1104 : (Jvm.Cond.fieldLinkNest "SearchHouse$Asking" (398 : Nat) "SearchHouse" "lineCount" "I" "SearchHouse") ∈ lw_tbl := lw_at lw_m4 132 rfl
theorem q1105 : (Jvm.Cond.fieldLink "SearchHouse" (553 : Nat) "SearchHouse" "lineCount" "I") ∈ lw_all := lw_g (lw_at lw_m4 133 rfl) rfl
theorem q1106 : (Jvm.Cond.fieldLink "SearchHouse" (268 : Nat) "SearchHouse" "asked" "LSearchHouse$Asking;") ∈ lw_all := lw_g (lw_at lw_m4 134 rfl) rfl
theorem q1107 : (Jvm.Cond.fieldLink "SearchHouse" (272 : Nat) "SearchHouse" "other" "LSearchHouse$Asking;") ∈ lw_all := lw_g (lw_at lw_m4 135 rfl) rfl
theorem q1108 : (Jvm.Cond.fieldLink "SearchHouse" (275 : Nat) "SearchHouse" "hider" "LSearchHouse$Asking;") ∈ lw_all := lw_g (lw_at lw_m4 136 rfl) rfl
theorem q1109 : (Jvm.Cond.fieldLink "SearchHouse" (562 : Nat) "SearchHouse" "formula" "I") ∈ lw_all := lw_g (lw_at lw_m4 137 rfl) rfl
theorem q1110 : (Jvm.Cond.fieldLink "SearchHouse" (278 : Nat) "SearchHouse" "sortField" "I") ∈ lw_all := lw_g (lw_at lw_m4 138 rfl) rfl
theorem q1111 : (Jvm.Cond.fieldLink "SearchHouse" (565 : Nat) "SearchHouse" "sortDown" "Z") ∈ lw_all := lw_g (lw_at lw_m4 139 rfl) rfl
theorem q1112 : (Jvm.Cond.fieldLink "SearchHouse" (281 : Nat) "SearchHouse" "hits" "[I") ∈ lw_all := lw_g (lw_at lw_m4 140 rfl) rfl
theorem q1113 : (Jvm.Cond.fieldLink "SearchHouse" (284 : Nat) "SearchHouse" "scores" "[J") ∈ lw_all := lw_g (lw_at lw_m4 141 rfl) rfl
theorem q1114 : (Jvm.Cond.fieldLink "SearchHouse" (287 : Nat) "SearchHouse" "sortKeys" "[J") ∈ lw_all := lw_g (lw_at lw_m4 142 rfl) rfl
theorem q1115 : (Jvm.Cond.fieldLink "SearchHouse" (290 : Nat) "SearchHouse" "sorted" "[Z") ∈ lw_all := lw_g (lw_at lw_m4 143 rfl) rfl
theorem q1116 : (Jvm.Cond.fieldLink "SearchHouse" (547 : Nat) "SearchHouse" "hitCount" "I") ∈ lw_all := lw_g (lw_at lw_m4 144 rfl) rfl
theorem q1117 : (Jvm.Cond.fieldLink "SearchHouse" (550 : Nat) "SearchHouse" "isSearch" "Z") ∈ lw_all := lw_g (lw_at lw_m4 145 rfl) rfl
theorem q1118 : (Jvm.Cond.fieldLink "SearchHouse" (293 : Nat) "SearchHouse" "markValues" "[I") ∈ lw_all := lw_g (lw_at lw_m4 146 rfl) rfl
theorem q1119 : (Jvm.Cond.fieldLink "SearchHouse" (296 : Nat) "SearchHouse" "markStarts" "[I") ∈ lw_all := lw_g (lw_at lw_m4 147 rfl) rfl
theorem q1120 : (Jvm.Cond.fieldLink "SearchHouse" (299 : Nat) "SearchHouse" "markEnds" "[I") ∈ lw_all := lw_g (lw_at lw_m4 148 rfl) rfl
theorem q1121 : (Jvm.Cond.fieldLink "SearchHouse" (556 : Nat) "SearchHouse" "markCount" "I") ∈ lw_all := lw_g (lw_at lw_m4 149 rfl) rfl
theorem q1122 : (Jvm.Cond.fieldLink "SearchHouse" (302 : Nat) "SearchHouse" "groups" "[J") ∈ lw_all := lw_g (lw_at lw_m4 150 rfl) rfl
theorem q1123 : (Jvm.Cond.fieldLink "SearchHouse" (305 : Nat) "SearchHouse" "groupCounts" "[I") ∈ lw_all := lw_g (lw_at lw_m4 151 rfl) rfl
theorem q1124 : (Jvm.Cond.fieldLink "SearchHouse" (308 : Nat) "SearchHouse" "groupHits" "[I") ∈ lw_all := lw_g (lw_at lw_m4 152 rfl) rfl
theorem q1125 : (Jvm.Cond.fieldLink "SearchHouse" (559 : Nat) "SearchHouse" "groupCount" "I") ∈ lw_all := lw_g (lw_at lw_m4 153 rfl) rfl
theorem q1126 : (Jvm.Cond.fieldLink "SearchHouse" (642 : Nat) "SearchHouse" "ofWords" "Z") ∈ lw_all := lw_g (lw_at lw_m4 154 rfl) rfl
theorem q1127 : (Jvm.Cond.fieldLink "SearchHouse" (311 : Nat) "SearchHouse" "groupsOf" "[I") ∈ lw_all := lw_g (lw_at lw_m4 155 rfl) rfl
theorem q1128 : (Jvm.Cond.fieldLink "SearchHouse" (314 : Nat) "SearchHouse" "lastHits" "[I") ∈ lw_all := lw_g (lw_at lw_m4 156 rfl) rfl
theorem q1129 : (Jvm.Cond.fieldLink "SearchHouse" (317 : Nat) "SearchHouse" "told10" "[I") ∈ lw_all := lw_g (lw_at lw_m4 157 rfl) rfl
theorem q1130 : (Jvm.Cond.fieldLink "SearchHouse" (320 : Nat) "SearchHouse" "toldObjects" "[I") ∈ lw_all := lw_g (lw_at lw_m4 158 rfl) rfl
theorem q1131 : (Jvm.Cond.fieldLink "SearchHouse" (323 : Nat) "SearchHouse" "toldChanges" "[I") ∈ lw_all := lw_g (lw_at lw_m4 159 rfl) rfl
theorem q1132 : (Jvm.Cond.fieldLink "SearchHouse" (326 : Nat) "SearchHouse" "toldBytes" "[B") ∈ lw_all := lw_g (lw_at lw_m4 160 rfl) rfl
theorem q1133 : (Jvm.Cond.fieldLink "SearchHouse" (329 : Nat) "SearchHouse" "toldSizes" "[I") ∈ lw_all := lw_g (lw_at lw_m4 161 rfl) rfl
theorem q1134 : (Jvm.Cond.fieldLink "SearchHouse" (668 : Nat) "SearchHouse" "toldCount" "I") ∈ lw_all := lw_g (lw_at lw_m4 162 rfl) rfl
theorem q1135 : (Jvm.Cond.fieldLink "SearchHouse" (332 : Nat) "SearchHouse" "often" "[I") ∈ lw_all := lw_g (lw_at lw_m4 163 rfl) rfl
theorem q1136 : (Jvm.Cond.fieldLink "SearchHouse" (335 : Nat) "SearchHouse" "best" "[I") ∈ lw_all := lw_g (lw_at lw_m4 164 rfl) rfl
theorem q1137 : (Jvm.Cond.fieldLink "SearchHouse" (338 : Nat) "SearchHouse" "weights" "[J") ∈ lw_all := lw_g (lw_at lw_m4 165 rfl) rfl
theorem q1138 : (Jvm.Cond.fieldLink "SearchHouse" (693 : Nat) "SearchHouse" "bestCount" "I") ∈ lw_all := lw_g (lw_at lw_m4 166 rfl) rfl
theorem q1139 : (Jvm.Cond.fieldLink "SearchHouse" (341 : Nat) "SearchHouse" "matching" "[I") ∈ lw_all := lw_g (lw_at lw_m4 167 rfl) rfl
theorem q1140 : (Jvm.Cond.fieldLink "SearchHouse" (720 : Nat) "SearchHouse" "matchingCount" "I") ∈ lw_all := lw_g (lw_at lw_m4 168 rfl) rfl
theorem q1141 : (Jvm.Cond.fieldLink "SearchHouse" (344 : Nat) "SearchHouse" "shards" "I") ∈ lw_all := lw_g (lw_at lw_m4 169 rfl) rfl
theorem q1142 : (Jvm.Cond.fieldLink "SearchHouse" (347 : Nat) "SearchHouse" "nodes" "I") ∈ lw_all := lw_g (lw_at lw_m4 170 rfl) rfl
theorem q1143 : (Jvm.Cond.fieldLink "SearchHouse" (350 : Nat) "SearchHouse" "lost" "[Z") ∈ lw_all := lw_g (lw_at lw_m4 171 rfl) rfl
theorem q1144 : (Jvm.Cond.fieldLink "SearchHouse" (353 : Nat) "SearchHouse" "askedAt" "[I") ∈ lw_all := lw_g (lw_at lw_m4 172 rfl) rfl
theorem q1145 : (Jvm.Cond.fieldLink "SearchHouse" (356 : Nat) "SearchHouse" "out" "[B") ∈ lw_all := lw_g (lw_at lw_m4 173 rfl) rfl
theorem q1146 : (Jvm.Cond.fieldLink "SearchHouse" (741 : Nat) "SearchHouse" "outSize" "I") ∈ lw_all := lw_g (lw_at lw_m4 174 rfl) rfl
theorem q1147 : (Jvm.Cond.fieldLink "SearchHouse" (729 : Nat) "SearchHouse" "outCount" "I") ∈ lw_all := lw_g (lw_at lw_m4 175 rfl) rfl
theorem q1148 : (Jvm.Cond.fieldLink "SearchHouse" (359 : Nat) "SearchHouse" "spare" "[B") ∈ lw_all := lw_g (lw_at lw_m4 176 rfl) rfl
theorem q1149 : (Jvm.Cond.fieldLink "SearchHouse" (365 : Nat) "SearchHouse" "importer" "LSearchHouse$Importer;") ∈ lw_all := lw_g (lw_at lw_m4 177 rfl) rfl
theorem q1150 : (Jvm.Cond.laysFinal "SearchHouse" "SearchHouse" "tape" "[B") ∈ lw_all := lw_g (lw_at lw_m4 178 rfl) rfl
theorem q1151 : (Jvm.Cond.soleField "SearchHouse" "tape") ∈ lw_all := lw_g (lw_at lw_m4 179 rfl) rfl
theorem q1152 : (Jvm.Cond.lays "SearchHouse" "SearchHouse" "size" "I") ∈ lw_all := lw_g (lw_at lw_m4 180 rfl) rfl
theorem q1153 : (Jvm.Cond.soleField "SearchHouse" "size") ∈ lw_all := lw_g (lw_at lw_m4 181 rfl) rfl
theorem q1154 : (Jvm.Cond.laysFinal "SearchHouse" "SearchHouse" "word" "[B") ∈ lw_all := lw_g (lw_at lw_m4 182 rfl) rfl
theorem q1155 : (Jvm.Cond.soleField "SearchHouse" "word") ∈ lw_all := lw_g (lw_at lw_m4 183 rfl) rfl
theorem q1156 : (Jvm.Cond.laysFinal "SearchHouse" "SearchHouse" "analysers" "[LSearchHouse$Analyser;") ∈ lw_all := lw_g (lw_at lw_m4 184 rfl) rfl
theorem q1157 : (Jvm.Cond.soleField "SearchHouse" "analysers") ∈ lw_all := lw_g (lw_at lw_m4 185 rfl) rfl
theorem q1158 : (Jvm.Cond.lays "SearchHouse" "SearchHouse" "analyserCount" "I") ∈ lw_all := lw_g (lw_at lw_m4 186 rfl) rfl
theorem q1159 : (Jvm.Cond.soleField "SearchHouse" "analyserCount") ∈ lw_all := lw_g (lw_at lw_m4 187 rfl) rfl
theorem q1160 : (Jvm.Cond.laysFinal "SearchHouse" "SearchHouse" "told" "LSearchHouse$Tokens;") ∈ lw_all := lw_g (lw_at lw_m4 188 rfl) rfl
theorem q1161 : (Jvm.Cond.soleField "SearchHouse" "told") ∈ lw_all := lw_g (lw_at lw_m4 189 rfl) rfl
theorem q1162 : (Jvm.Cond.laysFinal "SearchHouse" "SearchHouse" "work" "LSearchHouse$Tokens;") ∈ lw_all := lw_g (lw_at lw_m4 190 rfl) rfl
theorem q1163 : (Jvm.Cond.soleField "SearchHouse" "work") ∈ lw_all := lw_g (lw_at lw_m4 191 rfl) rfl
theorem q1164 : (Jvm.Cond.laysFinal "SearchHouse" "SearchHouse" "fieldKinds" "[I") ∈ lw_all := lw_g (lw_at lw_m4 192 rfl) rfl
theorem q1165 : (Jvm.Cond.soleField "SearchHouse" "fieldKinds") ∈ lw_all := lw_g (lw_at lw_m4 193 rfl) rfl
theorem q1166 : (Jvm.Cond.laysFinal "SearchHouse" "SearchHouse" "fieldAnalysers" "[I") ∈ lw_all := lw_g (lw_at lw_m4 194 rfl) rfl
theorem q1167 : (Jvm.Cond.soleField "SearchHouse" "fieldAnalysers") ∈ lw_all := lw_g (lw_at lw_m4 195 rfl) rfl
theorem q1168 : (Jvm.Cond.lays "SearchHouse" "SearchHouse" "fieldCount" "I") ∈ lw_all := lw_g (lw_at lw_m4 196 rfl) rfl
theorem q1169 : (Jvm.Cond.soleField "SearchHouse" "fieldCount") ∈ lw_all := lw_g (lw_at lw_m4 197 rfl) rfl
theorem q1170 : (Jvm.Cond.laysFinal "SearchHouse" "SearchHouse" "terms" "LSearchHouse$Terms;") ∈ lw_all := lw_g (lw_at lw_m4 198 rfl) rfl
theorem q1171 : (Jvm.Cond.soleField "SearchHouse" "terms") ∈ lw_all := lw_g (lw_at lw_m4 199 rfl) rfl
theorem q1172 : (Jvm.Cond.laysFinal "SearchHouse" "SearchHouse" "valueFields" "[B") ∈ lw_all := lw_g (lw_at lw_m4 200 rfl) rfl
theorem q1173 : (Jvm.Cond.soleField "SearchHouse" "valueFields") ∈ lw_all := lw_g (lw_at lw_m4 201 rfl) rfl
theorem q1174 : (Jvm.Cond.laysFinal "SearchHouse" "SearchHouse" "valueObjects" "[S") ∈ lw_all := lw_g (lw_at lw_m4 202 rfl) rfl
theorem q1175 : (Jvm.Cond.soleField "SearchHouse" "valueObjects") ∈ lw_all := lw_g (lw_at lw_m4 203 rfl) rfl
theorem q1176 : (Jvm.Cond.laysFinal "SearchHouse" "SearchHouse" "valueStarts" "[I") ∈ lw_all := lw_g (lw_at lw_m4 204 rfl) rfl
theorem q1177 : (Jvm.Cond.soleField "SearchHouse" "valueStarts") ∈ lw_all := lw_g (lw_at lw_m4 205 rfl) rfl
theorem q1178 : (Jvm.Cond.laysFinal "SearchHouse" "SearchHouse" "valueSizes" "[I") ∈ lw_all := lw_g (lw_at lw_m4 206 rfl) rfl
theorem q1179 : (Jvm.Cond.soleField "SearchHouse" "valueSizes") ∈ lw_all := lw_g (lw_at lw_m4 207 rfl) rfl
theorem q1180 : (Jvm.Cond.laysFinal "SearchHouse" "SearchHouse" "valueNumbers" "[J") ∈ lw_all := lw_g (lw_at lw_m4 208 rfl) rfl
theorem q1181 : (Jvm.Cond.soleField "SearchHouse" "valueNumbers") ∈ lw_all := lw_g (lw_at lw_m4 209 rfl) rfl
theorem q1182 : (Jvm.Cond.laysFinal "SearchHouse" "SearchHouse" "valueTokens" "[I") ∈ lw_all := lw_g (lw_at lw_m4 210 rfl) rfl
theorem q1183 : (Jvm.Cond.soleField "SearchHouse" "valueTokens") ∈ lw_all := lw_g (lw_at lw_m4 211 rfl) rfl
theorem q1184 : (Jvm.Cond.laysFinal "SearchHouse" "SearchHouse" "valueTokenCounts" "[I") ∈ lw_all := lw_g (lw_at lw_m4 212 rfl) rfl
theorem q1185 : (Jvm.Cond.soleField "SearchHouse" "valueTokenCounts") ∈ lw_all := lw_g (lw_at lw_m4 213 rfl) rfl
theorem q1186 : (Jvm.Cond.laysFinal "SearchHouse" "SearchHouse" "valueTerms" "[I") ∈ lw_all := lw_g (lw_at lw_m4 214 rfl) rfl
theorem q1187 : (Jvm.Cond.soleField "SearchHouse" "valueTerms") ∈ lw_all := lw_g (lw_at lw_m4 215 rfl) rfl
theorem q1188 : (Jvm.Cond.laysFinal "SearchHouse" "SearchHouse" "valueNexts" "[I") ∈ lw_all := lw_g (lw_at lw_m4 216 rfl) rfl
theorem q1189 : (Jvm.Cond.soleField "SearchHouse" "valueNexts") ∈ lw_all := lw_g (lw_at lw_m4 217 rfl) rfl
theorem q1190 : (Jvm.Cond.lays "SearchHouse" "SearchHouse" "valueCount" "I") ∈ lw_all := lw_g (lw_at lw_m4 218 rfl) rfl
theorem q1191 : (Jvm.Cond.soleField "SearchHouse" "valueCount") ∈ lw_all := lw_g (lw_at lw_m4 219 rfl) rfl
theorem q1192 : (Jvm.Cond.laysFinal "SearchHouse" "SearchHouse" "heap" "[B") ∈ lw_all := lw_g (lw_at lw_m4 220 rfl) rfl
theorem q1193 : (Jvm.Cond.soleField "SearchHouse" "heap") ∈ lw_all := lw_g (lw_at lw_m4 221 rfl) rfl
theorem q1194 : (Jvm.Cond.lays "SearchHouse" "SearchHouse" "heapSize" "I") ∈ lw_all := lw_g (lw_at lw_m4 222 rfl) rfl
theorem q1195 : (Jvm.Cond.soleField "SearchHouse" "heapSize") ∈ lw_all := lw_g (lw_at lw_m4 223 rfl) rfl
theorem q1196 : (Jvm.Cond.laysFinal "SearchHouse" "SearchHouse" "tokenTerms" "[I") ∈ lw_all := lw_g (lw_at lw_m4 224 rfl) rfl
theorem q1197 : (Jvm.Cond.soleField "SearchHouse" "tokenTerms") ∈ lw_all := lw_g (lw_at lw_m4 225 rfl) rfl
theorem q1198 : (Jvm.Cond.laysFinal "SearchHouse" "SearchHouse" "tokenNexts" "[I") ∈ lw_all := lw_g (lw_at lw_m4 226 rfl) rfl
theorem q1199 : (Jvm.Cond.soleField "SearchHouse" "tokenNexts") ∈ lw_all := lw_g (lw_at lw_m4 227 rfl) rfl
theorem q1200 : (Jvm.Cond.laysFinal "SearchHouse" "SearchHouse" "tokenValues" "[S") ∈ lw_all := lw_g (lw_at lw_m4 228 rfl) rfl
theorem q1201 : (Jvm.Cond.soleField "SearchHouse" "tokenValues") ∈ lw_all := lw_g (lw_at lw_m4 229 rfl) rfl
theorem q1202 : (Jvm.Cond.laysFinal "SearchHouse" "SearchHouse" "tokenPositions" "[S") ∈ lw_all := lw_g (lw_at lw_m4 230 rfl) rfl
theorem q1203 : (Jvm.Cond.soleField "SearchHouse" "tokenPositions") ∈ lw_all := lw_g (lw_at lw_m4 231 rfl) rfl
theorem q1204 : (Jvm.Cond.laysFinal "SearchHouse" "SearchHouse" "tokenStarts" "[S") ∈ lw_all := lw_g (lw_at lw_m4 232 rfl) rfl
theorem q1205 : (Jvm.Cond.soleField "SearchHouse" "tokenStarts") ∈ lw_all := lw_g (lw_at lw_m4 233 rfl) rfl
theorem q1206 : (Jvm.Cond.laysFinal "SearchHouse" "SearchHouse" "tokenEnds" "[S") ∈ lw_all := lw_g (lw_at lw_m4 234 rfl) rfl
theorem q1207 : (Jvm.Cond.soleField "SearchHouse" "tokenEnds") ∈ lw_all := lw_g (lw_at lw_m4 235 rfl) rfl
theorem q1208 : (Jvm.Cond.lays "SearchHouse" "SearchHouse" "tokenCount" "I") ∈ lw_all := lw_g (lw_at lw_m4 236 rfl) rfl
theorem q1209 : (Jvm.Cond.soleField "SearchHouse" "tokenCount") ∈ lw_all := lw_g (lw_at lw_m4 237 rfl) rfl
theorem q1210 : (Jvm.Cond.lays "SearchHouse" "SearchHouse" "wordCount" "I") ∈ lw_all := lw_g (lw_at lw_m4 238 rfl) rfl
theorem q1211 : (Jvm.Cond.soleField "SearchHouse" "wordCount") ∈ lw_all := lw_g (lw_at lw_m4 239 rfl) rfl
theorem q1212 : (Jvm.Cond.lays "SearchHouse" "SearchHouse" "draftFirst" "I") ∈ lw_all := lw_g (lw_at lw_m5 0 rfl) rfl
theorem q1213 : (Jvm.Cond.soleField "SearchHouse" "draftFirst") ∈ lw_all := lw_g (lw_at lw_m5 1 rfl) rfl
theorem q1214 : (Jvm.Cond.lays "SearchHouse" "SearchHouse" "draftTerms" "I") ∈ lw_all := lw_g (lw_at lw_m5 2 rfl) rfl
theorem q1215 : (Jvm.Cond.soleField "SearchHouse" "draftTerms") ∈ lw_all := lw_g (lw_at lw_m5 3 rfl) rfl
theorem q1216 : (Jvm.Cond.laysFinal "SearchHouse" "SearchHouse" "firsts" "[I") ∈ lw_all := lw_g (lw_at lw_m5 4 rfl) rfl
theorem q1217 : (Jvm.Cond.soleField "SearchHouse" "firsts") ∈ lw_all := lw_g (lw_at lw_m5 5 rfl) rfl
theorem q1218 : (Jvm.Cond.laysFinal "SearchHouse" "SearchHouse" "counts" "[I") ∈ lw_all := lw_g (lw_at lw_m5 6 rfl) rfl
theorem q1219 : (Jvm.Cond.soleField "SearchHouse" "counts") ∈ lw_all := lw_g (lw_at lw_m5 7 rfl) rfl
theorem q1220 : (Jvm.Cond.laysFinal "SearchHouse" "SearchHouse" "parents" "[I") ∈ lw_all := lw_g (lw_at lw_m5 8 rfl) rfl
theorem q1221 : (Jvm.Cond.soleField "SearchHouse" "parents") ∈ lw_all := lw_g (lw_at lw_m5 9 rfl) rfl
theorem q1222 : (Jvm.Cond.laysFinal "SearchHouse" "SearchHouse" "cames" "[I") ∈ lw_all := lw_g (lw_at lw_m5 10 rfl) rfl
theorem q1223 : (Jvm.Cond.soleField "SearchHouse" "cames") ∈ lw_all := lw_g (lw_at lw_m5 11 rfl) rfl
theorem q1224 : (Jvm.Cond.laysFinal "SearchHouse" "SearchHouse" "gones" "[I") ∈ lw_all := lw_g (lw_at lw_m5 12 rfl) rfl
theorem q1225 : (Jvm.Cond.soleField "SearchHouse" "gones") ∈ lw_all := lw_g (lw_at lw_m5 13 rfl) rfl
theorem q1226 : (Jvm.Cond.laysFinal "SearchHouse" "SearchHouse" "held" "[Z") ∈ lw_all := lw_g (lw_at lw_m5 14 rfl) rfl
theorem q1227 : (Jvm.Cond.soleField "SearchHouse" "held") ∈ lw_all := lw_g (lw_at lw_m5 15 rfl) rfl
theorem q1228 : (Jvm.Cond.lays "SearchHouse" "SearchHouse" "next" "I") ∈ lw_all := lw_g (lw_at lw_m5 16 rfl) rfl
theorem q1229 : (Jvm.Cond.soleField "SearchHouse" "next") ∈ lw_all := lw_g (lw_at lw_m5 17 rfl) rfl
theorem q1230 : (Jvm.Cond.lays "SearchHouse" "SearchHouse" "version" "I") ∈ lw_all := lw_g (lw_at lw_m5 18 rfl) rfl
theorem q1231 : (Jvm.Cond.soleField "SearchHouse" "version") ∈ lw_all := lw_g (lw_at lw_m5 19 rfl) rfl
theorem q1232 : (Jvm.Cond.lays "SearchHouse" "SearchHouse" "greatest" "I") ∈ lw_all := lw_g (lw_at lw_m5 20 rfl) rfl
theorem q1233 : (Jvm.Cond.soleField "SearchHouse" "greatest") ∈ lw_all := lw_g (lw_at lw_m5 21 rfl) rfl
theorem q1234 : (Jvm.Cond.lays "SearchHouse" "SearchHouse" "committed" "I") ∈ lw_all := lw_g (lw_at lw_m5 22 rfl) rfl
theorem q1235 : (Jvm.Cond.soleField "SearchHouse" "committed") ∈ lw_all := lw_g (lw_at lw_m5 23 rfl) rfl
theorem q1236 : (Jvm.Cond.laysFinal "SearchHouse" "SearchHouse" "pins" "[I") ∈ lw_all := lw_g (lw_at lw_m5 24 rfl) rfl
theorem q1237 : (Jvm.Cond.soleField "SearchHouse" "pins") ∈ lw_all := lw_g (lw_at lw_m5 25 rfl) rfl
theorem q1238 : (Jvm.Cond.laysFinal "SearchHouse" "SearchHouse" "moved" "[I") ∈ lw_all := lw_g (lw_at lw_m5 26 rfl) rfl
theorem q1239 : (Jvm.Cond.soleField "SearchHouse" "moved") ∈ lw_all := lw_g (lw_at lw_m5 27 rfl) rfl
theorem q1240 : (Jvm.Cond.laysFinal "SearchHouse" "SearchHouse" "users" "[LSearchHouse$User;") ∈ lw_all := lw_g (lw_at lw_m5 28 rfl) rfl
theorem q1241 : (Jvm.Cond.soleField "SearchHouse" "users") ∈ lw_all := lw_g (lw_at lw_m5 29 rfl) rfl
theorem q1242 : (Jvm.Cond.lays "SearchHouse" "SearchHouse" "user" "I") ∈ lw_all := lw_g (lw_at lw_m5 30 rfl) rfl
theorem q1243 : (Jvm.Cond.soleField "SearchHouse" "user") ∈ lw_all := lw_g (lw_at lw_m5 31 rfl) rfl
theorem q1244 : (Jvm.Cond.laysFinal "SearchHouse" "SearchHouse" "question" "LSearchHouse$Question;") ∈ lw_all := lw_g (lw_at lw_m5 32 rfl) rfl
theorem q1245 : (Jvm.Cond.soleField "SearchHouse" "question") ∈ lw_all := lw_g (lw_at lw_m5 33 rfl) rfl
theorem q1246 : (Jvm.Cond.lays "SearchHouse" "SearchHouse" "hasQuestion" "Z") ∈ lw_all := lw_g (lw_at lw_m5 34 rfl) rfl
theorem q1247 : (Jvm.Cond.soleField "SearchHouse" "hasQuestion") ∈ lw_all := lw_g (lw_at lw_m5 35 rfl) rfl
theorem q1248 : (Jvm.Cond.laysFinal "SearchHouse" "SearchHouse" "draft" "LSearchHouse$Question;") ∈ lw_all := lw_g (lw_at lw_m5 36 rfl) rfl
theorem q1249 : (Jvm.Cond.soleField "SearchHouse" "draft") ∈ lw_all := lw_g (lw_at lw_m5 37 rfl) rfl
theorem q1250 : (Jvm.Cond.laysFinal "SearchHouse" "SearchHouse" "kept" "[LSearchHouse$Question;") ∈ lw_all := lw_g (lw_at lw_m5 38 rfl) rfl
theorem q1251 : (Jvm.Cond.soleField "SearchHouse" "kept") ∈ lw_all := lw_g (lw_at lw_m5 39 rfl) rfl
theorem q1252 : (Jvm.Cond.lays "SearchHouse" "SearchHouse" "keptCount" "I") ∈ lw_all := lw_g (lw_at lw_m5 40 rfl) rfl
theorem q1253 : (Jvm.Cond.soleField "SearchHouse" "keptCount") ∈ lw_all := lw_g (lw_at lw_m5 41 rfl) rfl
theorem q1254 : (Jvm.Cond.laysFinal "SearchHouse" "SearchHouse" "reader" "LSearchHouse$Reader;") ∈ lw_all := lw_g (lw_at lw_m5 42 rfl) rfl
theorem q1255 : (Jvm.Cond.soleField "SearchHouse" "reader") ∈ lw_all := lw_g (lw_at lw_m5 43 rfl) rfl
theorem q1256 : (Jvm.Cond.laysFinal "SearchHouse" "SearchHouse" "table" "[I") ∈ lw_all := lw_g (lw_at lw_m5 44 rfl) rfl
theorem q1257 : (Jvm.Cond.soleField "SearchHouse" "table") ∈ lw_all := lw_g (lw_at lw_m5 45 rfl) rfl
theorem q1258 : (Jvm.Cond.laysFinal "SearchHouse" "SearchHouse" "marked" "[Z") ∈ lw_all := lw_g (lw_at lw_m5 46 rfl) rfl
theorem q1259 : (Jvm.Cond.soleField "SearchHouse" "marked") ∈ lw_all := lw_g (lw_at lw_m5 47 rfl) rfl
theorem q1260 : (Jvm.Cond.laysFinal "SearchHouse" "SearchHouse" "lineDepths" "[I") ∈ lw_all := lw_g (lw_at lw_m5 48 rfl) rfl
theorem q1261 : (Jvm.Cond.soleField "SearchHouse" "lineDepths") ∈ lw_all := lw_g (lw_at lw_m5 49 rfl) rfl
theorem q1262 : (Jvm.Cond.laysFinal "SearchHouse" "SearchHouse" "lineKinds" "[I") ∈ lw_all := lw_g (lw_at lw_m5 50 rfl) rfl
theorem q1263 : (Jvm.Cond.soleField "SearchHouse" "lineKinds") ∈ lw_all := lw_g (lw_at lw_m5 51 rfl) rfl
theorem q1264 : (Jvm.Cond.laysFinal "SearchHouse" "SearchHouse" "lineScores" "[J") ∈ lw_all := lw_g (lw_at lw_m5 52 rfl) rfl
theorem q1265 : (Jvm.Cond.soleField "SearchHouse" "lineScores") ∈ lw_all := lw_g (lw_at lw_m5 53 rfl) rfl
theorem q1266 : (Jvm.Cond.laysFinal "SearchHouse" "SearchHouse" "lineFounds" "[I") ∈ lw_all := lw_g (lw_at lw_m5 54 rfl) rfl
theorem q1267 : (Jvm.Cond.soleField "SearchHouse" "lineFounds") ∈ lw_all := lw_g (lw_at lw_m5 55 rfl) rfl
theorem q1268 : (Jvm.Cond.lays "SearchHouse" "SearchHouse" "lineCount" "I") ∈ lw_all := lw_g (lw_at lw_m5 56 rfl) rfl
theorem q1269 : (Jvm.Cond.soleField "SearchHouse" "lineCount") ∈ lw_all := lw_g (lw_at lw_m5 57 rfl) rfl
theorem q1270 : (Jvm.Cond.laysFinal "SearchHouse" "SearchHouse" "asked" "LSearchHouse$Asking;") ∈ lw_all := lw_g (lw_at lw_m5 58 rfl) rfl
theorem q1271 : (Jvm.Cond.soleField "SearchHouse" "asked") ∈ lw_all := lw_g (lw_at lw_m5 59 rfl) rfl
theorem q1272 : (Jvm.Cond.laysFinal "SearchHouse" "SearchHouse" "other" "LSearchHouse$Asking;") ∈ lw_all := lw_g (lw_at lw_m5 60 rfl) rfl
theorem q1273 : (Jvm.Cond.soleField "SearchHouse" "other") ∈ lw_all := lw_g (lw_at lw_m5 61 rfl) rfl
theorem q1274 : (Jvm.Cond.laysFinal "SearchHouse" "SearchHouse" "hider" "LSearchHouse$Asking;") ∈ lw_all := lw_g (lw_at lw_m5 62 rfl) rfl
theorem q1275 : (Jvm.Cond.soleField "SearchHouse" "hider") ∈ lw_all := lw_g (lw_at lw_m5 63 rfl) rfl
theorem q1276 : (Jvm.Cond.lays "SearchHouse" "SearchHouse" "formula" "I") ∈ lw_all := lw_g (lw_at lw_m5 64 rfl) rfl
theorem q1277 : (Jvm.Cond.soleField "SearchHouse" "formula") ∈ lw_all := lw_g (lw_at lw_m5 65 rfl) rfl
theorem q1278 : (Jvm.Cond.lays "SearchHouse" "SearchHouse" "sortField" "I") ∈ lw_all := lw_g (lw_at lw_m5 66 rfl) rfl
theorem q1279 : (Jvm.Cond.soleField "SearchHouse" "sortField") ∈ lw_all := lw_g (lw_at lw_m5 67 rfl) rfl
theorem q1280 : (Jvm.Cond.lays "SearchHouse" "SearchHouse" "sortDown" "Z") ∈ lw_all := lw_g (lw_at lw_m5 68 rfl) rfl
theorem q1281 : (Jvm.Cond.soleField "SearchHouse" "sortDown") ∈ lw_all := lw_g (lw_at lw_m5 69 rfl) rfl
theorem q1282 : (Jvm.Cond.laysFinal "SearchHouse" "SearchHouse" "hits" "[I") ∈ lw_all := lw_g (lw_at lw_m5 70 rfl) rfl
theorem q1283 : (Jvm.Cond.soleField "SearchHouse" "hits") ∈ lw_all := lw_g (lw_at lw_m5 71 rfl) rfl
theorem q1284 : (Jvm.Cond.laysFinal "SearchHouse" "SearchHouse" "scores" "[J") ∈ lw_all := lw_g (lw_at lw_m5 72 rfl) rfl
theorem q1285 : (Jvm.Cond.soleField "SearchHouse" "scores") ∈ lw_all := lw_g (lw_at lw_m5 73 rfl) rfl
theorem q1286 : (Jvm.Cond.laysFinal "SearchHouse" "SearchHouse" "sortKeys" "[J") ∈ lw_all := lw_g (lw_at lw_m5 74 rfl) rfl
theorem q1287 : (Jvm.Cond.soleField "SearchHouse" "sortKeys") ∈ lw_all := lw_g (lw_at lw_m5 75 rfl) rfl
theorem q1288 : (Jvm.Cond.laysFinal "SearchHouse" "SearchHouse" "sorted" "[Z") ∈ lw_all := lw_g (lw_at lw_m5 76 rfl) rfl
theorem q1289 : (Jvm.Cond.soleField "SearchHouse" "sorted") ∈ lw_all := lw_g (lw_at lw_m5 77 rfl) rfl
theorem q1290 : (Jvm.Cond.lays "SearchHouse" "SearchHouse" "hitCount" "I") ∈ lw_all := lw_g (lw_at lw_m5 78 rfl) rfl
theorem q1291 : (Jvm.Cond.soleField "SearchHouse" "hitCount") ∈ lw_all := lw_g (lw_at lw_m5 79 rfl) rfl
theorem q1292 : (Jvm.Cond.lays "SearchHouse" "SearchHouse" "isSearch" "Z") ∈ lw_all := lw_g (lw_at lw_m5 80 rfl) rfl
theorem q1293 : (Jvm.Cond.soleField "SearchHouse" "isSearch") ∈ lw_all := lw_g (lw_at lw_m5 81 rfl) rfl
theorem q1294 : (Jvm.Cond.laysFinal "SearchHouse" "SearchHouse" "markValues" "[I") ∈ lw_all := lw_g (lw_at lw_m5 82 rfl) rfl
theorem q1295 : (Jvm.Cond.soleField "SearchHouse" "markValues") ∈ lw_all := lw_g (lw_at lw_m5 83 rfl) rfl
theorem q1296 : (Jvm.Cond.laysFinal "SearchHouse" "SearchHouse" "markStarts" "[I") ∈ lw_all := lw_g (lw_at lw_m5 84 rfl) rfl
theorem q1297 : (Jvm.Cond.soleField "SearchHouse" "markStarts") ∈ lw_all := lw_g (lw_at lw_m5 85 rfl) rfl
theorem q1298 : (Jvm.Cond.laysFinal "SearchHouse" "SearchHouse" "markEnds" "[I") ∈ lw_all := lw_g (lw_at lw_m5 86 rfl) rfl
theorem q1299 : (Jvm.Cond.soleField "SearchHouse" "markEnds") ∈ lw_all := lw_g (lw_at lw_m5 87 rfl) rfl
theorem q1300 : (Jvm.Cond.lays "SearchHouse" "SearchHouse" "markCount" "I") ∈ lw_all := lw_g (lw_at lw_m5 88 rfl) rfl
theorem q1301 : (Jvm.Cond.soleField "SearchHouse" "markCount") ∈ lw_all := lw_g (lw_at lw_m5 89 rfl) rfl
theorem q1302 : (Jvm.Cond.laysFinal "SearchHouse" "SearchHouse" "groups" "[J") ∈ lw_all := lw_g (lw_at lw_m5 90 rfl) rfl
theorem q1303 : (Jvm.Cond.soleField "SearchHouse" "groups") ∈ lw_all := lw_g (lw_at lw_m5 91 rfl) rfl
theorem q1304 : (Jvm.Cond.laysFinal "SearchHouse" "SearchHouse" "groupCounts" "[I") ∈ lw_all := lw_g (lw_at lw_m5 92 rfl) rfl
theorem q1305 : (Jvm.Cond.soleField "SearchHouse" "groupCounts") ∈ lw_all := lw_g (lw_at lw_m5 93 rfl) rfl
theorem q1306 : (Jvm.Cond.laysFinal "SearchHouse" "SearchHouse" "groupHits" "[I") ∈ lw_all := lw_g (lw_at lw_m5 94 rfl) rfl
theorem q1307 : (Jvm.Cond.soleField "SearchHouse" "groupHits") ∈ lw_all := lw_g (lw_at lw_m5 95 rfl) rfl
theorem q1308 : (Jvm.Cond.lays "SearchHouse" "SearchHouse" "groupCount" "I") ∈ lw_all := lw_g (lw_at lw_m5 96 rfl) rfl
theorem q1309 : (Jvm.Cond.soleField "SearchHouse" "groupCount") ∈ lw_all := lw_g (lw_at lw_m5 97 rfl) rfl
theorem q1310 : (Jvm.Cond.lays "SearchHouse" "SearchHouse" "ofWords" "Z") ∈ lw_all := lw_g (lw_at lw_m5 98 rfl) rfl
theorem q1311 : (Jvm.Cond.soleField "SearchHouse" "ofWords") ∈ lw_all := lw_g (lw_at lw_m5 99 rfl) rfl
theorem q1312 : (Jvm.Cond.laysFinal "SearchHouse" "SearchHouse" "groupsOf" "[I") ∈ lw_all := lw_g (lw_at lw_m5 100 rfl) rfl
theorem q1313 : (Jvm.Cond.soleField "SearchHouse" "groupsOf") ∈ lw_all := lw_g (lw_at lw_m5 101 rfl) rfl
theorem q1314 : (Jvm.Cond.laysFinal "SearchHouse" "SearchHouse" "lastHits" "[I") ∈ lw_all := lw_g (lw_at lw_m5 102 rfl) rfl
theorem q1315 : (Jvm.Cond.soleField "SearchHouse" "lastHits") ∈ lw_all := lw_g (lw_at lw_m5 103 rfl) rfl
theorem q1316 : (Jvm.Cond.laysFinal "SearchHouse" "SearchHouse" "told10" "[I") ∈ lw_all := lw_g (lw_at lw_m5 104 rfl) rfl
theorem q1317 : (Jvm.Cond.soleField "SearchHouse" "told10") ∈ lw_all := lw_g (lw_at lw_m5 105 rfl) rfl
theorem q1318 : (Jvm.Cond.laysFinal "SearchHouse" "SearchHouse" "toldObjects" "[I") ∈ lw_all := lw_g (lw_at lw_m5 106 rfl) rfl
theorem q1319 : (Jvm.Cond.soleField "SearchHouse" "toldObjects") ∈ lw_all := lw_g (lw_at lw_m5 107 rfl) rfl
theorem q1320 : (Jvm.Cond.laysFinal "SearchHouse" "SearchHouse" "toldChanges" "[I") ∈ lw_all := lw_g (lw_at lw_m5 108 rfl) rfl
theorem q1321 : (Jvm.Cond.soleField "SearchHouse" "toldChanges") ∈ lw_all := lw_g (lw_at lw_m5 109 rfl) rfl
theorem q1322 : (Jvm.Cond.laysFinal "SearchHouse" "SearchHouse" "toldBytes" "[B") ∈ lw_all := lw_g (lw_at lw_m5 110 rfl) rfl
theorem q1323 : (Jvm.Cond.soleField "SearchHouse" "toldBytes") ∈ lw_all := lw_g (lw_at lw_m5 111 rfl) rfl
theorem q1324 : (Jvm.Cond.laysFinal "SearchHouse" "SearchHouse" "toldSizes" "[I") ∈ lw_all := lw_g (lw_at lw_m5 112 rfl) rfl
theorem q1325 : (Jvm.Cond.soleField "SearchHouse" "toldSizes") ∈ lw_all := lw_g (lw_at lw_m5 113 rfl) rfl
theorem q1326 : (Jvm.Cond.lays "SearchHouse" "SearchHouse" "toldCount" "I") ∈ lw_all := lw_g (lw_at lw_m5 114 rfl) rfl
theorem q1327 : (Jvm.Cond.soleField "SearchHouse" "toldCount") ∈ lw_all := lw_g (lw_at lw_m5 115 rfl) rfl
theorem q1328 : (Jvm.Cond.laysFinal "SearchHouse" "SearchHouse" "often" "[I") ∈ lw_all := lw_g (lw_at lw_m5 116 rfl) rfl
theorem q1329 : (Jvm.Cond.soleField "SearchHouse" "often") ∈ lw_all := lw_g (lw_at lw_m5 117 rfl) rfl
theorem q1330 : (Jvm.Cond.laysFinal "SearchHouse" "SearchHouse" "best" "[I") ∈ lw_all := lw_g (lw_at lw_m5 118 rfl) rfl
theorem q1331 : (Jvm.Cond.soleField "SearchHouse" "best") ∈ lw_all := lw_g (lw_at lw_m5 119 rfl) rfl
theorem q1332 : (Jvm.Cond.laysFinal "SearchHouse" "SearchHouse" "weights" "[J") ∈ lw_all := lw_g (lw_at lw_m5 120 rfl) rfl
theorem q1333 : (Jvm.Cond.soleField "SearchHouse" "weights") ∈ lw_all := lw_g (lw_at lw_m5 121 rfl) rfl
theorem q1334 : (Jvm.Cond.lays "SearchHouse" "SearchHouse" "bestCount" "I") ∈ lw_all := lw_g (lw_at lw_m5 122 rfl) rfl
theorem q1335 : (Jvm.Cond.soleField "SearchHouse" "bestCount") ∈ lw_all := lw_g (lw_at lw_m5 123 rfl) rfl
theorem q1336 : (Jvm.Cond.laysFinal "SearchHouse" "SearchHouse" "matching" "[I") ∈ lw_all := lw_g (lw_at lw_m5 124 rfl) rfl
theorem q1337 : (Jvm.Cond.soleField "SearchHouse" "matching") ∈ lw_all := lw_g (lw_at lw_m5 125 rfl) rfl
theorem q1338 : (Jvm.Cond.lays "SearchHouse" "SearchHouse" "matchingCount" "I") ∈ lw_all := lw_g (lw_at lw_m5 126 rfl) rfl
theorem q1339 : (Jvm.Cond.soleField "SearchHouse" "matchingCount") ∈ lw_all := lw_g (lw_at lw_m5 127 rfl) rfl
theorem q1340 : (Jvm.Cond.lays "SearchHouse" "SearchHouse" "shards" "I") ∈ lw_all := lw_g (lw_at lw_m5 128 rfl) rfl
theorem q1341 : (Jvm.Cond.soleField "SearchHouse" "shards") ∈ lw_all := lw_g (lw_at lw_m5 129 rfl) rfl
theorem q1342 : (Jvm.Cond.lays "SearchHouse" "SearchHouse" "nodes" "I") ∈ lw_all := lw_g (lw_at lw_m5 130 rfl) rfl
theorem q1343 : (Jvm.Cond.soleField "SearchHouse" "nodes") ∈ lw_all := lw_g (lw_at lw_m5 131 rfl) rfl
theorem q1344 : (Jvm.Cond.laysFinal "SearchHouse" "SearchHouse" "lost" "[Z") ∈ lw_all := lw_g (lw_at lw_m5 132 rfl) rfl
theorem q1345 : (Jvm.Cond.soleField "SearchHouse" "lost") ∈ lw_all := lw_g (lw_at lw_m5 133 rfl) rfl
theorem q1346 : (Jvm.Cond.laysFinal "SearchHouse" "SearchHouse" "askedAt" "[I") ∈ lw_all := lw_g (lw_at lw_m5 134 rfl) rfl
theorem q1347 : (Jvm.Cond.soleField "SearchHouse" "askedAt") ∈ lw_all := lw_g (lw_at lw_m5 135 rfl) rfl
theorem q1348 : (Jvm.Cond.laysFinal "SearchHouse" "SearchHouse" "out" "[B") ∈ lw_all := lw_g (lw_at lw_m5 136 rfl) rfl
theorem q1349 : (Jvm.Cond.soleField "SearchHouse" "out") ∈ lw_all := lw_g (lw_at lw_m5 137 rfl) rfl
theorem q1350 : (Jvm.Cond.lays "SearchHouse" "SearchHouse" "outSize" "I") ∈ lw_all := lw_g (lw_at lw_m5 138 rfl) rfl
theorem q1351 : (Jvm.Cond.soleField "SearchHouse" "outSize") ∈ lw_all := lw_g (lw_at lw_m5 139 rfl) rfl
theorem q1352 : (Jvm.Cond.lays "SearchHouse" "SearchHouse" "outCount" "I") ∈ lw_all := lw_g (lw_at lw_m5 140 rfl) rfl
theorem q1353 : (Jvm.Cond.soleField "SearchHouse" "outCount") ∈ lw_all := lw_g (lw_at lw_m5 141 rfl) rfl
theorem q1354 : (Jvm.Cond.laysFinal "SearchHouse" "SearchHouse" "spare" "[B") ∈ lw_all := lw_g (lw_at lw_m5 142 rfl) rfl
theorem q1355 : (Jvm.Cond.soleField "SearchHouse" "spare") ∈ lw_all := lw_g (lw_at lw_m5 143 rfl) rfl
theorem q1356 : (Jvm.Cond.laysFinal "SearchHouse" "SearchHouse" "importer" "LSearchHouse$Importer;") ∈ lw_all := lw_g (lw_at lw_m5 144 rfl) rfl
theorem q1357 : (Jvm.Cond.soleField "SearchHouse" "importer") ∈ lw_all := lw_g (lw_at lw_m5 145 rfl) rfl
theorem q1358 : (Jvm.Cond.superclass "SearchHouse" "java/lang/Object") ∈ lw_all := lw_g (lw_at lw_m5 146 rfl) rfl
theorem q1359 : (Jvm.Cond.methodLink "SearchHouseLaw" (53 : Nat) ({ cls := "SearchHouse", name := "text", desc := "(I)I" } : Jvm.MethodName)) ∈ lw_all := lw_g (lw_at lw_m5 147 rfl) rfl
theorem q1360 : (Jvm.Cond.instanceMethod ({ cls := "SearchHouse", name := "text", desc := "(I)I" } : Jvm.MethodName)) ∈ lw_all := lw_g (lw_at lw_m5 148 rfl) rfl
theorem q1361 : (Jvm.Cond.selects "SearchHouse" ({ cls := "SearchHouse", name := "text", desc := "(I)I" } : Jvm.MethodName) ({ cls := "SearchHouse", name := "text", desc := "(I)I" } : Jvm.MethodName)) ∈ lw_all := lw_g (lw_at lw_m5 149 rfl) rfl
theorem q1362 : (Jvm.Cond.code ({ cls := "SearchHouse", name := "text", desc := "(I)I" } : Jvm.MethodName) prog_1_method_22_code (3 : Nat) (Option.some Jvm.ClassFile.FieldType.int)) ∈ lw_all := lw_g (lw_at lw_m5 150 rfl) rfl
theorem q1363 : (Jvm.Cond.methodLink "SearchHouse" (388 : Nat) ({ cls := "SearchHouse", name := "isKind", desc := "(II)Z" } : Jvm.MethodName)) ∈ lw_all := lw_g (lw_at lw_m5 151 rfl) rfl
theorem q1364 : (Jvm.Cond.privateMethod ({ cls := "SearchHouse", name := "isKind", desc := "(II)Z" } : Jvm.MethodName)) ∈ lw_tbl := lw_at lw_m5 152 rfl
theorem q1365 : (Jvm.Cond.instanceMethod ({ cls := "SearchHouse", name := "isKind", desc := "(II)Z" } : Jvm.MethodName)) ∈ lw_all := lw_g (lw_at lw_m5 153 rfl) rfl
theorem q1366 : (Jvm.Cond.code ({ cls := "SearchHouse", name := "isKind", desc := "(II)Z" } : Jvm.MethodName) prog_1_method_17_code (3 : Nat) (Option.some Jvm.ClassFile.FieldType.boolean)) ∈ lw_all := lw_g (lw_at lw_m5 154 rfl) rfl
theorem q1367 : (Jvm.Cond.methodLink "SearchHouse" (116 : Nat) ({ cls := "SearchHouse", name := "isField", desc := "(I)Z" } : Jvm.MethodName)) ∈ lw_all := lw_g (lw_at lw_m5 155 rfl) rfl
theorem q1368 : (Jvm.Cond.privateMethod ({ cls := "SearchHouse", name := "isField", desc := "(I)Z" } : Jvm.MethodName)) ∈ lw_tbl := lw_at lw_m5 156 rfl
theorem q1369 : (Jvm.Cond.instanceMethod ({ cls := "SearchHouse", name := "isField", desc := "(I)Z" } : Jvm.MethodName)) ∈ lw_all := lw_g (lw_at lw_m5 157 rfl) rfl
theorem q1370 : (Jvm.Cond.code ({ cls := "SearchHouse", name := "isField", desc := "(I)Z" } : Jvm.MethodName) prog_1_method_16_code (2 : Nat) (Option.some Jvm.ClassFile.FieldType.boolean)) ∈ lw_all := lw_g (lw_at lw_m5 158 rfl) rfl
theorem q1371 : (Jvm.Cond.methodLink "SearchHouse" (391 : Nat) ({ cls := "SearchHouse", name := "addText", desc := "(I[BII)Z" } : Jvm.MethodName)) ∈ lw_all := lw_g (lw_at lw_m5 159 rfl) rfl
theorem q1372 : (Jvm.Cond.privateMethod ({ cls := "SearchHouse", name := "addText", desc := "(I[BII)Z" } : Jvm.MethodName)) ∈ lw_tbl := lw_at lw_m5 160 rfl
theorem q1373 : (Jvm.Cond.instanceMethod ({ cls := "SearchHouse", name := "addText", desc := "(I[BII)Z" } : Jvm.MethodName)) ∈ lw_all := lw_g (lw_at lw_m5 161 rfl) rfl
theorem q1374 : (Jvm.Cond.code ({ cls := "SearchHouse", name := "addText", desc := "(I[BII)Z" } : Jvm.MethodName) prog_1_method_23_code (9 : Nat) (Option.some Jvm.ClassFile.FieldType.boolean)) ∈ lw_all := lw_g (lw_at lw_m5 162 rfl) rfl
theorem q1375 : (Jvm.Cond.methodLink "SearchHouse" (398 : Nat) ({ cls := "SearchHouse", name := "mayCome", desc := "(II)Z" } : Jvm.MethodName)) ∈ lw_all := lw_g (lw_at lw_m5 163 rfl) rfl
theorem q1376 : (Jvm.Cond.privateMethod ({ cls := "SearchHouse", name := "mayCome", desc := "(II)Z" } : Jvm.MethodName)) ∈ lw_tbl := lw_at lw_m5 164 rfl
theorem q1377 : (Jvm.Cond.instanceMethod ({ cls := "SearchHouse", name := "mayCome", desc := "(II)Z" } : Jvm.MethodName)) ∈ lw_all := lw_g (lw_at lw_m5 165 rfl) rfl
theorem q1378 : (Jvm.Cond.code ({ cls := "SearchHouse", name := "mayCome", desc := "(II)Z" } : Jvm.MethodName) prog_1_method_20_code (3 : Nat) (Option.some Jvm.ClassFile.FieldType.boolean)) ∈ lw_all := lw_g (lw_at lw_m5 166 rfl) rfl
theorem q1379 : (Jvm.Cond.methodLink "SearchHouse" (401 : Nat) ({ cls := "java/lang/System", name := "arraycopy", desc := "(Ljava/lang/Object;ILjava/lang/Object;II)V" } : Jvm.MethodName)) ∈ lw_all := lw_g (lw_at lw_m5 167 rfl) rfl
theorem q1380 : (Jvm.Cond.methodLink "SearchHouse" (407 : Nat) ({ cls := "SearchHouse$Terms", name := "come", desc := "(I[BII)I" } : Jvm.MethodName)) ∈ lw_all := lw_g (lw_at lw_m5 168 rfl) rfl
theorem q1381 : (Jvm.Cond.instanceMethod ({ cls := "SearchHouse$Terms", name := "come", desc := "(I[BII)I" } : Jvm.MethodName)) ∈ lw_all := lw_g (lw_at lw_m5 169 rfl) rfl
theorem q1382 : (Jvm.Cond.selects "SearchHouse$Terms" ({ cls := "SearchHouse$Terms", name := "come", desc := "(I[BII)I" } : Jvm.MethodName) ({ cls := "SearchHouse$Terms", name := "come", desc := "(I[BII)I" } : Jvm.MethodName)) ∈ lw_all := lw_g (lw_at lw_m5 170 rfl) rfl
theorem q1383 : (Jvm.Cond.code ({ cls := "SearchHouse$Terms", name := "come", desc := "(I[BII)I" } : Jvm.MethodName) prog_9_method_6_code (8 : Nat) (Option.some Jvm.ClassFile.FieldType.int)) ∈ lw_all := lw_g (lw_at lw_m5 171 rfl) rfl
theorem q1384 : (Jvm.Cond.methodLink "SearchHouse$Terms" (44 : Nat) ({ cls := "java/lang/Math", name := "min", desc := "(II)I" } : Jvm.MethodName)) ∈ lw_all := lw_g (lw_at lw_m5 172 rfl) rfl
theorem q1385 : (Jvm.Cond.methodLink "SearchHouse$Terms" (58 : Nat) ({ cls := "SearchHouse$Terms", name := "find", desc := "(I[BII)I" } : Jvm.MethodName)) ∈ lw_all := lw_g (lw_at lw_m5 173 rfl) rfl
theorem q1386 : (Jvm.Cond.instanceMethod ({ cls := "SearchHouse$Terms", name := "find", desc := "(I[BII)I" } : Jvm.MethodName)) ∈ lw_all := lw_g (lw_at lw_m5 174 rfl) rfl
theorem q1387 : (Jvm.Cond.selects "SearchHouse$Terms" ({ cls := "SearchHouse$Terms", name := "find", desc := "(I[BII)I" } : Jvm.MethodName) ({ cls := "SearchHouse$Terms", name := "find", desc := "(I[BII)I" } : Jvm.MethodName)) ∈ lw_all := lw_g (lw_at lw_m5 175 rfl) rfl
theorem q1388 : (Jvm.Cond.code ({ cls := "SearchHouse$Terms", name := "find", desc := "(I[BII)I" } : Jvm.MethodName) prog_9_method_5_code (7 : Nat) (Option.some Jvm.ClassFile.FieldType.int)) ∈ lw_all := lw_g (lw_at lw_m5 176 rfl) rfl
theorem q1389 : (Jvm.Cond.methodLink "SearchHouse$Terms" (50 : Nat) ({ cls := "SearchHouse$Terms", name := "chainOf", desc := "(I[BII)I" } : Jvm.MethodName)) ∈ lw_all := lw_g (lw_at lw_m5 177 rfl) rfl
theorem q1390 : (Jvm.Cond.privateMethod ({ cls := "SearchHouse$Terms", name := "chainOf", desc := "(I[BII)I" } : Jvm.MethodName)) ∈ lw_tbl := lw_at lw_m5 178 rfl
theorem q1391 : (Jvm.Cond.instanceMethod ({ cls := "SearchHouse$Terms", name := "chainOf", desc := "(I[BII)I" } : Jvm.MethodName)) ∈ lw_all := lw_g (lw_at lw_m5 179 rfl) rfl
theorem q1392 : (Jvm.Cond.code ({ cls := "SearchHouse$Terms", name := "chainOf", desc := "(I[BII)I" } : Jvm.MethodName) prog_9_method_3_code (7 : Nat) (Option.some Jvm.ClassFile.FieldType.int)) ∈ lw_all := lw_g (lw_at lw_m5 180 rfl) rfl
theorem q1393 : (Jvm.Cond.methodLink "SearchHouse$Terms" (54 : Nat) ({ cls := "SearchHouse$Terms", name := "is", desc := "(II[BII)Z" } : Jvm.MethodName)) ∈ lw_all := lw_g (lw_at lw_m5 181 rfl) rfl
theorem q1394 : (Jvm.Cond.instanceMethod ({ cls := "SearchHouse$Terms", name := "is", desc := "(II[BII)Z" } : Jvm.MethodName)) ∈ lw_all := lw_g (lw_at lw_m5 182 rfl) rfl
theorem q1395 : (Jvm.Cond.selects "SearchHouse$Terms" ({ cls := "SearchHouse$Terms", name := "is", desc := "(II[BII)Z" } : Jvm.MethodName) ({ cls := "SearchHouse$Terms", name := "is", desc := "(II[BII)Z" } : Jvm.MethodName)) ∈ lw_all := lw_g (lw_at lw_m5 183 rfl) rfl
theorem q1396 : (Jvm.Cond.code ({ cls := "SearchHouse$Terms", name := "is", desc := "(II[BII)Z" } : Jvm.MethodName) prog_9_method_4_code (8 : Nat) (Option.some Jvm.ClassFile.FieldType.boolean)) ∈ lw_all := lw_g (lw_at lw_m5 184 rfl) rfl
theorem q1397 : (Jvm.Cond.methodLink "SearchHouse$Terms" (61 : Nat) ({ cls := "java/lang/System", name := "arraycopy", desc := "(Ljava/lang/Object;ILjava/lang/Object;II)V" } : Jvm.MethodName)) ∈ lw_all := lw_g (lw_at lw_m5 185 rfl) rfl
theorem q1398 : (Jvm.Cond.methodLink "SearchHouse" (395 : Nat) ({ cls := "SearchHouse", name := "came", desc := "(I)I" } : Jvm.MethodName)) ∈ lw_all := lw_g (lw_at lw_m5 186 rfl) rfl
theorem q1399 : (Jvm.Cond.privateMethod ({ cls := "SearchHouse", name := "came", desc := "(I)I" } : Jvm.MethodName)) ∈ lw_tbl := lw_at lw_m5 187 rfl
theorem q1400 : (Jvm.Cond.instanceMethod ({ cls := "SearchHouse", name := "came", desc := "(I)I" } : Jvm.MethodName)) ∈ lw_all := lw_g (lw_at lw_m5 188 rfl) rfl
theorem q1401 : (Jvm.Cond.code ({ cls := "SearchHouse", name := "came", desc := "(I)I" } : Jvm.MethodName) prog_1_method_21_code (2 : Nat) (Option.some Jvm.ClassFile.FieldType.int)) ∈ lw_all := lw_g (lw_at lw_m5 189 rfl) rfl
theorem q1402 : (Jvm.Cond.methodLink "SearchHouseLaw" (59 : Nat) ({ cls := "SearchHouse", name := "number", desc := "(IJ)I" } : Jvm.MethodName)) ∈ lw_all := lw_g (lw_at lw_m5 190 rfl) rfl
theorem q1403 : (Jvm.Cond.instanceMethod ({ cls := "SearchHouse", name := "number", desc := "(IJ)I" } : Jvm.MethodName)) ∈ lw_all := lw_g (lw_at lw_m5 191 rfl) rfl
theorem q1404 : (Jvm.Cond.selects "SearchHouse" ({ cls := "SearchHouse", name := "number", desc := "(IJ)I" } : Jvm.MethodName) ({ cls := "SearchHouse", name := "number", desc := "(IJ)I" } : Jvm.MethodName)) ∈ lw_all := lw_g (lw_at lw_m5 192 rfl) rfl
theorem q1405 : (Jvm.Cond.code ({ cls := "SearchHouse", name := "number", desc := "(IJ)I" } : Jvm.MethodName) prog_1_method_25_code (4 : Nat) (Option.some Jvm.ClassFile.FieldType.int)) ∈ lw_all := lw_g (lw_at lw_m5 193 rfl) rfl
theorem q1406 : (Jvm.Cond.methodLink "SearchHouse" (411 : Nat) ({ cls := "SearchHouse", name := "plain", desc := "(IJ)I" } : Jvm.MethodName)) ∈ lw_all := lw_g (lw_at lw_m5 194 rfl) rfl
theorem q1407 : (Jvm.Cond.privateMethod ({ cls := "SearchHouse", name := "plain", desc := "(IJ)I" } : Jvm.MethodName)) ∈ lw_tbl := lw_at lw_m5 195 rfl
theorem q1408 : (Jvm.Cond.instanceMethod ({ cls := "SearchHouse", name := "plain", desc := "(IJ)I" } : Jvm.MethodName)) ∈ lw_all := lw_g (lw_at lw_m5 196 rfl) rfl
theorem q1409 : (Jvm.Cond.code ({ cls := "SearchHouse", name := "plain", desc := "(IJ)I" } : Jvm.MethodName) prog_1_method_24_code (4 : Nat) (Option.some Jvm.ClassFile.FieldType.int)) ∈ lw_all := lw_g (lw_at lw_m5 197 rfl) rfl
theorem q1410 : (Jvm.Cond.methodLink "SearchHouseLaw" (64 : Nat) ({ cls := "SearchHouse", name := "place", desc := "(III)I" } : Jvm.MethodName)) ∈ lw_all := lw_g (lw_at lw_m5 198 rfl) rfl
theorem q1411 : (Jvm.Cond.instanceMethod ({ cls := "SearchHouse", name := "place", desc := "(III)I" } : Jvm.MethodName)) ∈ lw_all := lw_g (lw_at lw_m5 199 rfl) rfl
theorem q1412 : (Jvm.Cond.selects "SearchHouse" ({ cls := "SearchHouse", name := "place", desc := "(III)I" } : Jvm.MethodName) ({ cls := "SearchHouse", name := "place", desc := "(III)I" } : Jvm.MethodName)) ∈ lw_all := lw_g (lw_at lw_m5 200 rfl) rfl
theorem q1413 : (Jvm.Cond.code ({ cls := "SearchHouse", name := "place", desc := "(III)I" } : Jvm.MethodName) prog_1_method_27_code (4 : Nat) (Option.some Jvm.ClassFile.FieldType.int)) ∈ lw_all := lw_g (lw_at lw_m5 201 rfl) rfl
theorem q1414 : (Jvm.Cond.methodLink "SearchHouse" (417 : Nat) ({ cls := "SearchHouse", name := "isNear", desc := "(I)Z" } : Jvm.MethodName)) ∈ lw_all := lw_g (lw_at lw_m5 202 rfl) rfl
theorem q1415 : (Jvm.Cond.static ({ cls := "SearchHouse", name := "isNear", desc := "(I)Z" } : Jvm.MethodName)) ∈ lw_all := lw_g (lw_at lw_m5 203 rfl) rfl
theorem q1416 : (Jvm.Cond.code ({ cls := "SearchHouse", name := "isNear", desc := "(I)Z" } : Jvm.MethodName) prog_1_method_26_code (1 : Nat) (Option.some Jvm.ClassFile.FieldType.boolean)) ∈ lw_all := lw_g (lw_at lw_m5 204 rfl) rfl
theorem q1417 : (Jvm.Cond.constant "SearchHouse" (415 : Nat) (-1000000 : Int32)) ∈ lw_all := lw_g (lw_at lw_m5 205 rfl) rfl
theorem q1418 : (Jvm.Cond.constant "SearchHouse" (416 : Nat) (1000000 : Int32)) ∈ lw_all := lw_g (lw_at lw_m5 206 rfl) rfl
theorem q1419 : (Jvm.Cond.constantLong "SearchHouse" (420 : Nat) (4294967295 : Int64)) ∈ lw_all := lw_g (lw_at lw_m5 207 rfl) rfl
theorem q1420 : (Jvm.Cond.methodLink "SearchHouseLaw" (68 : Nat) ({ cls := "SearchHouse", name := "row", desc := "(IIIII)I" } : Jvm.MethodName)) ∈ lw_all := lw_g (lw_at lw_m5 208 rfl) rfl
theorem q1421 : (Jvm.Cond.instanceMethod ({ cls := "SearchHouse", name := "row", desc := "(IIIII)I" } : Jvm.MethodName)) ∈ lw_all := lw_g (lw_at lw_m5 209 rfl) rfl
theorem q1422 : (Jvm.Cond.selects "SearchHouse" ({ cls := "SearchHouse", name := "row", desc := "(IIIII)I" } : Jvm.MethodName) ({ cls := "SearchHouse", name := "row", desc := "(IIIII)I" } : Jvm.MethodName)) ∈ lw_all := lw_g (lw_at lw_m5 210 rfl) rfl
theorem q1423 : (Jvm.Cond.code ({ cls := "SearchHouse", name := "row", desc := "(IIIII)I" } : Jvm.MethodName) prog_1_method_29_code (6 : Nat) (Option.some Jvm.ClassFile.FieldType.int)) ∈ lw_all := lw_g (lw_at lw_m5 211 rfl) rfl
theorem q1424 : (Jvm.Cond.methodLink "SearchHouse" (422 : Nat) ({ cls := "SearchHouse", name := "isSmall", desc := "(I)Z" } : Jvm.MethodName)) ∈ lw_all := lw_g (lw_at lw_m5 212 rfl) rfl
theorem q1425 : (Jvm.Cond.static ({ cls := "SearchHouse", name := "isSmall", desc := "(I)Z" } : Jvm.MethodName)) ∈ lw_all := lw_g (lw_at lw_m5 213 rfl) rfl
theorem q1426 : (Jvm.Cond.code ({ cls := "SearchHouse", name := "isSmall", desc := "(I)Z" } : Jvm.MethodName) prog_1_method_28_code (1 : Nat) (Option.some Jvm.ClassFile.FieldType.boolean)) ∈ lw_all := lw_g (lw_at lw_m5 214 rfl) rfl
theorem q1427 : (Jvm.Cond.methodLink "SearchHouse" (425 : Nat) ({ cls := "SearchHouse", name := "packed", desc := "(IIII)J" } : Jvm.MethodName)) ∈ lw_all := lw_g (lw_at lw_m5 215 rfl) rfl
theorem q1428 : (Jvm.Cond.static ({ cls := "SearchHouse", name := "packed", desc := "(IIII)J" } : Jvm.MethodName)) ∈ lw_all := lw_g (lw_at lw_m5 216 rfl) rfl
theorem q1429 : (Jvm.Cond.code ({ cls := "SearchHouse", name := "packed", desc := "(IIII)J" } : Jvm.MethodName) prog_1_method_30_code (4 : Nat) (Option.some Jvm.ClassFile.FieldType.long)) ∈ lw_all := lw_g (lw_at lw_m5 217 rfl) rfl
theorem q1430 : (Jvm.Cond.constantLong "SearchHouse" (429 : Nat) (65535 : Int64)) ∈ lw_all := lw_g (lw_at lw_m5 218 rfl) rfl
theorem q1431 : (Jvm.Cond.methodLink "SearchHouseLaw" (72 : Nat) ({ cls := "SearchHouse", name := "discard", desc := "()I" } : Jvm.MethodName)) ∈ lw_all := lw_g (lw_at lw_m5 219 rfl) rfl
theorem q1432 : (Jvm.Cond.instanceMethod ({ cls := "SearchHouse", name := "discard", desc := "()I" } : Jvm.MethodName)) ∈ lw_all := lw_g (lw_at lw_m5 220 rfl) rfl
theorem q1433 : (Jvm.Cond.selects "SearchHouse" ({ cls := "SearchHouse", name := "discard", desc := "()I" } : Jvm.MethodName) ({ cls := "SearchHouse", name := "discard", desc := "()I" } : Jvm.MethodName)) ∈ lw_all := lw_g (lw_at lw_m5 221 rfl) rfl
theorem q1434 : (Jvm.Cond.code ({ cls := "SearchHouse", name := "discard", desc := "()I" } : Jvm.MethodName) prog_1_method_31_code (3 : Nat) (Option.some Jvm.ClassFile.FieldType.int)) ∈ lw_all := lw_g (lw_at lw_m5 222 rfl) rfl
theorem q1435 : (Jvm.Cond.methodLink "SearchHouse" (434 : Nat) ({ cls := "SearchHouse$Terms", name := "drop", desc := "(I)V" } : Jvm.MethodName)) ∈ lw_all := lw_g (lw_at lw_m5 223 rfl) rfl
theorem q1436 : (Jvm.Cond.instanceMethod ({ cls := "SearchHouse$Terms", name := "drop", desc := "(I)V" } : Jvm.MethodName)) ∈ lw_all := lw_g (lw_at lw_m5 224 rfl) rfl
theorem q1437 : (Jvm.Cond.selects "SearchHouse$Terms" ({ cls := "SearchHouse$Terms", name := "drop", desc := "(I)V" } : Jvm.MethodName) ({ cls := "SearchHouse$Terms", name := "drop", desc := "(I)V" } : Jvm.MethodName)) ∈ lw_all := lw_g (lw_at lw_m5 225 rfl) rfl
theorem q1438 : (Jvm.Cond.code ({ cls := "SearchHouse$Terms", name := "drop", desc := "(I)V" } : Jvm.MethodName) prog_9_method_7_code (2 : Nat) (Option.none : Option Jvm.ClassFile.FieldType)) ∈ lw_all := lw_g (lw_at lw_m5 226 rfl) rfl
theorem q1439 : (Jvm.Cond.methodLink "SearchHouseLaw" (77 : Nat) ({ cls := "SearchHouse", name := "add", desc := "(I)I" } : Jvm.MethodName)) ∈ lw_all := lw_g (lw_at lw_m5 227 rfl) rfl
theorem q1440 : (Jvm.Cond.instanceMethod ({ cls := "SearchHouse", name := "add", desc := "(I)I" } : Jvm.MethodName)) ∈ lw_all := lw_g (lw_at lw_m5 228 rfl) rfl
theorem q1441 : (Jvm.Cond.selects "SearchHouse" ({ cls := "SearchHouse", name := "add", desc := "(I)I" } : Jvm.MethodName) ({ cls := "SearchHouse", name := "add", desc := "(I)I" } : Jvm.MethodName)) ∈ lw_all := lw_g (lw_at lw_m5 229 rfl) rfl
theorem q1442 : (Jvm.Cond.code ({ cls := "SearchHouse", name := "add", desc := "(I)I" } : Jvm.MethodName) prog_1_method_33_code (4 : Nat) (Option.some Jvm.ClassFile.FieldType.int)) ∈ lw_all := lw_g (lw_at lw_m5 230 rfl) rfl
theorem q1443 : (Jvm.Cond.methodLink "SearchHouse" (441 : Nat) ({ cls := "SearchHouse", name := "isLive", desc := "(I)Z" } : Jvm.MethodName)) ∈ lw_all := lw_g (lw_at lw_m5 231 rfl) rfl
theorem q1444 : (Jvm.Cond.privateMethod ({ cls := "SearchHouse", name := "isLive", desc := "(I)Z" } : Jvm.MethodName)) ∈ lw_tbl := lw_at lw_m5 232 rfl
theorem q1445 : (Jvm.Cond.instanceMethod ({ cls := "SearchHouse", name := "isLive", desc := "(I)Z" } : Jvm.MethodName)) ∈ lw_all := lw_g (lw_at lw_m5 233 rfl) rfl
theorem q1446 : (Jvm.Cond.code ({ cls := "SearchHouse", name := "isLive", desc := "(I)Z" } : Jvm.MethodName) prog_1_method_32_code (2 : Nat) (Option.some Jvm.ClassFile.FieldType.boolean)) ∈ lw_all := lw_g (lw_at lw_m5 234 rfl) rfl
theorem q1447 : (Jvm.Cond.constant "SearchHouse" (440 : Nat) (2147483647 : Int32)) ∈ lw_all := lw_g (lw_at lw_m5 235 rfl) rfl
theorem q1448 : (Jvm.Cond.methodLink "SearchHouse" (444 : Nat) ({ cls := "SearchHouse", name := "enter", desc := "(II)V" } : Jvm.MethodName)) ∈ lw_all := lw_g (lw_at lw_m5 236 rfl) rfl
theorem q1449 : (Jvm.Cond.privateMethod ({ cls := "SearchHouse", name := "enter", desc := "(II)V" } : Jvm.MethodName)) ∈ lw_tbl := lw_at lw_m5 237 rfl
theorem q1450 : (Jvm.Cond.instanceMethod ({ cls := "SearchHouse", name := "enter", desc := "(II)V" } : Jvm.MethodName)) ∈ lw_all := lw_g (lw_at lw_m5 238 rfl) rfl
theorem q1451 : (Jvm.Cond.code ({ cls := "SearchHouse", name := "enter", desc := "(II)V" } : Jvm.MethodName) prog_1_method_34_code (4 : Nat) (Option.none : Option Jvm.ClassFile.FieldType)) ∈ lw_all := lw_g (lw_at lw_m5 239 rfl) rfl
theorem q1452 : (Jvm.Cond.methodLink "SearchHouse" (451 : Nat) ({ cls := "SearchHouse", name := "link", desc := "(II)V" } : Jvm.MethodName)) ∈ lw_all := lw_g (lw_at lw_m6 0 rfl) rfl
theorem q1453 : (Jvm.Cond.privateMethod ({ cls := "SearchHouse", name := "link", desc := "(II)V" } : Jvm.MethodName)) ∈ lw_tbl := lw_at lw_m6 1 rfl
theorem q1454 : (Jvm.Cond.instanceMethod ({ cls := "SearchHouse", name := "link", desc := "(II)V" } : Jvm.MethodName)) ∈ lw_all := lw_g (lw_at lw_m6 2 rfl) rfl
theorem q1455 : (Jvm.Cond.code ({ cls := "SearchHouse", name := "link", desc := "(II)V" } : Jvm.MethodName) prog_1_method_35_code (5 : Nat) (Option.none : Option Jvm.ClassFile.FieldType)) ∈ lw_all := lw_g (lw_at lw_m6 3 rfl) rfl
theorem q1456 : (Jvm.Cond.methodLink "SearchHouseLaw" (81 : Nat) ({ cls := "SearchHouse", name := "remove", desc := "(I)I" } : Jvm.MethodName)) ∈ lw_all := lw_g (lw_at lw_m6 4 rfl) rfl
theorem q1457 : (Jvm.Cond.instanceMethod ({ cls := "SearchHouse", name := "remove", desc := "(I)I" } : Jvm.MethodName)) ∈ lw_all := lw_g (lw_at lw_m6 5 rfl) rfl
theorem q1458 : (Jvm.Cond.selects "SearchHouse" ({ cls := "SearchHouse", name := "remove", desc := "(I)I" } : Jvm.MethodName) ({ cls := "SearchHouse", name := "remove", desc := "(I)I" } : Jvm.MethodName)) ∈ lw_all := lw_g (lw_at lw_m6 6 rfl) rfl
theorem q1459 : (Jvm.Cond.code ({ cls := "SearchHouse", name := "remove", desc := "(I)I" } : Jvm.MethodName) prog_1_method_36_code (4 : Nat) (Option.some Jvm.ClassFile.FieldType.int)) ∈ lw_all := lw_g (lw_at lw_m6 7 rfl) rfl
theorem q1460 : (Jvm.Cond.methodLink "SearchHouseLaw" (85 : Nat) ({ cls := "SearchHouse", name := "refresh", desc := "()I" } : Jvm.MethodName)) ∈ lw_all := lw_g (lw_at lw_m6 8 rfl) rfl
theorem q1461 : (Jvm.Cond.instanceMethod ({ cls := "SearchHouse", name := "refresh", desc := "()I" } : Jvm.MethodName)) ∈ lw_all := lw_g (lw_at lw_m6 9 rfl) rfl
theorem q1462 : (Jvm.Cond.selects "SearchHouse" ({ cls := "SearchHouse", name := "refresh", desc := "()I" } : Jvm.MethodName) ({ cls := "SearchHouse", name := "refresh", desc := "()I" } : Jvm.MethodName)) ∈ lw_all := lw_g (lw_at lw_m6 10 rfl) rfl
theorem q1463 : (Jvm.Cond.code ({ cls := "SearchHouse", name := "refresh", desc := "()I" } : Jvm.MethodName) prog_1_method_40_code (1 : Nat) (Option.some Jvm.ClassFile.FieldType.int)) ∈ lw_all := lw_g (lw_at lw_m6 11 rfl) rfl
theorem q1464 : (Jvm.Cond.methodLink "SearchHouse" (470 : Nat) ({ cls := "SearchHouse", name := "makeVersion", desc := "()I" } : Jvm.MethodName)) ∈ lw_all := lw_g (lw_at lw_m6 12 rfl) rfl
theorem q1465 : (Jvm.Cond.privateMethod ({ cls := "SearchHouse", name := "makeVersion", desc := "()I" } : Jvm.MethodName)) ∈ lw_tbl := lw_at lw_m6 13 rfl
theorem q1466 : (Jvm.Cond.instanceMethod ({ cls := "SearchHouse", name := "makeVersion", desc := "()I" } : Jvm.MethodName)) ∈ lw_all := lw_g (lw_at lw_m6 14 rfl) rfl
theorem q1467 : (Jvm.Cond.code ({ cls := "SearchHouse", name := "makeVersion", desc := "()I" } : Jvm.MethodName) prog_1_method_39_code (1 : Nat) (Option.some Jvm.ClassFile.FieldType.int)) ∈ lw_all := lw_g (lw_at lw_m6 15 rfl) rfl
theorem q1468 : (Jvm.Cond.methodLink "SearchHouse" (467 : Nat) ({ cls := "SearchHouse", name := "forgetHits", desc := "()V" } : Jvm.MethodName)) ∈ lw_all := lw_g (lw_at lw_m6 16 rfl) rfl
theorem q1469 : (Jvm.Cond.privateMethod ({ cls := "SearchHouse", name := "forgetHits", desc := "()V" } : Jvm.MethodName)) ∈ lw_tbl := lw_at lw_m6 17 rfl
theorem q1470 : (Jvm.Cond.instanceMethod ({ cls := "SearchHouse", name := "forgetHits", desc := "()V" } : Jvm.MethodName)) ∈ lw_all := lw_g (lw_at lw_m6 18 rfl) rfl
theorem q1471 : (Jvm.Cond.code ({ cls := "SearchHouse", name := "forgetHits", desc := "()V" } : Jvm.MethodName) prog_1_method_61_code (1 : Nat) (Option.none : Option Jvm.ClassFile.FieldType)) ∈ lw_all := lw_g (lw_at lw_m6 19 rfl) rfl
theorem q1472 : (Jvm.Cond.methodLink "SearchHouseLaw" (89 : Nat) ({ cls := "SearchHouse", name := "pin", desc := "()I" } : Jvm.MethodName)) ∈ lw_all := lw_g (lw_at lw_m6 20 rfl) rfl
theorem q1473 : (Jvm.Cond.instanceMethod ({ cls := "SearchHouse", name := "pin", desc := "()I" } : Jvm.MethodName)) ∈ lw_all := lw_g (lw_at lw_m6 21 rfl) rfl
theorem q1474 : (Jvm.Cond.selects "SearchHouse" ({ cls := "SearchHouse", name := "pin", desc := "()I" } : Jvm.MethodName) ({ cls := "SearchHouse", name := "pin", desc := "()I" } : Jvm.MethodName)) ∈ lw_all := lw_g (lw_at lw_m6 22 rfl) rfl
theorem q1475 : (Jvm.Cond.code ({ cls := "SearchHouse", name := "pin", desc := "()I" } : Jvm.MethodName) prog_1_method_41_code (2 : Nat) (Option.some Jvm.ClassFile.FieldType.int)) ∈ lw_all := lw_g (lw_at lw_m6 23 rfl) rfl
theorem q1476 : (Jvm.Cond.methodLink "SearchHouseLaw" (93 : Nat) ({ cls := "SearchHouse", name := "unpin", desc := "(I)I" } : Jvm.MethodName)) ∈ lw_all := lw_g (lw_at lw_m6 24 rfl) rfl
theorem q1477 : (Jvm.Cond.instanceMethod ({ cls := "SearchHouse", name := "unpin", desc := "(I)I" } : Jvm.MethodName)) ∈ lw_all := lw_g (lw_at lw_m6 25 rfl) rfl
theorem q1478 : (Jvm.Cond.selects "SearchHouse" ({ cls := "SearchHouse", name := "unpin", desc := "(I)I" } : Jvm.MethodName) ({ cls := "SearchHouse", name := "unpin", desc := "(I)I" } : Jvm.MethodName)) ∈ lw_all := lw_g (lw_at lw_m6 26 rfl) rfl
theorem q1479 : (Jvm.Cond.code ({ cls := "SearchHouse", name := "unpin", desc := "(I)I" } : Jvm.MethodName) prog_1_method_42_code (3 : Nat) (Option.some Jvm.ClassFile.FieldType.int)) ∈ lw_all := lw_g (lw_at lw_m6 27 rfl) rfl
theorem q1480 : (Jvm.Cond.methodLink "SearchHouseLaw" (101 : Nat) ({ cls := "SearchHouse", name := "commit", desc := "()I" } : Jvm.MethodName)) ∈ lw_all := lw_g (lw_at lw_m6 28 rfl) rfl
theorem q1481 : (Jvm.Cond.instanceMethod ({ cls := "SearchHouse", name := "commit", desc := "()I" } : Jvm.MethodName)) ∈ lw_all := lw_g (lw_at lw_m6 29 rfl) rfl
theorem q1482 : (Jvm.Cond.selects "SearchHouse" ({ cls := "SearchHouse", name := "commit", desc := "()I" } : Jvm.MethodName) ({ cls := "SearchHouse", name := "commit", desc := "()I" } : Jvm.MethodName)) ∈ lw_all := lw_g (lw_at lw_m6 30 rfl) rfl
theorem q1483 : (Jvm.Cond.code ({ cls := "SearchHouse", name := "commit", desc := "()I" } : Jvm.MethodName) prog_1_method_43_code (1 : Nat) (Option.some Jvm.ClassFile.FieldType.int)) ∈ lw_all := lw_g (lw_at lw_m6 31 rfl) rfl
theorem q1484 : (Jvm.Cond.methodLink "SearchHouseLaw" (97 : Nat) ({ cls := "SearchHouse", name := "sweep", desc := "()I" } : Jvm.MethodName)) ∈ lw_all := lw_g (lw_at lw_m6 32 rfl) rfl
theorem q1485 : (Jvm.Cond.instanceMethod ({ cls := "SearchHouse", name := "sweep", desc := "()I" } : Jvm.MethodName)) ∈ lw_all := lw_g (lw_at lw_m6 33 rfl) rfl
theorem q1486 : (Jvm.Cond.selects "SearchHouse" ({ cls := "SearchHouse", name := "sweep", desc := "()I" } : Jvm.MethodName) ({ cls := "SearchHouse", name := "sweep", desc := "()I" } : Jvm.MethodName)) ∈ lw_all := lw_g (lw_at lw_m6 34 rfl) rfl
theorem q1487 : (Jvm.Cond.code ({ cls := "SearchHouse", name := "sweep", desc := "()I" } : Jvm.MethodName) prog_1_method_45_code (3 : Nat) (Option.some Jvm.ClassFile.FieldType.int)) ∈ lw_all := lw_g (lw_at lw_m6 35 rfl) rfl
theorem q1488 : (Jvm.Cond.methodLink "SearchHouse" (476 : Nat) ({ cls := "SearchHouse", name := "isNeeded", desc := "(I)Z" } : Jvm.MethodName)) ∈ lw_all := lw_g (lw_at lw_m6 36 rfl) rfl
theorem q1489 : (Jvm.Cond.privateMethod ({ cls := "SearchHouse", name := "isNeeded", desc := "(I)Z" } : Jvm.MethodName)) ∈ lw_tbl := lw_at lw_m6 37 rfl
theorem q1490 : (Jvm.Cond.instanceMethod ({ cls := "SearchHouse", name := "isNeeded", desc := "(I)Z" } : Jvm.MethodName)) ∈ lw_all := lw_g (lw_at lw_m6 38 rfl) rfl
theorem q1491 : (Jvm.Cond.code ({ cls := "SearchHouse", name := "isNeeded", desc := "(I)Z" } : Jvm.MethodName) prog_1_method_44_code (4 : Nat) (Option.some Jvm.ClassFile.FieldType.boolean)) ∈ lw_all := lw_g (lw_at lw_m6 39 rfl) rfl
theorem q1492 : (Jvm.Cond.methodLink "SearchHouse" (461 : Nat) ({ cls := "SearchHouse", name := "isInVersion", desc := "(II)Z" } : Jvm.MethodName)) ∈ lw_all := lw_g (lw_at lw_m6 40 rfl) rfl
theorem q1493 : (Jvm.Cond.privateMethod ({ cls := "SearchHouse", name := "isInVersion", desc := "(II)Z" } : Jvm.MethodName)) ∈ lw_tbl := lw_at lw_m6 41 rfl
theorem q1494 : (Jvm.Cond.instanceMethod ({ cls := "SearchHouse", name := "isInVersion", desc := "(II)Z" } : Jvm.MethodName)) ∈ lw_all := lw_g (lw_at lw_m6 42 rfl) rfl
theorem q1495 : (Jvm.Cond.code ({ cls := "SearchHouse", name := "isInVersion", desc := "(II)Z" } : Jvm.MethodName) prog_1_method_37_code (3 : Nat) (Option.some Jvm.ClassFile.FieldType.boolean)) ∈ lw_all := lw_g (lw_at lw_m6 43 rfl) rfl
theorem q1496 : (Jvm.Cond.methodLink "SearchHouse" (479 : Nat) ({ cls := "SearchHouse", name := "layTogether", desc := "()V" } : Jvm.MethodName)) ∈ lw_all := lw_g (lw_at lw_m6 44 rfl) rfl
theorem q1497 : (Jvm.Cond.privateMethod ({ cls := "SearchHouse", name := "layTogether", desc := "()V" } : Jvm.MethodName)) ∈ lw_tbl := lw_at lw_m6 45 rfl
theorem q1498 : (Jvm.Cond.instanceMethod ({ cls := "SearchHouse", name := "layTogether", desc := "()V" } : Jvm.MethodName)) ∈ lw_all := lw_g (lw_at lw_m6 46 rfl) rfl
theorem q1499 : (Jvm.Cond.code ({ cls := "SearchHouse", name := "layTogether", desc := "()V" } : Jvm.MethodName) prog_1_method_46_code (7 : Nat) (Option.none : Option Jvm.ClassFile.FieldType)) ∈ lw_all := lw_g (lw_at lw_m6 47 rfl) rfl
theorem q1500 : (Jvm.Cond.methodLink "SearchHouse" (482 : Nat) ({ cls := "SearchHouse", name := "move", desc := "(I)V" } : Jvm.MethodName)) ∈ lw_all := lw_g (lw_at lw_m6 48 rfl) rfl
theorem q1501 : (Jvm.Cond.privateMethod ({ cls := "SearchHouse", name := "move", desc := "(I)V" } : Jvm.MethodName)) ∈ lw_tbl := lw_at lw_m6 49 rfl
theorem q1502 : (Jvm.Cond.instanceMethod ({ cls := "SearchHouse", name := "move", desc := "(I)V" } : Jvm.MethodName)) ∈ lw_all := lw_g (lw_at lw_m6 50 rfl) rfl
theorem q1503 : (Jvm.Cond.code ({ cls := "SearchHouse", name := "move", desc := "(I)V" } : Jvm.MethodName) prog_1_method_47_code (5 : Nat) (Option.none : Option Jvm.ClassFile.FieldType)) ∈ lw_all := lw_g (lw_at lw_m6 51 rfl) rfl
theorem q1504 : (Jvm.Cond.methodLink "SearchHouse" (485 : Nat) ({ cls := "SearchHouse", name := "makeTermsAnew", desc := "(I)V" } : Jvm.MethodName)) ∈ lw_all := lw_g (lw_at lw_m6 52 rfl) rfl
theorem q1505 : (Jvm.Cond.privateMethod ({ cls := "SearchHouse", name := "makeTermsAnew", desc := "(I)V" } : Jvm.MethodName)) ∈ lw_tbl := lw_at lw_m6 53 rfl
theorem q1506 : (Jvm.Cond.instanceMethod ({ cls := "SearchHouse", name := "makeTermsAnew", desc := "(I)V" } : Jvm.MethodName)) ∈ lw_all := lw_g (lw_at lw_m6 54 rfl) rfl
theorem q1507 : (Jvm.Cond.code ({ cls := "SearchHouse", name := "makeTermsAnew", desc := "(I)V" } : Jvm.MethodName) prog_1_method_48_code (5 : Nat) (Option.none : Option Jvm.ClassFile.FieldType)) ∈ lw_all := lw_g (lw_at lw_m6 55 rfl) rfl
theorem q1508 : (Jvm.Cond.methodLink "SearchHouseLaw" (105 : Nat) ({ cls := "SearchHouse", name := "crash", desc := "()I" } : Jvm.MethodName)) ∈ lw_all := lw_g (lw_at lw_m6 56 rfl) rfl
theorem q1509 : (Jvm.Cond.instanceMethod ({ cls := "SearchHouse", name := "crash", desc := "()I" } : Jvm.MethodName)) ∈ lw_all := lw_g (lw_at lw_m6 57 rfl) rfl
theorem q1510 : (Jvm.Cond.selects "SearchHouse" ({ cls := "SearchHouse", name := "crash", desc := "()I" } : Jvm.MethodName) ({ cls := "SearchHouse", name := "crash", desc := "()I" } : Jvm.MethodName)) ∈ lw_all := lw_g (lw_at lw_m6 58 rfl) rfl
theorem q1511 : (Jvm.Cond.code ({ cls := "SearchHouse", name := "crash", desc := "()I" } : Jvm.MethodName) prog_1_method_49_code (2 : Nat) (Option.some Jvm.ClassFile.FieldType.int)) ∈ lw_all := lw_g (lw_at lw_m6 59 rfl) rfl
theorem q1512 : (Jvm.Cond.methodLink "SearchHouse" (497 : Nat) ({ cls := "SearchHouse", name := "discard", desc := "()I" } : Jvm.MethodName)) ∈ lw_all := lw_g (lw_at lw_m6 60 rfl) rfl
theorem q1513 : (Jvm.Cond.methodLink "SearchHouse" (500 : Nat) ({ cls := "SearchHouse", name := "objectsIn", desc := "(I)I" } : Jvm.MethodName)) ∈ lw_all := lw_g (lw_at lw_m6 61 rfl) rfl
theorem q1514 : (Jvm.Cond.privateMethod ({ cls := "SearchHouse", name := "objectsIn", desc := "(I)I" } : Jvm.MethodName)) ∈ lw_tbl := lw_at lw_m6 62 rfl
theorem q1515 : (Jvm.Cond.instanceMethod ({ cls := "SearchHouse", name := "objectsIn", desc := "(I)I" } : Jvm.MethodName)) ∈ lw_all := lw_g (lw_at lw_m6 63 rfl) rfl
theorem q1516 : (Jvm.Cond.code ({ cls := "SearchHouse", name := "objectsIn", desc := "(I)I" } : Jvm.MethodName) prog_1_method_38_code (4 : Nat) (Option.some Jvm.ClassFile.FieldType.int)) ∈ lw_all := lw_g (lw_at lw_m6 64 rfl) rfl
theorem q1517 : (Jvm.Cond.methodLink "SearchHouseLaw" (109 : Nat) ({ cls := "SearchHouse", name := "told", desc := "(I)I" } : Jvm.MethodName)) ∈ lw_all := lw_g (lw_at lw_m6 65 rfl) rfl
theorem q1518 : (Jvm.Cond.instanceMethod ({ cls := "SearchHouse", name := "told", desc := "(I)I" } : Jvm.MethodName)) ∈ lw_all := lw_g (lw_at lw_m6 66 rfl) rfl
theorem q1519 : (Jvm.Cond.selects "SearchHouse" ({ cls := "SearchHouse", name := "told", desc := "(I)I" } : Jvm.MethodName) ({ cls := "SearchHouse", name := "told", desc := "(I)I" } : Jvm.MethodName)) ∈ lw_all := lw_g (lw_at lw_m6 67 rfl) rfl
theorem q1520 : (Jvm.Cond.code ({ cls := "SearchHouse", name := "told", desc := "(I)I" } : Jvm.MethodName) prog_1_method_50_code (4 : Nat) (Option.some Jvm.ClassFile.FieldType.int)) ∈ lw_all := lw_g (lw_at lw_m6 68 rfl) rfl
theorem q1521 : (Jvm.Cond.methodLink "SearchHouseLaw" (113 : Nat) ({ cls := "SearchHouse", name := "question", desc := "()I" } : Jvm.MethodName)) ∈ lw_all := lw_g (lw_at lw_m6 69 rfl) rfl
theorem q1522 : (Jvm.Cond.instanceMethod ({ cls := "SearchHouse", name := "question", desc := "()I" } : Jvm.MethodName)) ∈ lw_all := lw_g (lw_at lw_m6 70 rfl) rfl
theorem q1523 : (Jvm.Cond.selects "SearchHouse" ({ cls := "SearchHouse", name := "question", desc := "()I" } : Jvm.MethodName) ({ cls := "SearchHouse", name := "question", desc := "()I" } : Jvm.MethodName)) ∈ lw_all := lw_g (lw_at lw_m6 71 rfl) rfl
theorem q1524 : (Jvm.Cond.codeWith ({ cls := "SearchHouse", name := "question", desc := "()I" } : Jvm.MethodName) prog_1_method_51_code (3 : Nat) (Option.some Jvm.ClassFile.FieldType.int) [((40 : Nat), (51 : Nat), (54 : Nat), (509 : Nat))]) ∈ lw_all := lw_g (lw_at lw_m6 72 rfl) rfl
theorem q1525 : (Jvm.Cond.classLink "SearchHouse" (509 : Nat) "SearchHouse$Fault") ∈ lw_all := lw_g (lw_at lw_m6 73 rfl) rfl
theorem q1526 : (Jvm.Cond.methodLink "SearchHouse" (505 : Nat) ({ cls := "SearchHouse$Reader", name := "read", desc := "(LSearchHouse$Question;)V" } : Jvm.MethodName)) ∈ lw_all := lw_g (lw_at lw_m6 74 rfl) rfl
theorem q1527 : (Jvm.Cond.instanceMethod ({ cls := "SearchHouse$Reader", name := "read", desc := "(LSearchHouse$Question;)V" } : Jvm.MethodName)) ∈ lw_all := lw_g (lw_at lw_m6 75 rfl) rfl
theorem q1528 : (Jvm.Cond.selects "SearchHouse$Reader" ({ cls := "SearchHouse$Reader", name := "read", desc := "(LSearchHouse$Question;)V" } : Jvm.MethodName) ({ cls := "SearchHouse$Reader", name := "read", desc := "(LSearchHouse$Question;)V" } : Jvm.MethodName)) ∈ lw_all := lw_g (lw_at lw_m6 76 rfl) rfl
theorem q1529 : (Jvm.Cond.code ({ cls := "SearchHouse$Reader", name := "read", desc := "(LSearchHouse$Question;)V" } : Jvm.MethodName) prog_7_method_8_code (3 : Nat) (Option.none : Option Jvm.ClassFile.FieldType)) ∈ lw_all := lw_g (lw_at lw_m6 77 rfl) rfl
theorem q1530 : (Jvm.Cond.methodLink "SearchHouse$Reader" (81 : Nat) ({ cls := "SearchHouse$Reader", name := "any", desc := "(I)I" } : Jvm.MethodName)) ∈ lw_all := lw_g (lw_at lw_m6 78 rfl) rfl
theorem q1531 : (Jvm.Cond.privateMethod ({ cls := "SearchHouse$Reader", name := "any", desc := "(I)I" } : Jvm.MethodName)) ∈ lw_tbl := lw_at lw_m6 79 rfl
theorem q1532 : (Jvm.Cond.instanceMethod ({ cls := "SearchHouse$Reader", name := "any", desc := "(I)I" } : Jvm.MethodName)) ∈ lw_all := lw_g (lw_at lw_m6 80 rfl) rfl
theorem q1533 : (Jvm.Cond.code ({ cls := "SearchHouse$Reader", name := "any", desc := "(I)I" } : Jvm.MethodName) prog_7_method_9_code (5 : Nat) (Option.some Jvm.ClassFile.FieldType.int)) ∈ lw_all := lw_g (lw_at lw_m6 81 rfl) rfl
theorem q1534 : (Jvm.Cond.methodLink "SearchHouse$Reader" (88 : Nat) ({ cls := "SearchHouse$Reader", name := "best", desc := "(I)I" } : Jvm.MethodName)) ∈ lw_all := lw_g (lw_at lw_m6 82 rfl) rfl
theorem q1535 : (Jvm.Cond.privateMethod ({ cls := "SearchHouse$Reader", name := "best", desc := "(I)I" } : Jvm.MethodName)) ∈ lw_tbl := lw_at lw_m6 83 rfl
theorem q1536 : (Jvm.Cond.instanceMethod ({ cls := "SearchHouse$Reader", name := "best", desc := "(I)I" } : Jvm.MethodName)) ∈ lw_all := lw_g (lw_at lw_m6 84 rfl) rfl
theorem q1537 : (Jvm.Cond.code ({ cls := "SearchHouse$Reader", name := "best", desc := "(I)I" } : Jvm.MethodName) prog_7_method_10_code (5 : Nat) (Option.some Jvm.ClassFile.FieldType.int)) ∈ lw_all := lw_g (lw_at lw_m6 85 rfl) rfl
theorem q1538 : (Jvm.Cond.methodLink "SearchHouse$Reader" (94 : Nat) ({ cls := "SearchHouse$Reader", name := "all", desc := "(I)I" } : Jvm.MethodName)) ∈ lw_all := lw_g (lw_at lw_m6 86 rfl) rfl
theorem q1539 : (Jvm.Cond.privateMethod ({ cls := "SearchHouse$Reader", name := "all", desc := "(I)I" } : Jvm.MethodName)) ∈ lw_tbl := lw_at lw_m6 87 rfl
theorem q1540 : (Jvm.Cond.instanceMethod ({ cls := "SearchHouse$Reader", name := "all", desc := "(I)I" } : Jvm.MethodName)) ∈ lw_all := lw_g (lw_at lw_m6 88 rfl) rfl
theorem q1541 : (Jvm.Cond.code ({ cls := "SearchHouse$Reader", name := "all", desc := "(I)I" } : Jvm.MethodName) prog_7_method_11_code (6 : Nat) (Option.some Jvm.ClassFile.FieldType.int)) ∈ lw_all := lw_g (lw_at lw_m6 89 rfl) rfl
theorem q1542 : (Jvm.Cond.methodLink "SearchHouse$Reader" (97 : Nat) ({ cls := "SearchHouse$Reader", name := "part", desc := "(IZ)I" } : Jvm.MethodName)) ∈ lw_all := lw_g (lw_at lw_m6 90 rfl) rfl
theorem q1543 : (Jvm.Cond.privateMethod ({ cls := "SearchHouse$Reader", name := "part", desc := "(IZ)I" } : Jvm.MethodName)) ∈ lw_tbl := lw_at lw_m6 91 rfl
theorem q1544 : (Jvm.Cond.instanceMethod ({ cls := "SearchHouse$Reader", name := "part", desc := "(IZ)I" } : Jvm.MethodName)) ∈ lw_all := lw_g (lw_at lw_m6 92 rfl) rfl
theorem q1545 : (Jvm.Cond.code ({ cls := "SearchHouse$Reader", name := "part", desc := "(IZ)I" } : Jvm.MethodName) prog_7_method_12_code (5 : Nat) (Option.some Jvm.ClassFile.FieldType.int)) ∈ lw_all := lw_g (lw_at lw_m6 93 rfl) rfl
theorem q1546 : (Jvm.Cond.methodLink "SearchHouse$Reader" (37 : Nat) ({ cls := "SearchHouse$Reader", name := "peek", desc := "()I" } : Jvm.MethodName)) ∈ lw_all := lw_g (lw_at lw_m6 94 rfl) rfl
theorem q1547 : (Jvm.Cond.privateMethod ({ cls := "SearchHouse$Reader", name := "peek", desc := "()I" } : Jvm.MethodName)) ∈ lw_tbl := lw_at lw_m6 95 rfl
theorem q1548 : (Jvm.Cond.instanceMethod ({ cls := "SearchHouse$Reader", name := "peek", desc := "()I" } : Jvm.MethodName)) ∈ lw_all := lw_g (lw_at lw_m6 96 rfl) rfl
theorem q1549 : (Jvm.Cond.code ({ cls := "SearchHouse$Reader", name := "peek", desc := "()I" } : Jvm.MethodName) prog_7_method_3_code (1 : Nat) (Option.some Jvm.ClassFile.FieldType.int)) ∈ lw_all := lw_g (lw_at lw_m6 97 rfl) rfl
theorem q1550 : (Jvm.Cond.methodLink "SearchHouse$Reader" (101 : Nat) ({ cls := "SearchHouse$Reader", name := "one", desc := "(I)I" } : Jvm.MethodName)) ∈ lw_all := lw_g (lw_at lw_m6 98 rfl) rfl
theorem q1551 : (Jvm.Cond.privateMethod ({ cls := "SearchHouse$Reader", name := "one", desc := "(I)I" } : Jvm.MethodName)) ∈ lw_tbl := lw_at lw_m6 99 rfl
theorem q1552 : (Jvm.Cond.instanceMethod ({ cls := "SearchHouse$Reader", name := "one", desc := "(I)I" } : Jvm.MethodName)) ∈ lw_all := lw_g (lw_at lw_m6 100 rfl) rfl
theorem q1553 : (Jvm.Cond.code ({ cls := "SearchHouse$Reader", name := "one", desc := "(I)I" } : Jvm.MethodName) prog_7_method_13_code (7 : Nat) (Option.some Jvm.ClassFile.FieldType.int)) ∈ lw_all := lw_g (lw_at lw_m6 101 rfl) rfl
theorem q1554 : (Jvm.Cond.methodLinkNest "SearchHouse$Reader" (108 : Nat) ({ cls := "SearchHouse", name := "isLetter", desc := "(I)Z" } : Jvm.MethodName) "SearchHouse") ∈ lw_tbl := lw_at lw_m6 102 rfl
theorem q1555 : (Jvm.Cond.methodLink "SearchHouse$Reader" (41 : Nat) ({ cls := "SearchHouse$Reader", name := "wrong", desc := "(I)LSearchHouse$Fault;" } : Jvm.MethodName)) ∈ lw_all := lw_g (lw_at lw_m6 103 rfl) rfl
theorem q1556 : (Jvm.Cond.privateMethod ({ cls := "SearchHouse$Reader", name := "wrong", desc := "(I)LSearchHouse$Fault;" } : Jvm.MethodName)) ∈ lw_tbl := lw_at lw_m6 104 rfl
theorem q1557 : (Jvm.Cond.instanceMethod ({ cls := "SearchHouse$Reader", name := "wrong", desc := "(I)LSearchHouse$Fault;" } : Jvm.MethodName)) ∈ lw_all := lw_g (lw_at lw_m6 105 rfl) rfl
theorem q1558 : (Jvm.Cond.code ({ cls := "SearchHouse$Reader", name := "wrong", desc := "(I)LSearchHouse$Fault;" } : Jvm.MethodName) prog_7_method_2_code (2 : Nat) (Option.some (Jvm.ClassFile.FieldType.object "SearchHouse$Fault"))) ∈ lw_all := lw_g (lw_at lw_m6 106 rfl) rfl
theorem q1559 : (Jvm.Cond.classLink "SearchHouse$Reader" (15 : Nat) "SearchHouse$Fault") ∈ lw_all := lw_g (lw_at lw_m6 107 rfl) rfl
theorem q1560 : (Jvm.Cond.instantiable "SearchHouse$Fault" (7 : Nat)) ∈ lw_all := lw_g (lw_at lw_m6 108 rfl) rfl
theorem q1561 : (Jvm.Cond.castable "SearchHouse$Fault" "SearchHouse$Fault") ∈ lw_tbl := lw_at lw_m6 109 rfl
theorem q1562 : (Jvm.Cond.declares ({ cls := "java/lang/RuntimeException", name := "<init>", desc := "()V" } : Jvm.MethodName)) ∈ lw_tbl := lw_at lw_m6 110 rfl
theorem q1563 : (Jvm.Cond.declares ({ cls := "java/lang/RuntimeException", name := "<init>", desc := "(Ljava/lang/String;)V" } : Jvm.MethodName)) ∈ lw_tbl := lw_at lw_m6 111 rfl
theorem q1564 : (Jvm.Cond.declares ({ cls := "java/lang/Exception", name := "<init>", desc := "()V" } : Jvm.MethodName)) ∈ lw_tbl := lw_at lw_m6 112 rfl
theorem q1565 : (Jvm.Cond.declares ({ cls := "java/lang/Exception", name := "<init>", desc := "(Ljava/lang/String;)V" } : Jvm.MethodName)) ∈ lw_tbl := lw_at lw_m6 113 rfl
theorem q1566 : (Jvm.Cond.declares ({ cls := "java/lang/Throwable", name := "<init>", desc := "()V" } : Jvm.MethodName)) ∈ lw_tbl := lw_at lw_m6 114 rfl
theorem q1567 : (Jvm.Cond.declares ({ cls := "java/lang/Throwable", name := "<init>", desc := "(Ljava/lang/String;)V" } : Jvm.MethodName)) ∈ lw_tbl := lw_at lw_m6 115 rfl
theorem q1568 : (Jvm.Cond.selects "SearchHouse$Fault" ({ cls := "java/lang/Throwable", name := "fillInStackTrace", desc := "(I)Ljava/lang/Throwable;" } : Jvm.MethodName) ({ cls := "java/lang/Throwable", name := "fillInStackTrace", desc := "(I)Ljava/lang/Throwable;" } : Jvm.MethodName)) ∈ lw_all := lw_g (lw_at lw_m6 116 rfl) rfl
theorem q1569 : (Jvm.Cond.selects "SearchHouse$Fault" ({ cls := "java/lang/Throwable", name := "fillInStackTrace", desc := "()Ljava/lang/Throwable;" } : Jvm.MethodName) ({ cls := "java/lang/Throwable", name := "fillInStackTrace", desc := "()Ljava/lang/Throwable;" } : Jvm.MethodName)) ∈ lw_all := lw_g (lw_at lw_m6 117 rfl) rfl
theorem q1570 : (Jvm.Cond.lays "SearchHouse$Fault" "java/lang/Throwable" "cause" "Ljava/lang/Throwable;") ∈ lw_all := lw_g (lw_at lw_m6 118 rfl) rfl
theorem q1571 : (Jvm.Cond.lays "java/lang/Throwable" "java/lang/Throwable" "cause" "Ljava/lang/Throwable;") ∈ lw_all := lw_g (lw_at lw_m6 119 rfl) rfl
theorem q1572 : (Jvm.Cond.lays "SearchHouse$Fault" "java/lang/Throwable" "stackTrace" "[Ljava/lang/StackTraceElement;") ∈ lw_all := lw_g (lw_at lw_m6 120 rfl) rfl
theorem q1573 : (Jvm.Cond.lays "java/lang/Throwable" "java/lang/Throwable" "stackTrace" "[Ljava/lang/StackTraceElement;") ∈ lw_all := lw_g (lw_at lw_m6 121 rfl) rfl
theorem q1574 : (Jvm.Cond.lays "SearchHouse$Fault" "java/lang/Throwable" "suppressedExceptions" "Ljava/util/List;") ∈ lw_all := lw_g (lw_at lw_m6 122 rfl) rfl
theorem q1575 : (Jvm.Cond.lays "java/lang/Throwable" "java/lang/Throwable" "suppressedExceptions" "Ljava/util/List;") ∈ lw_all := lw_g (lw_at lw_m6 123 rfl) rfl
theorem q1576 : (Jvm.Cond.lays "SearchHouse$Fault" "java/lang/Throwable" "detailMessage" "Ljava/lang/String;") ∈ lw_all := lw_g (lw_at lw_m6 124 rfl) rfl
theorem q1577 : (Jvm.Cond.lays "java/lang/Throwable" "java/lang/Throwable" "detailMessage" "Ljava/lang/String;") ∈ lw_all := lw_g (lw_at lw_m6 125 rfl) rfl
theorem q1578 : (Jvm.Cond.lays "SearchHouse$Fault" "java/lang/Throwable" "backtrace" "Ljava/lang/Object;") ∈ lw_all := lw_g (lw_at lw_m6 126 rfl) rfl
theorem q1579 : (Jvm.Cond.lays "java/lang/Throwable" "java/lang/Throwable" "backtrace" "Ljava/lang/Object;") ∈ lw_all := lw_g (lw_at lw_m6 127 rfl) rfl
theorem q1580 : (Jvm.Cond.fieldLink "java/lang/Throwable" (198 : Nat) "java/lang/Throwable" "backtrace" "Ljava/lang/Object;") ∈ lw_all := lw_g (lw_at lw_m6 128 rfl) rfl
theorem q1581 : (Jvm.Cond.superclass "java/lang/Throwable" "java/lang/Object") ∈ lw_all := lw_g (lw_at lw_m6 129 rfl) rfl
theorem q1582 : (Jvm.Cond.instanceMethod ({ cls := "java/lang/Throwable", name := "<init>", desc := "()V" } : Jvm.MethodName)) ∈ lw_all := lw_g (lw_at lw_m6 130 rfl) rfl
theorem q1583 : (Jvm.Cond.code ({ cls := "java/lang/Throwable", name := "<init>", desc := "()V" } : Jvm.MethodName) prog_30_method_1_code (1 : Nat) (Option.none : Option Jvm.ClassFile.FieldType)) ∈ lw_all := lw_g (lw_at lw_m6 131 rfl) rfl
theorem q1584 : (Jvm.Cond.methodLink "java/lang/Throwable" (1 : Nat) ({ cls := "java/lang/Object", name := "<init>", desc := "()V" } : Jvm.MethodName)) ∈ lw_all := lw_g (lw_at lw_m6 132 rfl) rfl
theorem q1585 : (Jvm.Cond.fieldLink "java/lang/Throwable" (13 : Nat) "java/lang/Throwable" "UNASSIGNED_STACK" "[Ljava/lang/StackTraceElement;") ∈ lw_all := lw_g (lw_at lw_m6 133 rfl) rfl
theorem q1586 : (Jvm.Cond.laysStatic "java/lang/Throwable" "UNASSIGNED_STACK" "[Ljava/lang/StackTraceElement;") ∈ lw_tbl := lw_at lw_m6 134 rfl
theorem q1587 : (Jvm.Cond.fieldLink "java/lang/Throwable" (20 : Nat) "java/lang/Throwable" "SUPPRESSED_SENTINEL" "Ljava/util/List;") ∈ lw_all := lw_g (lw_at lw_m6 135 rfl) rfl
theorem q1588 : (Jvm.Cond.laysStatic "java/lang/Throwable" "SUPPRESSED_SENTINEL" "Ljava/util/List;") ∈ lw_tbl := lw_at lw_m6 136 rfl
theorem q1589 : (Jvm.Cond.methodLink "java/lang/Throwable" (27 : Nat) ({ cls := "java/lang/Throwable", name := "fillInStackTrace", desc := "()Ljava/lang/Throwable;" } : Jvm.MethodName)) ∈ lw_all := lw_g (lw_at lw_m6 137 rfl) rfl
theorem q1590 : (Jvm.Cond.instanceMethod ({ cls := "java/lang/Throwable", name := "fillInStackTrace", desc := "()Ljava/lang/Throwable;" } : Jvm.MethodName)) ∈ lw_all := lw_g (lw_at lw_m6 138 rfl) rfl
theorem q1591 : (Jvm.Cond.sameMethod "java/lang/Throwable" "java/lang/Throwable" "fillInStackTrace" "()Ljava/lang/Throwable;") ∈ lw_all := lw_g (lw_at lw_m6 139 rfl) rfl
theorem q1592 : (Jvm.Cond.selects "java/lang/IllegalStateException" ({ cls := "java/lang/Throwable", name := "fillInStackTrace", desc := "()Ljava/lang/Throwable;" } : Jvm.MethodName) ({ cls := "java/lang/Throwable", name := "fillInStackTrace", desc := "()Ljava/lang/Throwable;" } : Jvm.MethodName)) ∈ lw_all := lw_g (lw_at lw_m6 140 rfl) rfl
theorem q1593 : (Jvm.Cond.codeSync ({ cls := "java/lang/Throwable", name := "fillInStackTrace", desc := "()Ljava/lang/Throwable;" } : Jvm.MethodName) prog_30_method_18_code (1 : Nat) (Option.some (Jvm.ClassFile.FieldType.object "java/lang/Throwable"))) ∈ lw_all := lw_g (lw_at lw_m6 141 rfl) rfl
theorem q1594 : (Jvm.Cond.methodLink "java/lang/Throwable" (202 : Nat) ({ cls := "java/lang/Throwable", name := "fillInStackTrace", desc := "(I)Ljava/lang/Throwable;" } : Jvm.MethodName)) ∈ lw_all := lw_g (lw_at lw_m6 142 rfl) rfl
theorem q1595 : (Jvm.Cond.privateMethod ({ cls := "java/lang/Throwable", name := "fillInStackTrace", desc := "(I)Ljava/lang/Throwable;" } : Jvm.MethodName)) ∈ lw_tbl := lw_at lw_m6 143 rfl
theorem q1596 : (Jvm.Cond.instanceMethod ({ cls := "java/lang/Throwable", name := "fillInStackTrace", desc := "(I)Ljava/lang/Throwable;" } : Jvm.MethodName)) ∈ lw_all := lw_g (lw_at lw_m6 144 rfl) rfl
theorem q1597 : (Jvm.Cond.instantiable "java/lang/Throwable" (6 : Nat)) ∈ lw_all := lw_g (lw_at lw_m6 145 rfl) rfl
theorem q1598 : (Jvm.Cond.native ({ cls := "java/lang/Throwable", name := "fillInStackTrace", desc := "(I)Ljava/lang/Throwable;" } : Jvm.MethodName)) ∈ lw_all := lw_g (lw_at lw_m6 146 rfl) rfl
theorem q1599 : (Jvm.Cond.methodLink "SearchHouse$Reader" (17 : Nat) ({ cls := "SearchHouse$Fault", name := "<init>", desc := "(I)V" } : Jvm.MethodName)) ∈ lw_all := lw_g (lw_at lw_m6 147 rfl) rfl
theorem q1600 : (Jvm.Cond.instanceMethod ({ cls := "SearchHouse$Fault", name := "<init>", desc := "(I)V" } : Jvm.MethodName)) ∈ lw_all := lw_g (lw_at lw_m6 148 rfl) rfl
theorem q1601 : (Jvm.Cond.code ({ cls := "SearchHouse$Fault", name := "<init>", desc := "(I)V" } : Jvm.MethodName) prog_4_method_1_code (2 : Nat) (Option.none : Option Jvm.ClassFile.FieldType)) ∈ lw_all := lw_g (lw_at lw_m6 149 rfl) rfl
theorem q1602 : (Jvm.Cond.methodLink "SearchHouse$Fault" (1 : Nat) ({ cls := "java/lang/RuntimeException", name := "<init>", desc := "()V" } : Jvm.MethodName)) ∈ lw_all := lw_g (lw_at lw_m6 150 rfl) rfl
theorem q1603 : (Jvm.Cond.instanceMethod ({ cls := "java/lang/RuntimeException", name := "<init>", desc := "()V" } : Jvm.MethodName)) ∈ lw_all := lw_g (lw_at lw_m6 151 rfl) rfl
theorem q1604 : (Jvm.Cond.code ({ cls := "java/lang/RuntimeException", name := "<init>", desc := "()V" } : Jvm.MethodName) prog_24_method_1_code (1 : Nat) (Option.none : Option Jvm.ClassFile.FieldType)) ∈ lw_all := lw_g (lw_at lw_m6 152 rfl) rfl
theorem q1605 : (Jvm.Cond.methodLink "java/lang/RuntimeException" (1 : Nat) ({ cls := "java/lang/Exception", name := "<init>", desc := "()V" } : Jvm.MethodName)) ∈ lw_all := lw_g (lw_at lw_m6 153 rfl) rfl
theorem q1606 : (Jvm.Cond.instanceMethod ({ cls := "java/lang/Exception", name := "<init>", desc := "()V" } : Jvm.MethodName)) ∈ lw_all := lw_g (lw_at lw_m6 154 rfl) rfl
theorem q1607 : (Jvm.Cond.code ({ cls := "java/lang/Exception", name := "<init>", desc := "()V" } : Jvm.MethodName) prog_17_method_1_code (1 : Nat) (Option.none : Option Jvm.ClassFile.FieldType)) ∈ lw_all := lw_g (lw_at lw_m6 155 rfl) rfl
theorem q1608 : (Jvm.Cond.methodLink "java/lang/Exception" (1 : Nat) ({ cls := "java/lang/Throwable", name := "<init>", desc := "()V" } : Jvm.MethodName)) ∈ lw_all := lw_g (lw_at lw_m6 156 rfl) rfl
theorem q1609 : (Jvm.Cond.fieldLink "SearchHouse$Fault" (7 : Nat) "SearchHouse$Fault" "code" "I") ∈ lw_all := lw_g (lw_at lw_m6 157 rfl) rfl
theorem q1610 : (Jvm.Cond.fieldLinkNest "SearchHouse" (511 : Nat) "SearchHouse$Fault" "code" "I" "SearchHouse") ∈ lw_tbl := lw_at lw_m6 158 rfl
theorem q1611 : (Jvm.Cond.fieldLink "java/lang/Throwable" (198 : Nat) "java/lang/Throwable" "backtrace" "Ljava/lang/Object;") ∈ lw_all := lw_g (lw_at lw_m6 159 rfl) rfl
theorem q1612 : (Jvm.Cond.fieldLink "java/lang/Throwable" (31 : Nat) "java/lang/Throwable" "detailMessage" "Ljava/lang/String;") ∈ lw_all := lw_g (lw_at lw_m6 160 rfl) rfl
theorem q1613 : (Jvm.Cond.fieldLink "java/lang/Throwable" (7 : Nat) "java/lang/Throwable" "cause" "Ljava/lang/Throwable;") ∈ lw_all := lw_g (lw_at lw_m6 161 rfl) rfl
theorem q1614 : (Jvm.Cond.fieldLink "java/lang/Throwable" (17 : Nat) "java/lang/Throwable" "stackTrace" "[Ljava/lang/StackTraceElement;") ∈ lw_all := lw_g (lw_at lw_m6 162 rfl) rfl
theorem q1615 : (Jvm.Cond.fieldLink "java/lang/Throwable" (24 : Nat) "java/lang/Throwable" "suppressedExceptions" "Ljava/util/List;") ∈ lw_all := lw_g (lw_at lw_m6 163 rfl) rfl
theorem q1616 : (Jvm.Cond.laysFinal "SearchHouse$Fault" "SearchHouse$Fault" "code" "I") ∈ lw_all := lw_g (lw_at lw_m6 164 rfl) rfl
theorem q1617 : (Jvm.Cond.soleField "SearchHouse$Fault" "code") ∈ lw_all := lw_g (lw_at lw_m6 165 rfl) rfl
theorem q1618 : (Jvm.Cond.soleField "java/lang/Throwable" "backtrace") ∈ lw_all := lw_g (lw_at lw_m6 166 rfl) rfl
theorem q1619 : (Jvm.Cond.soleField "java/lang/Throwable" "detailMessage") ∈ lw_all := lw_g (lw_at lw_m6 167 rfl) rfl
theorem q1620 : (Jvm.Cond.soleField "java/lang/Throwable" "cause") ∈ lw_all := lw_g (lw_at lw_m6 168 rfl) rfl
theorem q1621 : (Jvm.Cond.soleField "java/lang/Throwable" "stackTrace") ∈ lw_all := lw_g (lw_at lw_m6 169 rfl) rfl
theorem q1622 : (Jvm.Cond.lays "SearchHouse$Fault" "java/lang/Throwable" "depth" "I") ∈ lw_all := lw_g (lw_at lw_m6 170 rfl) rfl
theorem q1623 : (Jvm.Cond.soleField "java/lang/Throwable" "depth") ∈ lw_all := lw_g (lw_at lw_m6 171 rfl) rfl
theorem q1624 : (Jvm.Cond.soleField "java/lang/Throwable" "suppressedExceptions") ∈ lw_all := lw_g (lw_at lw_m6 172 rfl) rfl
theorem q1625 : (Jvm.Cond.superclass "SearchHouse$Fault" "java/lang/RuntimeException") ∈ lw_all := lw_g (lw_at lw_m6 173 rfl) rfl
theorem q1626 : (Jvm.Cond.methodLink "SearchHouse$Reader" (112 : Nat) ({ cls := "SearchHouse$Reader", name := "must", desc := "(I)V" } : Jvm.MethodName)) ∈ lw_all := lw_g (lw_at lw_m6 174 rfl) rfl
theorem q1627 : (Jvm.Cond.privateMethod ({ cls := "SearchHouse$Reader", name := "must", desc := "(I)V" } : Jvm.MethodName)) ∈ lw_tbl := lw_at lw_m6 175 rfl
theorem q1628 : (Jvm.Cond.instanceMethod ({ cls := "SearchHouse$Reader", name := "must", desc := "(I)V" } : Jvm.MethodName)) ∈ lw_all := lw_g (lw_at lw_m6 176 rfl) rfl
theorem q1629 : (Jvm.Cond.code ({ cls := "SearchHouse$Reader", name := "must", desc := "(I)V" } : Jvm.MethodName) prog_7_method_4_code (2 : Nat) (Option.none : Option Jvm.ClassFile.FieldType)) ∈ lw_all := lw_g (lw_at lw_m6 177 rfl) rfl
theorem q1630 : (Jvm.Cond.methodLink "SearchHouse$Reader" (115 : Nat) ({ cls := "SearchHouse$Reader", name := "least", desc := "(I)I" } : Jvm.MethodName)) ∈ lw_all := lw_g (lw_at lw_m6 178 rfl) rfl
theorem q1631 : (Jvm.Cond.privateMethod ({ cls := "SearchHouse$Reader", name := "least", desc := "(I)I" } : Jvm.MethodName)) ∈ lw_tbl := lw_at lw_m6 179 rfl
theorem q1632 : (Jvm.Cond.instanceMethod ({ cls := "SearchHouse$Reader", name := "least", desc := "(I)I" } : Jvm.MethodName)) ∈ lw_all := lw_g (lw_at lw_m6 180 rfl) rfl
theorem q1633 : (Jvm.Cond.code ({ cls := "SearchHouse$Reader", name := "least", desc := "(I)I" } : Jvm.MethodName) prog_7_method_14_code (4 : Nat) (Option.some Jvm.ClassFile.FieldType.int)) ∈ lw_all := lw_g (lw_at lw_m6 181 rfl) rfl
theorem q1634 : (Jvm.Cond.methodLink "SearchHouse$Reader" (91 : Nat) ({ cls := "SearchHouse$Reader", name := "node", desc := "(I)I" } : Jvm.MethodName)) ∈ lw_all := lw_g (lw_at lw_m6 182 rfl) rfl
theorem q1635 : (Jvm.Cond.privateMethod ({ cls := "SearchHouse$Reader", name := "node", desc := "(I)I" } : Jvm.MethodName)) ∈ lw_tbl := lw_at lw_m6 183 rfl
theorem q1636 : (Jvm.Cond.instanceMethod ({ cls := "SearchHouse$Reader", name := "node", desc := "(I)I" } : Jvm.MethodName)) ∈ lw_all := lw_g (lw_at lw_m6 184 rfl) rfl
theorem q1637 : (Jvm.Cond.code ({ cls := "SearchHouse$Reader", name := "node", desc := "(I)I" } : Jvm.MethodName) prog_7_method_7_code (3 : Nat) (Option.some Jvm.ClassFile.FieldType.int)) ∈ lw_all := lw_g (lw_at lw_m6 185 rfl) rfl
theorem q1638 : (Jvm.Cond.methodLink "SearchHouse$Reader" (104 : Nat) ({ cls := "SearchHouse$Reader", name := "digit", desc := "(II)I" } : Jvm.MethodName)) ∈ lw_all := lw_g (lw_at lw_m6 186 rfl) rfl
theorem q1639 : (Jvm.Cond.privateMethod ({ cls := "SearchHouse$Reader", name := "digit", desc := "(II)I" } : Jvm.MethodName)) ∈ lw_tbl := lw_at lw_m6 187 rfl
theorem q1640 : (Jvm.Cond.instanceMethod ({ cls := "SearchHouse$Reader", name := "digit", desc := "(II)I" } : Jvm.MethodName)) ∈ lw_all := lw_g (lw_at lw_m6 188 rfl) rfl
theorem q1641 : (Jvm.Cond.code ({ cls := "SearchHouse$Reader", name := "digit", desc := "(II)I" } : Jvm.MethodName) prog_7_method_6_code (4 : Nat) (Option.some Jvm.ClassFile.FieldType.int)) ∈ lw_all := lw_g (lw_at lw_m6 189 rfl) rfl
theorem q1642 : (Jvm.Cond.methodLinkNest "SearchHouse$Reader" (45 : Nat) ({ cls := "SearchHouse", name := "isIn", desc := "(III)Z" } : Jvm.MethodName) "SearchHouse") ∈ lw_tbl := lw_at lw_m6 190 rfl
theorem q1643 : (Jvm.Cond.methodLink "SearchHouse$Reader" (118 : Nat) ({ cls := "SearchHouse$Reader", name := "isPatternByte", desc := "(I)Z" } : Jvm.MethodName)) ∈ lw_all := lw_g (lw_at lw_m6 191 rfl) rfl
theorem q1644 : (Jvm.Cond.privateMethod ({ cls := "SearchHouse$Reader", name := "isPatternByte", desc := "(I)Z" } : Jvm.MethodName)) ∈ lw_tbl := lw_at lw_m6 192 rfl
theorem q1645 : (Jvm.Cond.instanceMethod ({ cls := "SearchHouse$Reader", name := "isPatternByte", desc := "(I)Z" } : Jvm.MethodName)) ∈ lw_all := lw_g (lw_at lw_m6 193 rfl) rfl
theorem q1646 : (Jvm.Cond.code ({ cls := "SearchHouse$Reader", name := "isPatternByte", desc := "(I)Z" } : Jvm.MethodName) prog_7_method_15_code (3 : Nat) (Option.some Jvm.ClassFile.FieldType.boolean)) ∈ lw_all := lw_g (lw_at lw_m6 194 rfl) rfl
theorem q1647 : (Jvm.Cond.methodLink "SearchHouse$Reader" (121 : Nat) ({ cls := "SearchHouse$Reader", name := "leaf", desc := "(I)I" } : Jvm.MethodName)) ∈ lw_all := lw_g (lw_at lw_m6 195 rfl) rfl
theorem q1648 : (Jvm.Cond.privateMethod ({ cls := "SearchHouse$Reader", name := "leaf", desc := "(I)I" } : Jvm.MethodName)) ∈ lw_tbl := lw_at lw_m6 196 rfl
theorem q1649 : (Jvm.Cond.instanceMethod ({ cls := "SearchHouse$Reader", name := "leaf", desc := "(I)I" } : Jvm.MethodName)) ∈ lw_all := lw_g (lw_at lw_m6 197 rfl) rfl
theorem q1650 : (Jvm.Cond.code ({ cls := "SearchHouse$Reader", name := "leaf", desc := "(I)I" } : Jvm.MethodName) prog_7_method_17_code (6 : Nat) (Option.some Jvm.ClassFile.FieldType.int)) ∈ lw_all := lw_g (lw_at lw_m6 198 rfl) rfl
theorem q1651 : (Jvm.Cond.methodLinkNest "SearchHouse$Reader" (130 : Nat) ({ cls := "SearchHouse", name := "isField", desc := "(I)Z" } : Jvm.MethodName) "SearchHouse") ∈ lw_tbl := lw_at lw_m6 199 rfl
theorem q1652 : (Jvm.Cond.methodLink "SearchHouse$Reader" (136 : Nat) ({ cls := "SearchHouse$Reader", name := "quoted", desc := "(II)V" } : Jvm.MethodName)) ∈ lw_all := lw_g (lw_at lw_m6 200 rfl) rfl
theorem q1653 : (Jvm.Cond.privateMethod ({ cls := "SearchHouse$Reader", name := "quoted", desc := "(II)V" } : Jvm.MethodName)) ∈ lw_tbl := lw_at lw_m6 201 rfl
theorem q1654 : (Jvm.Cond.instanceMethod ({ cls := "SearchHouse$Reader", name := "quoted", desc := "(II)V" } : Jvm.MethodName)) ∈ lw_all := lw_g (lw_at lw_m6 202 rfl) rfl
theorem q1655 : (Jvm.Cond.code ({ cls := "SearchHouse$Reader", name := "quoted", desc := "(II)V" } : Jvm.MethodName) prog_7_method_18_code (3 : Nat) (Option.none : Option Jvm.ClassFile.FieldType)) ∈ lw_all := lw_g (lw_at lw_m6 203 rfl) rfl
theorem q1656 : (Jvm.Cond.methodLink "SearchHouse$Reader" (140 : Nat) ({ cls := "SearchHouse$Reader", name := "range", desc := "(I)V" } : Jvm.MethodName)) ∈ lw_all := lw_g (lw_at lw_m6 204 rfl) rfl
theorem q1657 : (Jvm.Cond.privateMethod ({ cls := "SearchHouse$Reader", name := "range", desc := "(I)V" } : Jvm.MethodName)) ∈ lw_tbl := lw_at lw_m6 205 rfl
theorem q1658 : (Jvm.Cond.instanceMethod ({ cls := "SearchHouse$Reader", name := "range", desc := "(I)V" } : Jvm.MethodName)) ∈ lw_all := lw_g (lw_at lw_m6 206 rfl) rfl
theorem q1659 : (Jvm.Cond.code ({ cls := "SearchHouse$Reader", name := "range", desc := "(I)V" } : Jvm.MethodName) prog_7_method_21_code (2 : Nat) (Option.none : Option Jvm.ClassFile.FieldType)) ∈ lw_all := lw_g (lw_at lw_m6 207 rfl) rfl
theorem q1660 : (Jvm.Cond.constantLong "SearchHouse$Reader" (164 : Nat) (-9223372036854775808 : Int64)) ∈ lw_all := lw_g (lw_at lw_m6 208 rfl) rfl
theorem q1661 : (Jvm.Cond.methodLink "SearchHouse$Reader" (166 : Nat) ({ cls := "SearchHouse$Reader", name := "value", desc := "(I)J" } : Jvm.MethodName)) ∈ lw_all := lw_g (lw_at lw_m6 209 rfl) rfl
theorem q1662 : (Jvm.Cond.privateMethod ({ cls := "SearchHouse$Reader", name := "value", desc := "(I)J" } : Jvm.MethodName)) ∈ lw_tbl := lw_at lw_m6 210 rfl
theorem q1663 : (Jvm.Cond.instanceMethod ({ cls := "SearchHouse$Reader", name := "value", desc := "(I)J" } : Jvm.MethodName)) ∈ lw_all := lw_g (lw_at lw_m6 211 rfl) rfl
theorem q1664 : (Jvm.Cond.code ({ cls := "SearchHouse$Reader", name := "value", desc := "(I)J" } : Jvm.MethodName) prog_7_method_20_code (6 : Nat) (Option.some Jvm.ClassFile.FieldType.long)) ∈ lw_all := lw_g (lw_at lw_m6 212 rfl) rfl
theorem q1665 : (Jvm.Cond.methodLink "SearchHouse$Reader" (127 : Nat) ({ cls := "SearchHouse$Reader", name := "isDigit", desc := "(I)Z" } : Jvm.MethodName)) ∈ lw_all := lw_g (lw_at lw_m6 213 rfl) rfl
theorem q1666 : (Jvm.Cond.privateMethod ({ cls := "SearchHouse$Reader", name := "isDigit", desc := "(I)Z" } : Jvm.MethodName)) ∈ lw_tbl := lw_at lw_m6 214 rfl
theorem q1667 : (Jvm.Cond.instanceMethod ({ cls := "SearchHouse$Reader", name := "isDigit", desc := "(I)Z" } : Jvm.MethodName)) ∈ lw_all := lw_g (lw_at lw_m6 215 rfl) rfl
theorem q1668 : (Jvm.Cond.code ({ cls := "SearchHouse$Reader", name := "isDigit", desc := "(I)Z" } : Jvm.MethodName) prog_7_method_5_code (2 : Nat) (Option.some Jvm.ClassFile.FieldType.boolean)) ∈ lw_all := lw_g (lw_at lw_m6 216 rfl) rfl
theorem q1669 : (Jvm.Cond.constantLong "SearchHouse$Reader" (155 : Nat) (10 : Int64)) ∈ lw_all := lw_g (lw_at lw_m6 217 rfl) rfl
theorem q1670 : (Jvm.Cond.constantLong "SearchHouse$Reader" (157 : Nat) (48 : Int64)) ∈ lw_all := lw_g (lw_at lw_m6 218 rfl) rfl
theorem q1671 : (Jvm.Cond.constantLong "SearchHouse$Reader" (173 : Nat) (9223372036854775807 : Int64)) ∈ lw_all := lw_g (lw_at lw_m6 219 rfl) rfl
theorem q1672 : (Jvm.Cond.methodLink "SearchHouse$Reader" (143 : Nat) ({ cls := "SearchHouse$Reader", name := "circle", desc := "(I)V" } : Jvm.MethodName)) ∈ lw_all := lw_g (lw_at lw_m6 220 rfl) rfl
theorem q1673 : (Jvm.Cond.privateMethod ({ cls := "SearchHouse$Reader", name := "circle", desc := "(I)V" } : Jvm.MethodName)) ∈ lw_tbl := lw_at lw_m6 221 rfl
theorem q1674 : (Jvm.Cond.instanceMethod ({ cls := "SearchHouse$Reader", name := "circle", desc := "(I)V" } : Jvm.MethodName)) ∈ lw_all := lw_g (lw_at lw_m6 222 rfl) rfl
theorem q1675 : (Jvm.Cond.code ({ cls := "SearchHouse$Reader", name := "circle", desc := "(I)V" } : Jvm.MethodName) prog_7_method_22_code (2 : Nat) (Option.none : Option Jvm.ClassFile.FieldType)) ∈ lw_all := lw_g (lw_at lw_m6 223 rfl) rfl
theorem q1676 : (Jvm.Cond.methodLink "SearchHouse$Reader" (146 : Nat) ({ cls := "SearchHouse$Reader", name := "pattern", desc := "(II)V" } : Jvm.MethodName)) ∈ lw_all := lw_g (lw_at lw_m6 224 rfl) rfl
theorem q1677 : (Jvm.Cond.privateMethod ({ cls := "SearchHouse$Reader", name := "pattern", desc := "(II)V" } : Jvm.MethodName)) ∈ lw_tbl := lw_at lw_m6 225 rfl
theorem q1678 : (Jvm.Cond.instanceMethod ({ cls := "SearchHouse$Reader", name := "pattern", desc := "(II)V" } : Jvm.MethodName)) ∈ lw_all := lw_g (lw_at lw_m6 226 rfl) rfl
theorem q1679 : (Jvm.Cond.code ({ cls := "SearchHouse$Reader", name := "pattern", desc := "(II)V" } : Jvm.MethodName) prog_7_method_19_code (4 : Nat) (Option.none : Option Jvm.ClassFile.FieldType)) ∈ lw_all := lw_g (lw_at lw_m6 227 rfl) rfl
theorem q1680 : (Jvm.Cond.methodLink "SearchHouse$Reader" (124 : Nat) ({ cls := "SearchHouse$Reader", name := "field", desc := "()I" } : Jvm.MethodName)) ∈ lw_all := lw_g (lw_at lw_m6 228 rfl) rfl
theorem q1681 : (Jvm.Cond.privateMethod ({ cls := "SearchHouse$Reader", name := "field", desc := "()I" } : Jvm.MethodName)) ∈ lw_tbl := lw_at lw_m6 229 rfl
theorem q1682 : (Jvm.Cond.instanceMethod ({ cls := "SearchHouse$Reader", name := "field", desc := "()I" } : Jvm.MethodName)) ∈ lw_all := lw_g (lw_at lw_m6 230 rfl) rfl
theorem q1683 : (Jvm.Cond.code ({ cls := "SearchHouse$Reader", name := "field", desc := "()I" } : Jvm.MethodName) prog_7_method_16_code (3 : Nat) (Option.some Jvm.ClassFile.FieldType.int)) ∈ lw_all := lw_g (lw_at lw_m6 231 rfl) rfl
theorem q1684 : (Jvm.Cond.methodLink "SearchHouse" (514 : Nat) ({ cls := "SearchHouse$Question", name := "copy", desc := "(LSearchHouse$Question;)V" } : Jvm.MethodName)) ∈ lw_all := lw_g (lw_at lw_m6 232 rfl) rfl
theorem q1685 : (Jvm.Cond.instanceMethod ({ cls := "SearchHouse$Question", name := "copy", desc := "(LSearchHouse$Question;)V" } : Jvm.MethodName)) ∈ lw_all := lw_g (lw_at lw_m6 233 rfl) rfl
theorem q1686 : (Jvm.Cond.selects "SearchHouse$Question" ({ cls := "SearchHouse$Question", name := "copy", desc := "(LSearchHouse$Question;)V" } : Jvm.MethodName) ({ cls := "SearchHouse$Question", name := "copy", desc := "(LSearchHouse$Question;)V" } : Jvm.MethodName)) ∈ lw_all := lw_g (lw_at lw_m6 234 rfl) rfl
theorem q1687 : (Jvm.Cond.code ({ cls := "SearchHouse$Question", name := "copy", desc := "(LSearchHouse$Question;)V" } : Jvm.MethodName) prog_6_method_2_code (3 : Nat) (Option.none : Option Jvm.ClassFile.FieldType)) ∈ lw_all := lw_g (lw_at lw_m6 235 rfl) rfl
theorem q1688 : (Jvm.Cond.methodLink "SearchHouse$Question" (55 : Nat) ({ cls := "java/lang/System", name := "arraycopy", desc := "(Ljava/lang/Object;ILjava/lang/Object;II)V" } : Jvm.MethodName)) ∈ lw_all := lw_g (lw_at lw_m6 236 rfl) rfl
theorem q1689 : (Jvm.Cond.methodLink "SearchHouseLaw" (117 : Nat) ({ cls := "SearchHouse", name := "keep", desc := "()I" } : Jvm.MethodName)) ∈ lw_all := lw_g (lw_at lw_m6 237 rfl) rfl
theorem q1690 : (Jvm.Cond.instanceMethod ({ cls := "SearchHouse", name := "keep", desc := "()I" } : Jvm.MethodName)) ∈ lw_all := lw_g (lw_at lw_m6 238 rfl) rfl
theorem q1691 : (Jvm.Cond.selects "SearchHouse" ({ cls := "SearchHouse", name := "keep", desc := "()I" } : Jvm.MethodName) ({ cls := "SearchHouse", name := "keep", desc := "()I" } : Jvm.MethodName)) ∈ lw_all := lw_g (lw_at lw_m6 239 rfl) rfl
theorem q1692 : (Jvm.Cond.code ({ cls := "SearchHouse", name := "keep", desc := "()I" } : Jvm.MethodName) prog_1_method_52_code (1 : Nat) (Option.some Jvm.ClassFile.FieldType.int)) ∈ lw_all := lw_g (lw_at lw_m7 0 rfl) rfl
theorem q1693 : (Jvm.Cond.methodLink "SearchHouseLaw" (121 : Nat) ({ cls := "SearchHouse", name := "use", desc := "(I)I" } : Jvm.MethodName)) ∈ lw_all := lw_g (lw_at lw_m7 1 rfl) rfl
theorem q1694 : (Jvm.Cond.instanceMethod ({ cls := "SearchHouse", name := "use", desc := "(I)I" } : Jvm.MethodName)) ∈ lw_all := lw_g (lw_at lw_m7 2 rfl) rfl
theorem q1695 : (Jvm.Cond.selects "SearchHouse" ({ cls := "SearchHouse", name := "use", desc := "(I)I" } : Jvm.MethodName) ({ cls := "SearchHouse", name := "use", desc := "(I)I" } : Jvm.MethodName)) ∈ lw_all := lw_g (lw_at lw_m7 3 rfl) rfl
theorem q1696 : (Jvm.Cond.code ({ cls := "SearchHouse", name := "use", desc := "(I)I" } : Jvm.MethodName) prog_1_method_53_code (2 : Nat) (Option.some Jvm.ClassFile.FieldType.int)) ∈ lw_all := lw_g (lw_at lw_m7 4 rfl) rfl
theorem q1697 : (Jvm.Cond.methodLink "SearchHouseLaw" (125 : Nat) ({ cls := "SearchHouse", name := "user", desc := "(I)I" } : Jvm.MethodName)) ∈ lw_all := lw_g (lw_at lw_m7 5 rfl) rfl
theorem q1698 : (Jvm.Cond.instanceMethod ({ cls := "SearchHouse", name := "user", desc := "(I)I" } : Jvm.MethodName)) ∈ lw_all := lw_g (lw_at lw_m7 6 rfl) rfl
theorem q1699 : (Jvm.Cond.selects "SearchHouse" ({ cls := "SearchHouse", name := "user", desc := "(I)I" } : Jvm.MethodName) ({ cls := "SearchHouse", name := "user", desc := "(I)I" } : Jvm.MethodName)) ∈ lw_all := lw_g (lw_at lw_m7 7 rfl) rfl
theorem q1700 : (Jvm.Cond.code ({ cls := "SearchHouse", name := "user", desc := "(I)I" } : Jvm.MethodName) prog_1_method_54_code (3 : Nat) (Option.some Jvm.ClassFile.FieldType.int)) ∈ lw_all := lw_g (lw_at lw_m7 8 rfl) rfl
theorem q1701 : (Jvm.Cond.methodLink "SearchHouseLaw" (129 : Nat) ({ cls := "SearchHouse", name := "hide", desc := "(I)I" } : Jvm.MethodName)) ∈ lw_all := lw_g (lw_at lw_m7 9 rfl) rfl
theorem q1702 : (Jvm.Cond.instanceMethod ({ cls := "SearchHouse", name := "hide", desc := "(I)I" } : Jvm.MethodName)) ∈ lw_all := lw_g (lw_at lw_m7 10 rfl) rfl
theorem q1703 : (Jvm.Cond.selects "SearchHouse" ({ cls := "SearchHouse", name := "hide", desc := "(I)I" } : Jvm.MethodName) ({ cls := "SearchHouse", name := "hide", desc := "(I)I" } : Jvm.MethodName)) ∈ lw_all := lw_g (lw_at lw_m7 11 rfl) rfl
theorem q1704 : (Jvm.Cond.code ({ cls := "SearchHouse", name := "hide", desc := "(I)I" } : Jvm.MethodName) prog_1_method_55_code (2 : Nat) (Option.some Jvm.ClassFile.FieldType.int)) ∈ lw_all := lw_g (lw_at lw_m7 12 rfl) rfl
theorem q1705 : (Jvm.Cond.methodLink "SearchHouseLaw" (133 : Nat) ({ cls := "SearchHouse", name := "unhide", desc := "(I)I" } : Jvm.MethodName)) ∈ lw_all := lw_g (lw_at lw_m7 13 rfl) rfl
theorem q1706 : (Jvm.Cond.instanceMethod ({ cls := "SearchHouse", name := "unhide", desc := "(I)I" } : Jvm.MethodName)) ∈ lw_all := lw_g (lw_at lw_m7 14 rfl) rfl
theorem q1707 : (Jvm.Cond.selects "SearchHouse" ({ cls := "SearchHouse", name := "unhide", desc := "(I)I" } : Jvm.MethodName) ({ cls := "SearchHouse", name := "unhide", desc := "(I)I" } : Jvm.MethodName)) ∈ lw_all := lw_g (lw_at lw_m7 15 rfl) rfl
theorem q1708 : (Jvm.Cond.code ({ cls := "SearchHouse", name := "unhide", desc := "(I)I" } : Jvm.MethodName) prog_1_method_56_code (3 : Nat) (Option.some Jvm.ClassFile.FieldType.int)) ∈ lw_all := lw_g (lw_at lw_m7 16 rfl) rfl
theorem q1709 : (Jvm.Cond.methodLink "SearchHouseLaw" (137 : Nat) ({ cls := "SearchHouse", name := "blind", desc := "(III)I" } : Jvm.MethodName)) ∈ lw_all := lw_g (lw_at lw_m7 17 rfl) rfl
theorem q1710 : (Jvm.Cond.instanceMethod ({ cls := "SearchHouse", name := "blind", desc := "(III)I" } : Jvm.MethodName)) ∈ lw_all := lw_g (lw_at lw_m7 18 rfl) rfl
theorem q1711 : (Jvm.Cond.selects "SearchHouse" ({ cls := "SearchHouse", name := "blind", desc := "(III)I" } : Jvm.MethodName) ({ cls := "SearchHouse", name := "blind", desc := "(III)I" } : Jvm.MethodName)) ∈ lw_all := lw_g (lw_at lw_m7 19 rfl) rfl
theorem q1712 : (Jvm.Cond.code ({ cls := "SearchHouse", name := "blind", desc := "(III)I" } : Jvm.MethodName) prog_1_method_57_code (5 : Nat) (Option.some Jvm.ClassFile.FieldType.int)) ∈ lw_all := lw_g (lw_at lw_m7 20 rfl) rfl
theorem q1713 : (Jvm.Cond.methodLink "SearchHouseLaw" (141 : Nat) ({ cls := "SearchHouse", name := "formula", desc := "(I)I" } : Jvm.MethodName)) ∈ lw_all := lw_g (lw_at lw_m7 21 rfl) rfl
theorem q1714 : (Jvm.Cond.instanceMethod ({ cls := "SearchHouse", name := "formula", desc := "(I)I" } : Jvm.MethodName)) ∈ lw_all := lw_g (lw_at lw_m7 22 rfl) rfl
theorem q1715 : (Jvm.Cond.selects "SearchHouse" ({ cls := "SearchHouse", name := "formula", desc := "(I)I" } : Jvm.MethodName) ({ cls := "SearchHouse", name := "formula", desc := "(I)I" } : Jvm.MethodName)) ∈ lw_all := lw_g (lw_at lw_m7 23 rfl) rfl
theorem q1716 : (Jvm.Cond.code ({ cls := "SearchHouse", name := "formula", desc := "(I)I" } : Jvm.MethodName) prog_1_method_62_code (3 : Nat) (Option.some Jvm.ClassFile.FieldType.int)) ∈ lw_all := lw_g (lw_at lw_m7 24 rfl) rfl
theorem q1717 : (Jvm.Cond.methodLink "SearchHouseLaw" (145 : Nat) ({ cls := "SearchHouse", name := "sort", desc := "(II)I" } : Jvm.MethodName)) ∈ lw_all := lw_g (lw_at lw_m7 25 rfl) rfl
theorem q1718 : (Jvm.Cond.instanceMethod ({ cls := "SearchHouse", name := "sort", desc := "(II)I" } : Jvm.MethodName)) ∈ lw_all := lw_g (lw_at lw_m7 26 rfl) rfl
theorem q1719 : (Jvm.Cond.selects "SearchHouse" ({ cls := "SearchHouse", name := "sort", desc := "(II)I" } : Jvm.MethodName) ({ cls := "SearchHouse", name := "sort", desc := "(II)I" } : Jvm.MethodName)) ∈ lw_all := lw_g (lw_at lw_m7 27 rfl) rfl
theorem q1720 : (Jvm.Cond.code ({ cls := "SearchHouse", name := "sort", desc := "(II)I" } : Jvm.MethodName) prog_1_method_63_code (3 : Nat) (Option.some Jvm.ClassFile.FieldType.int)) ∈ lw_all := lw_g (lw_at lw_m7 28 rfl) rfl
theorem q1721 : (Jvm.Cond.methodLink "SearchHouseLaw" (149 : Nat) ({ cls := "SearchHouse", name := "search", desc := "(I)I" } : Jvm.MethodName)) ∈ lw_all := lw_g (lw_at lw_m7 29 rfl) rfl
theorem q1722 : (Jvm.Cond.instanceMethod ({ cls := "SearchHouse", name := "search", desc := "(I)I" } : Jvm.MethodName)) ∈ lw_all := lw_g (lw_at lw_m7 30 rfl) rfl
theorem q1723 : (Jvm.Cond.selects "SearchHouse" ({ cls := "SearchHouse", name := "search", desc := "(I)I" } : Jvm.MethodName) ({ cls := "SearchHouse", name := "search", desc := "(I)I" } : Jvm.MethodName)) ∈ lw_all := lw_g (lw_at lw_m7 31 rfl) rfl
theorem q1724 : (Jvm.Cond.code ({ cls := "SearchHouse", name := "search", desc := "(I)I" } : Jvm.MethodName) prog_1_method_66_code (6 : Nat) (Option.some Jvm.ClassFile.FieldType.int)) ∈ lw_all := lw_g (lw_at lw_m7 32 rfl) rfl
theorem q1725 : (Jvm.Cond.methodLink "SearchHouse" (598 : Nat) ({ cls := "SearchHouse", name := "versionOf", desc := "(I)I" } : Jvm.MethodName)) ∈ lw_all := lw_g (lw_at lw_m7 33 rfl) rfl
theorem q1726 : (Jvm.Cond.privateMethod ({ cls := "SearchHouse", name := "versionOf", desc := "(I)I" } : Jvm.MethodName)) ∈ lw_tbl := lw_at lw_m7 34 rfl
theorem q1727 : (Jvm.Cond.instanceMethod ({ cls := "SearchHouse", name := "versionOf", desc := "(I)I" } : Jvm.MethodName)) ∈ lw_all := lw_g (lw_at lw_m7 35 rfl) rfl
theorem q1728 : (Jvm.Cond.code ({ cls := "SearchHouse", name := "versionOf", desc := "(I)I" } : Jvm.MethodName) prog_1_method_64_code (2 : Nat) (Option.some Jvm.ClassFile.FieldType.int)) ∈ lw_all := lw_g (lw_at lw_m7 36 rfl) rfl
theorem q1729 : (Jvm.Cond.methodLink "SearchHouse" (601 : Nat) ({ cls := "SearchHouse", name := "askShards", desc := "()Z" } : Jvm.MethodName)) ∈ lw_all := lw_g (lw_at lw_m7 37 rfl) rfl
theorem q1730 : (Jvm.Cond.privateMethod ({ cls := "SearchHouse", name := "askShards", desc := "()Z" } : Jvm.MethodName)) ∈ lw_tbl := lw_at lw_m7 38 rfl
theorem q1731 : (Jvm.Cond.instanceMethod ({ cls := "SearchHouse", name := "askShards", desc := "()Z" } : Jvm.MethodName)) ∈ lw_all := lw_g (lw_at lw_m7 39 rfl) rfl
theorem q1732 : (Jvm.Cond.code ({ cls := "SearchHouse", name := "askShards", desc := "()Z" } : Jvm.MethodName) prog_1_method_107_code (3 : Nat) (Option.some Jvm.ClassFile.FieldType.boolean)) ∈ lw_all := lw_g (lw_at lw_m7 40 rfl) rfl
theorem q1733 : (Jvm.Cond.methodLink "SearchHouse" (726 : Nat) ({ cls := "SearchHouse", name := "nodeOf", desc := "(I)I" } : Jvm.MethodName)) ∈ lw_all := lw_g (lw_at lw_m7 41 rfl) rfl
theorem q1734 : (Jvm.Cond.privateMethod ({ cls := "SearchHouse", name := "nodeOf", desc := "(I)I" } : Jvm.MethodName)) ∈ lw_tbl := lw_at lw_m7 42 rfl
theorem q1735 : (Jvm.Cond.instanceMethod ({ cls := "SearchHouse", name := "nodeOf", desc := "(I)I" } : Jvm.MethodName)) ∈ lw_all := lw_g (lw_at lw_m7 43 rfl) rfl
theorem q1736 : (Jvm.Cond.code ({ cls := "SearchHouse", name := "nodeOf", desc := "(I)I" } : Jvm.MethodName) prog_1_method_106_code (2 : Nat) (Option.some Jvm.ClassFile.FieldType.int)) ∈ lw_all := lw_g (lw_at lw_m7 44 rfl) rfl
theorem q1737 : (Jvm.Cond.methodLink "SearchHouse" (605 : Nat) ({ cls := "SearchHouse", name := "makeWorld", desc := "(LSearchHouse$Asking;I)V" } : Jvm.MethodName)) ∈ lw_all := lw_g (lw_at lw_m7 45 rfl) rfl
theorem q1738 : (Jvm.Cond.privateMethod ({ cls := "SearchHouse", name := "makeWorld", desc := "(LSearchHouse$Asking;I)V" } : Jvm.MethodName)) ∈ lw_tbl := lw_at lw_m7 46 rfl
theorem q1739 : (Jvm.Cond.instanceMethod ({ cls := "SearchHouse", name := "makeWorld", desc := "(LSearchHouse$Asking;I)V" } : Jvm.MethodName)) ∈ lw_all := lw_g (lw_at lw_m7 47 rfl) rfl
theorem q1740 : (Jvm.Cond.code ({ cls := "SearchHouse", name := "makeWorld", desc := "(LSearchHouse$Asking;I)V" } : Jvm.MethodName) prog_1_method_65_code (4 : Nat) (Option.none : Option Jvm.ClassFile.FieldType)) ∈ lw_all := lw_g (lw_at lw_m7 48 rfl) rfl
theorem q1741 : (Jvm.Cond.methodLink "SearchHouse" (572 : Nat) ({ cls := "SearchHouse$World", name := "objects", desc := "(I)V" } : Jvm.MethodName)) ∈ lw_all := lw_g (lw_at lw_m7 49 rfl) rfl
theorem q1742 : (Jvm.Cond.instanceMethod ({ cls := "SearchHouse$World", name := "objects", desc := "(I)V" } : Jvm.MethodName)) ∈ lw_all := lw_g (lw_at lw_m7 50 rfl) rfl
theorem q1743 : (Jvm.Cond.selects "SearchHouse$World" ({ cls := "SearchHouse$World", name := "objects", desc := "(I)V" } : Jvm.MethodName) ({ cls := "SearchHouse$World", name := "objects", desc := "(I)V" } : Jvm.MethodName)) ∈ lw_all := lw_g (lw_at lw_m7 51 rfl) rfl
theorem q1744 : (Jvm.Cond.code ({ cls := "SearchHouse$World", name := "objects", desc := "(I)V" } : Jvm.MethodName) prog_12_method_3_code (3 : Nat) (Option.none : Option Jvm.ClassFile.FieldType)) ∈ lw_all := lw_g (lw_at lw_m7 52 rfl) rfl
theorem q1745 : (Jvm.Cond.methodLinkNest "SearchHouse$World" (49 : Nat) ({ cls := "SearchHouse", name := "isInVersion", desc := "(II)Z" } : Jvm.MethodName) "SearchHouse") ∈ lw_tbl := lw_at lw_m7 53 rfl
theorem q1746 : (Jvm.Cond.methodLink "SearchHouse$World" (53 : Nat) ({ cls := "SearchHouse$World", name := "chain", desc := "()V" } : Jvm.MethodName)) ∈ lw_all := lw_g (lw_at lw_m7 54 rfl) rfl
theorem q1747 : (Jvm.Cond.privateMethod ({ cls := "SearchHouse$World", name := "chain", desc := "()V" } : Jvm.MethodName)) ∈ lw_tbl := lw_at lw_m7 55 rfl
theorem q1748 : (Jvm.Cond.instanceMethod ({ cls := "SearchHouse$World", name := "chain", desc := "()V" } : Jvm.MethodName)) ∈ lw_all := lw_g (lw_at lw_m7 56 rfl) rfl
theorem q1749 : (Jvm.Cond.code ({ cls := "SearchHouse$World", name := "chain", desc := "()V" } : Jvm.MethodName) prog_12_method_5_code (3 : Nat) (Option.none : Option Jvm.ClassFile.FieldType)) ∈ lw_all := lw_g (lw_at lw_m7 57 rfl) rfl
theorem q1750 : (Jvm.Cond.methodLink "SearchHouse" (581 : Nat) ({ cls := "SearchHouse$Asking", name := "prepare", desc := "()V" } : Jvm.MethodName)) ∈ lw_all := lw_g (lw_at lw_m7 58 rfl) rfl
theorem q1751 : (Jvm.Cond.instanceMethod ({ cls := "SearchHouse$Asking", name := "prepare", desc := "()V" } : Jvm.MethodName)) ∈ lw_all := lw_g (lw_at lw_m7 59 rfl) rfl
theorem q1752 : (Jvm.Cond.selects "SearchHouse$Asking" ({ cls := "SearchHouse$Asking", name := "prepare", desc := "()V" } : Jvm.MethodName) ({ cls := "SearchHouse$Asking", name := "prepare", desc := "()V" } : Jvm.MethodName)) ∈ lw_all := lw_g (lw_at lw_m7 60 rfl) rfl
theorem q1753 : (Jvm.Cond.code ({ cls := "SearchHouse$Asking", name := "prepare", desc := "()V" } : Jvm.MethodName) prog_3_method_4_code (3 : Nat) (Option.none : Option Jvm.ClassFile.FieldType)) ∈ lw_all := lw_g (lw_at lw_m7 61 rfl) rfl
theorem q1754 : (Jvm.Cond.methodLink "SearchHouse$Asking" (77 : Nat) ({ cls := "SearchHouse$World", name := "count", desc := "()V" } : Jvm.MethodName)) ∈ lw_all := lw_g (lw_at lw_m7 62 rfl) rfl
theorem q1755 : (Jvm.Cond.instanceMethod ({ cls := "SearchHouse$World", name := "count", desc := "()V" } : Jvm.MethodName)) ∈ lw_all := lw_g (lw_at lw_m7 63 rfl) rfl
theorem q1756 : (Jvm.Cond.selects "SearchHouse$World" ({ cls := "SearchHouse$World", name := "count", desc := "()V" } : Jvm.MethodName) ({ cls := "SearchHouse$World", name := "count", desc := "()V" } : Jvm.MethodName)) ∈ lw_all := lw_g (lw_at lw_m7 64 rfl) rfl
theorem q1757 : (Jvm.Cond.code ({ cls := "SearchHouse$World", name := "count", desc := "()V" } : Jvm.MethodName) prog_12_method_6_code (5 : Nat) (Option.none : Option Jvm.ClassFile.FieldType)) ∈ lw_all := lw_g (lw_at lw_m7 65 rfl) rfl
theorem q1758 : (Jvm.Cond.constantLong "SearchHouse$Asking" (93 : Nat) (-2 : Int64)) ∈ lw_all := lw_g (lw_at lw_m7 66 rfl) rfl
theorem q1759 : (Jvm.Cond.methodLink "SearchHouse$Asking" (101 : Nat) ({ cls := "SearchHouse$Asking", name := "set", desc := "(III)V" } : Jvm.MethodName)) ∈ lw_all := lw_g (lw_at lw_m7 67 rfl) rfl
theorem q1760 : (Jvm.Cond.privateMethod ({ cls := "SearchHouse$Asking", name := "set", desc := "(III)V" } : Jvm.MethodName)) ∈ lw_tbl := lw_at lw_m7 68 rfl
theorem q1761 : (Jvm.Cond.instanceMethod ({ cls := "SearchHouse$Asking", name := "set", desc := "(III)V" } : Jvm.MethodName)) ∈ lw_all := lw_g (lw_at lw_m7 69 rfl) rfl
theorem q1762 : (Jvm.Cond.code ({ cls := "SearchHouse$Asking", name := "set", desc := "(III)V" } : Jvm.MethodName) prog_3_method_3_code (4 : Nat) (Option.none : Option Jvm.ClassFile.FieldType)) ∈ lw_all := lw_g (lw_at lw_m7 70 rfl) rfl
theorem q1763 : (Jvm.Cond.methodLink "SearchHouse$Asking" (108 : Nat) ({ cls := "SearchHouse$World", name := "shows", desc := "(I)Z" } : Jvm.MethodName)) ∈ lw_all := lw_g (lw_at lw_m7 71 rfl) rfl
theorem q1764 : (Jvm.Cond.instanceMethod ({ cls := "SearchHouse$World", name := "shows", desc := "(I)Z" } : Jvm.MethodName)) ∈ lw_all := lw_g (lw_at lw_m7 72 rfl) rfl
theorem q1765 : (Jvm.Cond.selects "SearchHouse$World" ({ cls := "SearchHouse$World", name := "shows", desc := "(I)Z" } : Jvm.MethodName) ({ cls := "SearchHouse$World", name := "shows", desc := "(I)Z" } : Jvm.MethodName)) ∈ lw_all := lw_g (lw_at lw_m7 73 rfl) rfl
theorem q1766 : (Jvm.Cond.code ({ cls := "SearchHouse$World", name := "shows", desc := "(I)Z" } : Jvm.MethodName) prog_12_method_2_code (2 : Nat) (Option.some Jvm.ClassFile.FieldType.boolean)) ∈ lw_all := lw_g (lw_at lw_m7 74 rfl) rfl
theorem q1767 : (Jvm.Cond.methodLink "SearchHouse$Asking" (112 : Nat) ({ cls := "SearchHouse$Asking", name := "text", desc := "(IZ)V" } : Jvm.MethodName)) ∈ lw_all := lw_g (lw_at lw_m7 75 rfl) rfl
theorem q1768 : (Jvm.Cond.privateMethod ({ cls := "SearchHouse$Asking", name := "text", desc := "(IZ)V" } : Jvm.MethodName)) ∈ lw_tbl := lw_at lw_m7 76 rfl
theorem q1769 : (Jvm.Cond.instanceMethod ({ cls := "SearchHouse$Asking", name := "text", desc := "(IZ)V" } : Jvm.MethodName)) ∈ lw_all := lw_g (lw_at lw_m7 77 rfl) rfl
theorem q1770 : (Jvm.Cond.code ({ cls := "SearchHouse$Asking", name := "text", desc := "(IZ)V" } : Jvm.MethodName) prog_3_method_13_code (9 : Nat) (Option.none : Option Jvm.ClassFile.FieldType)) ∈ lw_all := lw_g (lw_at lw_m7 78 rfl) rfl
theorem q1771 : (Jvm.Cond.methodLink "SearchHouse$Asking" (280 : Nat) ({ cls := "SearchHouse$Analyser", name := "analyse", desc := "([BIILSearchHouse$Tokens;)V" } : Jvm.MethodName)) ∈ lw_all := lw_g (lw_at lw_m7 79 rfl) rfl
theorem q1772 : (Jvm.Cond.methodLink "SearchHouse$Asking" (133 : Nat) ({ cls := "SearchHouse$Terms", name := "find", desc := "(I[BII)I" } : Jvm.MethodName)) ∈ lw_all := lw_g (lw_at lw_m7 80 rfl) rfl
theorem q1773 : (Jvm.Cond.methodLink "SearchHouse$Asking" (143 : Nat) ({ cls := "SearchHouse$World", name := "objectsWith", desc := "(I)I" } : Jvm.MethodName)) ∈ lw_all := lw_g (lw_at lw_m7 81 rfl) rfl
theorem q1774 : (Jvm.Cond.instanceMethod ({ cls := "SearchHouse$World", name := "objectsWith", desc := "(I)I" } : Jvm.MethodName)) ∈ lw_all := lw_g (lw_at lw_m7 82 rfl) rfl
theorem q1775 : (Jvm.Cond.selects "SearchHouse$World" ({ cls := "SearchHouse$World", name := "objectsWith", desc := "(I)I" } : Jvm.MethodName) ({ cls := "SearchHouse$World", name := "objectsWith", desc := "(I)I" } : Jvm.MethodName)) ∈ lw_all := lw_g (lw_at lw_m7 83 rfl) rfl
theorem q1776 : (Jvm.Cond.code ({ cls := "SearchHouse$World", name := "objectsWith", desc := "(I)I" } : Jvm.MethodName) prog_12_method_7_code (7 : Nat) (Option.some Jvm.ClassFile.FieldType.int)) ∈ lw_all := lw_g (lw_at lw_m7 84 rfl) rfl
theorem q1777 : (Jvm.Cond.methodLink "SearchHouse$Asking" (147 : Nat) ({ cls := "SearchHouse$Asking", name := "idf", desc := "(II)I" } : Jvm.MethodName)) ∈ lw_all := lw_g (lw_at lw_m7 85 rfl) rfl
theorem q1778 : (Jvm.Cond.privateMethod ({ cls := "SearchHouse$Asking", name := "idf", desc := "(II)I" } : Jvm.MethodName)) ∈ lw_tbl := lw_at lw_m7 86 rfl
theorem q1779 : (Jvm.Cond.instanceMethod ({ cls := "SearchHouse$Asking", name := "idf", desc := "(II)I" } : Jvm.MethodName)) ∈ lw_all := lw_g (lw_at lw_m7 87 rfl) rfl
theorem q1780 : (Jvm.Cond.code ({ cls := "SearchHouse$Asking", name := "idf", desc := "(II)I" } : Jvm.MethodName) prog_3_method_6_code (3 : Nat) (Option.some Jvm.ClassFile.FieldType.int)) ∈ lw_all := lw_g (lw_at lw_m7 88 rfl) rfl
theorem q1781 : (Jvm.Cond.constantLong "SearchHouse$Asking" (168 : Nat) (2 : Int64)) ∈ lw_all := lw_g (lw_at lw_m7 89 rfl) rfl
theorem q1782 : (Jvm.Cond.methodLinkNest "SearchHouse$Asking" (173 : Nat) ({ cls := "SearchHouse", name := "logarithm", desc := "(JJ)I" } : Jvm.MethodName) "SearchHouse") ∈ lw_tbl := lw_at lw_m7 90 rfl
theorem q1783 : (Jvm.Cond.static ({ cls := "SearchHouse", name := "logarithm", desc := "(JJ)I" } : Jvm.MethodName)) ∈ lw_all := lw_g (lw_at lw_m7 91 rfl) rfl
theorem q1784 : (Jvm.Cond.code ({ cls := "SearchHouse", name := "logarithm", desc := "(JJ)I" } : Jvm.MethodName) prog_1_method_58_code (8 : Nat) (Option.some Jvm.ClassFile.FieldType.int)) ∈ lw_all := lw_g (lw_at lw_m7 92 rfl) rfl
theorem q1785 : (Jvm.Cond.constantLong "SearchHouse" (539 : Nat) (2147483648 : Int64)) ∈ lw_all := lw_g (lw_at lw_m7 93 rfl) rfl
theorem q1786 : (Jvm.Cond.methodLink "SearchHouse$Asking" (291 : Nat) ({ cls := "java/lang/Math", name := "max", desc := "(II)I" } : Jvm.MethodName)) ∈ lw_all := lw_g (lw_at lw_m7 94 rfl) rfl
theorem q1787 : (Jvm.Cond.methodLink "SearchHouse$Asking" (296 : Nat) ({ cls := "SearchHouse$Asking", name := "lookFor", desc := "(II)V" } : Jvm.MethodName)) ∈ lw_all := lw_g (lw_at lw_m7 95 rfl) rfl
theorem q1788 : (Jvm.Cond.privateMethod ({ cls := "SearchHouse$Asking", name := "lookFor", desc := "(II)V" } : Jvm.MethodName)) ∈ lw_tbl := lw_at lw_m7 96 rfl
theorem q1789 : (Jvm.Cond.instanceMethod ({ cls := "SearchHouse$Asking", name := "lookFor", desc := "(II)V" } : Jvm.MethodName)) ∈ lw_all := lw_g (lw_at lw_m7 97 rfl) rfl
theorem q1790 : (Jvm.Cond.code ({ cls := "SearchHouse$Asking", name := "lookFor", desc := "(II)V" } : Jvm.MethodName) prog_3_method_14_code (6 : Nat) (Option.none : Option Jvm.ClassFile.FieldType)) ∈ lw_all := lw_g (lw_at lw_m7 98 rfl) rfl
theorem q1791 : (Jvm.Cond.methodLink "SearchHouse$Asking" (299 : Nat) ({ cls := "SearchHouse$Asking", name := "find", desc := "(II)I" } : Jvm.MethodName)) ∈ lw_all := lw_g (lw_at lw_m7 99 rfl) rfl
theorem q1792 : (Jvm.Cond.instanceMethod ({ cls := "SearchHouse$Asking", name := "find", desc := "(II)I" } : Jvm.MethodName)) ∈ lw_all := lw_g (lw_at lw_m7 100 rfl) rfl
theorem q1793 : (Jvm.Cond.selects "SearchHouse$Asking" ({ cls := "SearchHouse$Asking", name := "find", desc := "(II)I" } : Jvm.MethodName) ({ cls := "SearchHouse$Asking", name := "find", desc := "(II)I" } : Jvm.MethodName)) ∈ lw_all := lw_g (lw_at lw_m7 101 rfl) rfl
theorem q1794 : (Jvm.Cond.code ({ cls := "SearchHouse$Asking", name := "find", desc := "(II)I" } : Jvm.MethodName) prog_3_method_2_code (3 : Nat) (Option.some Jvm.ClassFile.FieldType.int)) ∈ lw_all := lw_g (lw_at lw_m7 102 rfl) rfl
theorem q1795 : (Jvm.Cond.methodLink "SearchHouse$Asking" (301 : Nat) ({ cls := "SearchHouse$Asking", name := "matches", desc := "(II)I" } : Jvm.MethodName)) ∈ lw_all := lw_g (lw_at lw_m7 103 rfl) rfl
theorem q1796 : (Jvm.Cond.instanceMethod ({ cls := "SearchHouse$Asking", name := "matches", desc := "(II)I" } : Jvm.MethodName)) ∈ lw_all := lw_g (lw_at lw_m7 104 rfl) rfl
theorem q1797 : (Jvm.Cond.selects "SearchHouse$Asking" ({ cls := "SearchHouse$Asking", name := "matches", desc := "(II)I" } : Jvm.MethodName) ({ cls := "SearchHouse$Asking", name := "matches", desc := "(II)I" } : Jvm.MethodName)) ∈ lw_all := lw_g (lw_at lw_m7 105 rfl) rfl
theorem q1798 : (Jvm.Cond.code ({ cls := "SearchHouse$Asking", name := "matches", desc := "(II)I" } : Jvm.MethodName) prog_3_method_16_code (7 : Nat) (Option.some Jvm.ClassFile.FieldType.int)) ∈ lw_all := lw_g (lw_at lw_m7 106 rfl) rfl
theorem q1799 : (Jvm.Cond.methodLink "SearchHouse$Asking" (310 : Nat) ({ cls := "SearchHouse$Asking", name := "has", desc := "(II)Z" } : Jvm.MethodName)) ∈ lw_all := lw_g (lw_at lw_m7 107 rfl) rfl
theorem q1800 : (Jvm.Cond.privateMethod ({ cls := "SearchHouse$Asking", name := "has", desc := "(II)Z" } : Jvm.MethodName)) ∈ lw_tbl := lw_at lw_m7 108 rfl
theorem q1801 : (Jvm.Cond.instanceMethod ({ cls := "SearchHouse$Asking", name := "has", desc := "(II)Z" } : Jvm.MethodName)) ∈ lw_all := lw_g (lw_at lw_m7 109 rfl) rfl
theorem q1802 : (Jvm.Cond.code ({ cls := "SearchHouse$Asking", name := "has", desc := "(II)Z" } : Jvm.MethodName) prog_3_method_17_code (5 : Nat) (Option.some Jvm.ClassFile.FieldType.boolean)) ∈ lw_all := lw_g (lw_at lw_m7 110 rfl) rfl
theorem q1803 : (Jvm.Cond.methodLink "SearchHouse$Asking" (313 : Nat) ({ cls := "SearchHouse$Asking", name := "isAt", desc := "(II)Z" } : Jvm.MethodName)) ∈ lw_all := lw_g (lw_at lw_m7 111 rfl) rfl
theorem q1804 : (Jvm.Cond.privateMethod ({ cls := "SearchHouse$Asking", name := "isAt", desc := "(II)Z" } : Jvm.MethodName)) ∈ lw_tbl := lw_at lw_m7 112 rfl
theorem q1805 : (Jvm.Cond.instanceMethod ({ cls := "SearchHouse$Asking", name := "isAt", desc := "(II)Z" } : Jvm.MethodName)) ∈ lw_all := lw_g (lw_at lw_m7 113 rfl) rfl
theorem q1806 : (Jvm.Cond.code ({ cls := "SearchHouse$Asking", name := "isAt", desc := "(II)Z" } : Jvm.MethodName) prog_3_method_18_code (3 : Nat) (Option.some Jvm.ClassFile.FieldType.boolean)) ∈ lw_all := lw_g (lw_at lw_m7 114 rfl) rfl
theorem q1807 : (Jvm.Cond.methodLink "SearchHouse$Asking" (316 : Nat) ({ cls := "SearchHouse$Asking", name := "matchesAt", desc := "(II)Z" } : Jvm.MethodName)) ∈ lw_all := lw_g (lw_at lw_m7 115 rfl) rfl
theorem q1808 : (Jvm.Cond.privateMethod ({ cls := "SearchHouse$Asking", name := "matchesAt", desc := "(II)Z" } : Jvm.MethodName)) ∈ lw_tbl := lw_at lw_m7 116 rfl
theorem q1809 : (Jvm.Cond.instanceMethod ({ cls := "SearchHouse$Asking", name := "matchesAt", desc := "(II)Z" } : Jvm.MethodName)) ∈ lw_all := lw_g (lw_at lw_m7 117 rfl) rfl
theorem q1810 : (Jvm.Cond.code ({ cls := "SearchHouse$Asking", name := "matchesAt", desc := "(II)Z" } : Jvm.MethodName) prog_3_method_19_code (8 : Nat) (Option.some Jvm.ClassFile.FieldType.boolean)) ∈ lw_all := lw_g (lw_at lw_m7 118 rfl) rfl
theorem q1811 : (Jvm.Cond.methodLink "SearchHouse$Asking" (319 : Nat) ({ cls := "SearchHouse$Asking", name := "give", desc := "(LSearchHouse$Asking;IIII)Z" } : Jvm.MethodName)) ∈ lw_all := lw_g (lw_at lw_m7 119 rfl) rfl
theorem q1812 : (Jvm.Cond.static ({ cls := "SearchHouse$Asking", name := "give", desc := "(LSearchHouse$Asking;IIII)Z" } : Jvm.MethodName)) ∈ lw_all := lw_g (lw_at lw_m7 120 rfl) rfl
theorem q1813 : (Jvm.Cond.code ({ cls := "SearchHouse$Asking", name := "give", desc := "(LSearchHouse$Asking;IIII)Z" } : Jvm.MethodName) prog_3_method_20_code (7 : Nat) (Option.some Jvm.ClassFile.FieldType.boolean)) ∈ lw_all := lw_g (lw_at lw_m7 121 rfl) rfl
theorem q1814 : (Jvm.Cond.methodLink "SearchHouse$Asking" (304 : Nat) ({ cls := "SearchHouse$Asking", name := "firstTerm", desc := "(II)I" } : Jvm.MethodName)) ∈ lw_all := lw_g (lw_at lw_m7 122 rfl) rfl
theorem q1815 : (Jvm.Cond.privateMethod ({ cls := "SearchHouse$Asking", name := "firstTerm", desc := "(II)I" } : Jvm.MethodName)) ∈ lw_tbl := lw_at lw_m7 123 rfl
theorem q1816 : (Jvm.Cond.instanceMethod ({ cls := "SearchHouse$Asking", name := "firstTerm", desc := "(II)I" } : Jvm.MethodName)) ∈ lw_all := lw_g (lw_at lw_m7 124 rfl) rfl
theorem q1817 : (Jvm.Cond.code ({ cls := "SearchHouse$Asking", name := "firstTerm", desc := "(II)I" } : Jvm.MethodName) prog_3_method_15_code (6 : Nat) (Option.some Jvm.ClassFile.FieldType.int)) ∈ lw_all := lw_g (lw_at lw_m7 125 rfl) rfl
theorem q1818 : (Jvm.Cond.methodLink "SearchHouse$Asking" (116 : Nat) ({ cls := "SearchHouse$Asking", name := "others", desc := "(I)V" } : Jvm.MethodName)) ∈ lw_all := lw_g (lw_at lw_m7 126 rfl) rfl
theorem q1819 : (Jvm.Cond.privateMethod ({ cls := "SearchHouse$Asking", name := "others", desc := "(I)V" } : Jvm.MethodName)) ∈ lw_tbl := lw_at lw_m7 127 rfl
theorem q1820 : (Jvm.Cond.instanceMethod ({ cls := "SearchHouse$Asking", name := "others", desc := "(I)V" } : Jvm.MethodName)) ∈ lw_all := lw_g (lw_at lw_m7 128 rfl) rfl
theorem q1821 : (Jvm.Cond.code ({ cls := "SearchHouse$Asking", name := "others", desc := "(I)V" } : Jvm.MethodName) prog_3_method_5_code (4 : Nat) (Option.none : Option Jvm.ClassFile.FieldType)) ∈ lw_all := lw_g (lw_at lw_m7 129 rfl) rfl
theorem q1822 : (Jvm.Cond.methodLink "SearchHouse$Asking" (139 : Nat) ({ cls := "SearchHouse$Asking", name := "mark", desc := "(II)V" } : Jvm.MethodName)) ∈ lw_all := lw_g (lw_at lw_m7 130 rfl) rfl
theorem q1823 : (Jvm.Cond.privateMethod ({ cls := "SearchHouse$Asking", name := "mark", desc := "(II)V" } : Jvm.MethodName)) ∈ lw_tbl := lw_at lw_m7 131 rfl
theorem q1824 : (Jvm.Cond.instanceMethod ({ cls := "SearchHouse$Asking", name := "mark", desc := "(II)V" } : Jvm.MethodName)) ∈ lw_all := lw_g (lw_at lw_m7 132 rfl) rfl
theorem q1825 : (Jvm.Cond.code ({ cls := "SearchHouse$Asking", name := "mark", desc := "(II)V" } : Jvm.MethodName) prog_3_method_7_code (6 : Nat) (Option.none : Option Jvm.ClassFile.FieldType)) ∈ lw_all := lw_g (lw_at lw_m7 133 rfl) rfl
theorem q1826 : (Jvm.Cond.methodLink "SearchHouse$Asking" (181 : Nat) ({ cls := "SearchHouse$Asking", name := "markAlone", desc := "(II)V" } : Jvm.MethodName)) ∈ lw_all := lw_g (lw_at lw_m7 134 rfl) rfl
theorem q1827 : (Jvm.Cond.privateMethod ({ cls := "SearchHouse$Asking", name := "markAlone", desc := "(II)V" } : Jvm.MethodName)) ∈ lw_tbl := lw_at lw_m7 135 rfl
theorem q1828 : (Jvm.Cond.instanceMethod ({ cls := "SearchHouse$Asking", name := "markAlone", desc := "(II)V" } : Jvm.MethodName)) ∈ lw_all := lw_g (lw_at lw_m7 136 rfl) rfl
theorem q1829 : (Jvm.Cond.code ({ cls := "SearchHouse$Asking", name := "markAlone", desc := "(II)V" } : Jvm.MethodName) prog_3_method_8_code (6 : Nat) (Option.none : Option Jvm.ClassFile.FieldType)) ∈ lw_all := lw_g (lw_at lw_m7 137 rfl) rfl
theorem q1830 : (Jvm.Cond.methodLink "SearchHouse$Asking" (157 : Nat) ({ cls := "SearchHouse$Asking", name := "fits", desc := "(II)Z" } : Jvm.MethodName)) ∈ lw_all := lw_g (lw_at lw_m7 138 rfl) rfl
theorem q1831 : (Jvm.Cond.privateMethod ({ cls := "SearchHouse$Asking", name := "fits", desc := "(II)Z" } : Jvm.MethodName)) ∈ lw_tbl := lw_at lw_m7 139 rfl
theorem q1832 : (Jvm.Cond.instanceMethod ({ cls := "SearchHouse$Asking", name := "fits", desc := "(II)Z" } : Jvm.MethodName)) ∈ lw_all := lw_g (lw_at lw_m7 140 rfl) rfl
theorem q1833 : (Jvm.Cond.code ({ cls := "SearchHouse$Asking", name := "fits", desc := "(II)Z" } : Jvm.MethodName) prog_3_method_9_code (11 : Nat) (Option.some Jvm.ClassFile.FieldType.boolean)) ∈ lw_all := lw_g (lw_at lw_m7 141 rfl) rfl
theorem q1834 : (Jvm.Cond.methodLink "SearchHouse$Asking" (165 : Nat) ({ cls := "SearchHouse$Asking", name := "fitsTerm", desc := "(II)Z" } : Jvm.MethodName)) ∈ lw_all := lw_g (lw_at lw_m7 142 rfl) rfl
theorem q1835 : (Jvm.Cond.instanceMethod ({ cls := "SearchHouse$Asking", name := "fitsTerm", desc := "(II)Z" } : Jvm.MethodName)) ∈ lw_all := lw_g (lw_at lw_m7 143 rfl) rfl
theorem q1836 : (Jvm.Cond.selects "SearchHouse$Asking" ({ cls := "SearchHouse$Asking", name := "fitsTerm", desc := "(II)Z" } : Jvm.MethodName) ({ cls := "SearchHouse$Asking", name := "fitsTerm", desc := "(II)Z" } : Jvm.MethodName)) ∈ lw_all := lw_g (lw_at lw_m7 144 rfl) rfl
theorem q1837 : (Jvm.Cond.code ({ cls := "SearchHouse$Asking", name := "fitsTerm", desc := "(II)Z" } : Jvm.MethodName) prog_3_method_11_code (3 : Nat) (Option.some Jvm.ClassFile.FieldType.boolean)) ∈ lw_all := lw_g (lw_at lw_m7 145 rfl) rfl
theorem q1838 : (Jvm.Cond.methodLink "SearchHouse$Asking" (259 : Nat) ({ cls := "SearchHouse$Asking", name := "fold", desc := "(I)V" } : Jvm.MethodName)) ∈ lw_all := lw_g (lw_at lw_m7 146 rfl) rfl
theorem q1839 : (Jvm.Cond.privateMethod ({ cls := "SearchHouse$Asking", name := "fold", desc := "(I)V" } : Jvm.MethodName)) ∈ lw_tbl := lw_at lw_m7 147 rfl
theorem q1840 : (Jvm.Cond.instanceMethod ({ cls := "SearchHouse$Asking", name := "fold", desc := "(I)V" } : Jvm.MethodName)) ∈ lw_all := lw_g (lw_at lw_m7 148 rfl) rfl
theorem q1841 : (Jvm.Cond.code ({ cls := "SearchHouse$Asking", name := "fold", desc := "(I)V" } : Jvm.MethodName) prog_3_method_10_code (5 : Nat) (Option.none : Option Jvm.ClassFile.FieldType)) ∈ lw_all := lw_g (lw_at lw_m7 149 rfl) rfl
theorem q1842 : (Jvm.Cond.methodLink "SearchHouse$Asking" (254 : Nat) ({ cls := "SearchHouse$Analyser", name := "folded", desc := "(I)I" } : Jvm.MethodName)) ∈ lw_all := lw_g (lw_at lw_m7 150 rfl) rfl
theorem q1843 : (Jvm.Cond.methodLink "SearchHouse$Asking" (262 : Nat) ({ cls := "SearchHouse$Asking", name := "wild", desc := "(I)Z" } : Jvm.MethodName)) ∈ lw_all := lw_g (lw_at lw_m7 151 rfl) rfl
theorem q1844 : (Jvm.Cond.privateMethod ({ cls := "SearchHouse$Asking", name := "wild", desc := "(I)Z" } : Jvm.MethodName)) ∈ lw_tbl := lw_at lw_m7 152 rfl
theorem q1845 : (Jvm.Cond.instanceMethod ({ cls := "SearchHouse$Asking", name := "wild", desc := "(I)Z" } : Jvm.MethodName)) ∈ lw_all := lw_g (lw_at lw_m7 153 rfl) rfl
theorem q1846 : (Jvm.Cond.code ({ cls := "SearchHouse$Asking", name := "wild", desc := "(I)Z" } : Jvm.MethodName) prog_3_method_12_code (7 : Nat) (Option.some Jvm.ClassFile.FieldType.boolean)) ∈ lw_all := lw_g (lw_at lw_m7 154 rfl) rfl
theorem q1847 : (Jvm.Cond.methodLinkNest "SearchHouse$Asking" (268 : Nat) ({ cls := "SearchHouse", name := "changes", desc := "([BIIII)I" } : Jvm.MethodName) "SearchHouse") ∈ lw_tbl := lw_at lw_m7 155 rfl
theorem q1848 : (Jvm.Cond.privateMethod ({ cls := "SearchHouse", name := "changes", desc := "([BIIII)I" } : Jvm.MethodName)) ∈ lw_tbl := lw_at lw_m7 156 rfl
theorem q1849 : (Jvm.Cond.instanceMethod ({ cls := "SearchHouse", name := "changes", desc := "([BIIII)I" } : Jvm.MethodName)) ∈ lw_all := lw_g (lw_at lw_m7 157 rfl) rfl
theorem q1850 : (Jvm.Cond.code ({ cls := "SearchHouse", name := "changes", desc := "([BIIII)I" } : Jvm.MethodName) prog_1_method_60_code (11 : Nat) (Option.some Jvm.ClassFile.FieldType.int)) ∈ lw_all := lw_g (lw_at lw_m7 158 rfl) rfl
theorem q1851 : (Jvm.Cond.methodLink "SearchHouse" (541 : Nat) ({ cls := "java/lang/Math", name := "min", desc := "(II)I" } : Jvm.MethodName)) ∈ lw_all := lw_g (lw_at lw_m7 159 rfl) rfl
theorem q1852 : (Jvm.Cond.methodLink "SearchHouse" (590 : Nat) ({ cls := "SearchHouse$Asking", name := "score", desc := "(II)J" } : Jvm.MethodName)) ∈ lw_all := lw_g (lw_at lw_m7 160 rfl) rfl
theorem q1853 : (Jvm.Cond.instanceMethod ({ cls := "SearchHouse$Asking", name := "score", desc := "(II)J" } : Jvm.MethodName)) ∈ lw_all := lw_g (lw_at lw_m7 161 rfl) rfl
theorem q1854 : (Jvm.Cond.selects "SearchHouse$Asking" ({ cls := "SearchHouse$Asking", name := "score", desc := "(II)J" } : Jvm.MethodName) ({ cls := "SearchHouse$Asking", name := "score", desc := "(II)J" } : Jvm.MethodName)) ∈ lw_all := lw_g (lw_at lw_m7 162 rfl) rfl
theorem q1855 : (Jvm.Cond.code ({ cls := "SearchHouse$Asking", name := "score", desc := "(II)J" } : Jvm.MethodName) prog_3_method_23_code (6 : Nat) (Option.some Jvm.ClassFile.FieldType.long)) ∈ lw_all := lw_g (lw_at lw_m7 163 rfl) rfl
theorem q1856 : (Jvm.Cond.methodLink "SearchHouse$Asking" (352 : Nat) ({ cls := "SearchHouse$Asking", name := "plainScore", desc := "(II)J" } : Jvm.MethodName)) ∈ lw_all := lw_g (lw_at lw_m7 164 rfl) rfl
theorem q1857 : (Jvm.Cond.privateMethod ({ cls := "SearchHouse$Asking", name := "plainScore", desc := "(II)J" } : Jvm.MethodName)) ∈ lw_tbl := lw_at lw_m7 165 rfl
theorem q1858 : (Jvm.Cond.instanceMethod ({ cls := "SearchHouse$Asking", name := "plainScore", desc := "(II)J" } : Jvm.MethodName)) ∈ lw_all := lw_g (lw_at lw_m7 166 rfl) rfl
theorem q1859 : (Jvm.Cond.code ({ cls := "SearchHouse$Asking", name := "plainScore", desc := "(II)J" } : Jvm.MethodName) prog_3_method_24_code (4 : Nat) (Option.some Jvm.ClassFile.FieldType.long)) ∈ lw_all := lw_g (lw_at lw_m7 167 rfl) rfl
theorem q1860 : (Jvm.Cond.methodLink "SearchHouse$Asking" (361 : Nat) ({ cls := "SearchHouse$Asking", name := "some", desc := "(II)J" } : Jvm.MethodName)) ∈ lw_all := lw_g (lw_at lw_m7 168 rfl) rfl
theorem q1861 : (Jvm.Cond.privateMethod ({ cls := "SearchHouse$Asking", name := "some", desc := "(II)J" } : Jvm.MethodName)) ∈ lw_tbl := lw_at lw_m7 169 rfl
theorem q1862 : (Jvm.Cond.instanceMethod ({ cls := "SearchHouse$Asking", name := "some", desc := "(II)J" } : Jvm.MethodName)) ∈ lw_all := lw_g (lw_at lw_m7 170 rfl) rfl
theorem q1863 : (Jvm.Cond.code ({ cls := "SearchHouse$Asking", name := "some", desc := "(II)J" } : Jvm.MethodName) prog_3_method_25_code (11 : Nat) (Option.some Jvm.ClassFile.FieldType.long)) ∈ lw_all := lw_g (lw_at lw_m7 171 rfl) rfl
theorem q1864 : (Jvm.Cond.constantLong "SearchHouse$Asking" (323 : Nat) (-1 : Int64)) ∈ lw_all := lw_g (lw_at lw_m7 172 rfl) rfl
theorem q1865 : (Jvm.Cond.methodLink "SearchHouse$Asking" (373 : Nat) ({ cls := "SearchHouse$Asking", name := "score", desc := "(II)J" } : Jvm.MethodName)) ∈ lw_all := lw_g (lw_at lw_m7 173 rfl) rfl
theorem q1866 : (Jvm.Cond.methodLink "SearchHouse$Asking" (385 : Nat) ({ cls := "java/lang/Math", name := "max", desc := "(JJ)J" } : Jvm.MethodName)) ∈ lw_all := lw_g (lw_at lw_m7 174 rfl) rfl
theorem q1867 : (Jvm.Cond.static ({ cls := "java/lang/Math", name := "max", desc := "(JJ)J" } : Jvm.MethodName)) ∈ lw_all := lw_g (lw_at lw_m7 175 rfl) rfl
theorem q1868 : (Jvm.Cond.code ({ cls := "java/lang/Math", name := "max", desc := "(JJ)J" } : Jvm.MethodName) prog_22_method_66_code (4 : Nat) (Option.some Jvm.ClassFile.FieldType.long)) ∈ lw_all := lw_g (lw_at lw_m7 176 rfl) rfl
theorem q1869 : (Jvm.Cond.constantLong "SearchHouse$Asking" (356 : Nat) (1000000000000000 : Int64)) ∈ lw_all := lw_g (lw_at lw_m7 177 rfl) rfl
theorem q1870 : (Jvm.Cond.methodLink "SearchHouse$Asking" (389 : Nat) ({ cls := "java/lang/Math", name := "min", desc := "(JJ)J" } : Jvm.MethodName)) ∈ lw_all := lw_g (lw_at lw_m7 178 rfl) rfl
theorem q1871 : (Jvm.Cond.static ({ cls := "java/lang/Math", name := "min", desc := "(JJ)J" } : Jvm.MethodName)) ∈ lw_all := lw_g (lw_at lw_m7 179 rfl) rfl
theorem q1872 : (Jvm.Cond.code ({ cls := "java/lang/Math", name := "min", desc := "(JJ)J" } : Jvm.MethodName) prog_22_method_70_code (4 : Nat) (Option.some Jvm.ClassFile.FieldType.long)) ∈ lw_all := lw_g (lw_at lw_m7 180 rfl) rfl
theorem q1873 : (Jvm.Cond.methodLink "SearchHouse$Asking" (364 : Nat) ({ cls := "SearchHouse$Asking", name := "all", desc := "(II)J" } : Jvm.MethodName)) ∈ lw_all := lw_g (lw_at lw_m7 181 rfl) rfl
theorem q1874 : (Jvm.Cond.privateMethod ({ cls := "SearchHouse$Asking", name := "all", desc := "(II)J" } : Jvm.MethodName)) ∈ lw_tbl := lw_at lw_m7 182 rfl
theorem q1875 : (Jvm.Cond.instanceMethod ({ cls := "SearchHouse$Asking", name := "all", desc := "(II)J" } : Jvm.MethodName)) ∈ lw_all := lw_g (lw_at lw_m7 183 rfl) rfl
theorem q1876 : (Jvm.Cond.code ({ cls := "SearchHouse$Asking", name := "all", desc := "(II)J" } : Jvm.MethodName) prog_3_method_26_code (8 : Nat) (Option.some Jvm.ClassFile.FieldType.long)) ∈ lw_all := lw_g (lw_at lw_m7 184 rfl) rfl
theorem q1877 : (Jvm.Cond.constantLong "SearchHouse$Asking" (328 : Nat) (64 : Int64)) ∈ lw_all := lw_g (lw_at lw_m7 185 rfl) rfl
theorem q1878 : (Jvm.Cond.methodLink "SearchHouse$Asking" (382 : Nat) ({ cls := "SearchHouse$Asking", name := "leafScore", desc := "(II)J" } : Jvm.MethodName)) ∈ lw_all := lw_g (lw_at lw_m7 186 rfl) rfl
theorem q1879 : (Jvm.Cond.privateMethod ({ cls := "SearchHouse$Asking", name := "leafScore", desc := "(II)J" } : Jvm.MethodName)) ∈ lw_tbl := lw_at lw_m7 187 rfl
theorem q1880 : (Jvm.Cond.instanceMethod ({ cls := "SearchHouse$Asking", name := "leafScore", desc := "(II)J" } : Jvm.MethodName)) ∈ lw_all := lw_g (lw_at lw_m7 188 rfl) rfl
theorem q1881 : (Jvm.Cond.code ({ cls := "SearchHouse$Asking", name := "leafScore", desc := "(II)J" } : Jvm.MethodName) prog_3_method_21_code (4 : Nat) (Option.some Jvm.ClassFile.FieldType.long)) ∈ lw_all := lw_g (lw_at lw_m7 189 rfl) rfl
theorem q1882 : (Jvm.Cond.methodLink "SearchHouse$Asking" (330 : Nat) ({ cls := "SearchHouse$Asking", name := "weigh", desc := "(JJII)J" } : Jvm.MethodName)) ∈ lw_all := lw_g (lw_at lw_m7 190 rfl) rfl
theorem q1883 : (Jvm.Cond.instanceMethod ({ cls := "SearchHouse$Asking", name := "weigh", desc := "(JJII)J" } : Jvm.MethodName)) ∈ lw_all := lw_g (lw_at lw_m7 191 rfl) rfl
theorem q1884 : (Jvm.Cond.selects "SearchHouse$Asking" ({ cls := "SearchHouse$Asking", name := "weigh", desc := "(JJII)J" } : Jvm.MethodName) ({ cls := "SearchHouse$Asking", name := "weigh", desc := "(JJII)J" } : Jvm.MethodName)) ∈ lw_all := lw_g (lw_at lw_m7 192 rfl) rfl
theorem q1885 : (Jvm.Cond.code ({ cls := "SearchHouse$Asking", name := "weigh", desc := "(JJII)J" } : Jvm.MethodName) prog_3_method_22_code (11 : Nat) (Option.some Jvm.ClassFile.FieldType.long)) ∈ lw_all := lw_g (lw_at lw_m7 193 rfl) rfl
theorem q1886 : (Jvm.Cond.methodLinkNest "SearchHouse$Asking" (334 : Nat) ({ cls := "SearchHouse", name := "root", desc := "(J)I" } : Jvm.MethodName) "SearchHouse") ∈ lw_tbl := lw_at lw_m7 194 rfl
theorem q1887 : (Jvm.Cond.static ({ cls := "SearchHouse", name := "root", desc := "(J)I" } : Jvm.MethodName)) ∈ lw_all := lw_g (lw_at lw_m7 195 rfl) rfl
theorem q1888 : (Jvm.Cond.code ({ cls := "SearchHouse", name := "root", desc := "(J)I" } : Jvm.MethodName) prog_1_method_59_code (3 : Nat) (Option.some Jvm.ClassFile.FieldType.int)) ∈ lw_all := lw_g (lw_at lw_m7 196 rfl) rfl
theorem q1889 : (Jvm.Cond.methodLink "SearchHouse$Asking" (341 : Nat) ({ cls := "SearchHouse$World", name := "tokensOf", desc := "(II)I" } : Jvm.MethodName)) ∈ lw_all := lw_g (lw_at lw_m7 197 rfl) rfl
theorem q1890 : (Jvm.Cond.instanceMethod ({ cls := "SearchHouse$World", name := "tokensOf", desc := "(II)I" } : Jvm.MethodName)) ∈ lw_all := lw_g (lw_at lw_m7 198 rfl) rfl
theorem q1891 : (Jvm.Cond.selects "SearchHouse$World" ({ cls := "SearchHouse$World", name := "tokensOf", desc := "(II)I" } : Jvm.MethodName) ({ cls := "SearchHouse$World", name := "tokensOf", desc := "(II)I" } : Jvm.MethodName)) ∈ lw_all := lw_g (lw_at lw_m7 199 rfl) rfl
theorem q1892 : (Jvm.Cond.code ({ cls := "SearchHouse$World", name := "tokensOf", desc := "(II)I" } : Jvm.MethodName) prog_12_method_8_code (5 : Nat) (Option.some Jvm.ClassFile.FieldType.int)) ∈ lw_all := lw_g (lw_at lw_m7 200 rfl) rfl
theorem q1893 : (Jvm.Cond.constantLong "SearchHouse$Asking" (344 : Nat) (1408 : Int64)) ∈ lw_all := lw_g (lw_at lw_m7 201 rfl) rfl
theorem q1894 : (Jvm.Cond.constantLong "SearchHouse$Asking" (346 : Nat) (10 : Int64)) ∈ lw_all := lw_g (lw_at lw_m7 202 rfl) rfl
theorem q1895 : (Jvm.Cond.constantLong "SearchHouse$Asking" (348 : Nat) (3 : Int64)) ∈ lw_all := lw_g (lw_at lw_m7 203 rfl) rfl
theorem q1896 : (Jvm.Cond.constantLong "SearchHouse$Asking" (350 : Nat) (9 : Int64)) ∈ lw_all := lw_g (lw_at lw_m7 204 rfl) rfl
theorem q1897 : (Jvm.Cond.methodLinkNest "SearchHouse" (594 : Nat) ({ cls := "SearchHouse$World", name := "chain", desc := "()V" } : Jvm.MethodName) "SearchHouse") ∈ lw_tbl := lw_at lw_m7 205 rfl
theorem q1898 : (Jvm.Cond.constantLong "SearchHouse" (609 : Nat) (-1 : Int64)) ∈ lw_all := lw_g (lw_at lw_m7 206 rfl) rfl
theorem q1899 : (Jvm.Cond.methodLink "SearchHouse" (611 : Nat) ({ cls := "SearchHouse", name := "addHit", desc := "(IJ)V" } : Jvm.MethodName)) ∈ lw_all := lw_g (lw_at lw_m7 207 rfl) rfl
theorem q1900 : (Jvm.Cond.privateMethod ({ cls := "SearchHouse", name := "addHit", desc := "(IJ)V" } : Jvm.MethodName)) ∈ lw_tbl := lw_at lw_m7 208 rfl
theorem q1901 : (Jvm.Cond.instanceMethod ({ cls := "SearchHouse", name := "addHit", desc := "(IJ)V" } : Jvm.MethodName)) ∈ lw_all := lw_g (lw_at lw_m7 209 rfl) rfl
theorem q1902 : (Jvm.Cond.code ({ cls := "SearchHouse", name := "addHit", desc := "(IJ)V" } : Jvm.MethodName) prog_1_method_67_code (4 : Nat) (Option.none : Option Jvm.ClassFile.FieldType)) ∈ lw_all := lw_g (lw_at lw_m7 210 rfl) rfl
theorem q1903 : (Jvm.Cond.methodLink "SearchHouse" (615 : Nat) ({ cls := "SearchHouse", name := "sortHits", desc := "(IZZ)V" } : Jvm.MethodName)) ∈ lw_all := lw_g (lw_at lw_m7 211 rfl) rfl
theorem q1904 : (Jvm.Cond.privateMethod ({ cls := "SearchHouse", name := "sortHits", desc := "(IZZ)V" } : Jvm.MethodName)) ∈ lw_tbl := lw_at lw_m7 212 rfl
theorem q1905 : (Jvm.Cond.instanceMethod ({ cls := "SearchHouse", name := "sortHits", desc := "(IZZ)V" } : Jvm.MethodName)) ∈ lw_all := lw_g (lw_at lw_m7 213 rfl) rfl
theorem q1906 : (Jvm.Cond.code ({ cls := "SearchHouse", name := "sortHits", desc := "(IZZ)V" } : Jvm.MethodName) prog_1_method_68_code (10 : Nat) (Option.none : Option Jvm.ClassFile.FieldType)) ∈ lw_all := lw_g (lw_at lw_m7 214 rfl) rfl
theorem q1907 : (Jvm.Cond.methodLink "SearchHouse" (619 : Nat) ({ cls := "SearchHouse$World", name := "shows", desc := "(I)Z" } : Jvm.MethodName)) ∈ lw_all := lw_g (lw_at lw_m7 215 rfl) rfl
theorem q1908 : (Jvm.Cond.methodLink "SearchHouse" (622 : Nat) ({ cls := "SearchHouse", name := "isBefore", desc := "(IIZZ)Z" } : Jvm.MethodName)) ∈ lw_all := lw_g (lw_at lw_m7 216 rfl) rfl
theorem q1909 : (Jvm.Cond.privateMethod ({ cls := "SearchHouse", name := "isBefore", desc := "(IIZZ)Z" } : Jvm.MethodName)) ∈ lw_tbl := lw_at lw_m7 217 rfl
theorem q1910 : (Jvm.Cond.instanceMethod ({ cls := "SearchHouse", name := "isBefore", desc := "(IIZZ)Z" } : Jvm.MethodName)) ∈ lw_all := lw_g (lw_at lw_m7 218 rfl) rfl
theorem q1911 : (Jvm.Cond.code ({ cls := "SearchHouse", name := "isBefore", desc := "(IIZZ)Z" } : Jvm.MethodName) prog_1_method_69_code (5 : Nat) (Option.some Jvm.ClassFile.FieldType.boolean)) ∈ lw_all := lw_g (lw_at lw_m7 219 rfl) rfl
theorem q1912 : (Jvm.Cond.methodLink "SearchHouse" (626 : Nat) ({ cls := "SearchHouse", name := "exchange", desc := "(II)V" } : Jvm.MethodName)) ∈ lw_all := lw_g (lw_at lw_m7 220 rfl) rfl
theorem q1913 : (Jvm.Cond.privateMethod ({ cls := "SearchHouse", name := "exchange", desc := "(II)V" } : Jvm.MethodName)) ∈ lw_tbl := lw_at lw_m7 221 rfl
theorem q1914 : (Jvm.Cond.instanceMethod ({ cls := "SearchHouse", name := "exchange", desc := "(II)V" } : Jvm.MethodName)) ∈ lw_all := lw_g (lw_at lw_m7 222 rfl) rfl
theorem q1915 : (Jvm.Cond.code ({ cls := "SearchHouse", name := "exchange", desc := "(II)V" } : Jvm.MethodName) prog_1_method_70_code (9 : Nat) (Option.none : Option Jvm.ClassFile.FieldType)) ∈ lw_all := lw_g (lw_at lw_m7 223 rfl) rfl
theorem q1916 : (Jvm.Cond.methodLink "SearchHouseLaw" (153 : Nat) ({ cls := "SearchHouse", name := "hit", desc := "(I)I" } : Jvm.MethodName)) ∈ lw_all := lw_g (lw_at lw_m7 224 rfl) rfl
theorem q1917 : (Jvm.Cond.instanceMethod ({ cls := "SearchHouse", name := "hit", desc := "(I)I" } : Jvm.MethodName)) ∈ lw_all := lw_g (lw_at lw_m7 225 rfl) rfl
theorem q1918 : (Jvm.Cond.selects "SearchHouse" ({ cls := "SearchHouse", name := "hit", desc := "(I)I" } : Jvm.MethodName) ({ cls := "SearchHouse", name := "hit", desc := "(I)I" } : Jvm.MethodName)) ∈ lw_all := lw_g (lw_at lw_m7 226 rfl) rfl
theorem q1919 : (Jvm.Cond.code ({ cls := "SearchHouse", name := "hit", desc := "(I)I" } : Jvm.MethodName) prog_1_method_72_code (2 : Nat) (Option.some Jvm.ClassFile.FieldType.int)) ∈ lw_all := lw_g (lw_at lw_m7 227 rfl) rfl
theorem q1920 : (Jvm.Cond.methodLink "SearchHouse" (629 : Nat) ({ cls := "SearchHouse", name := "isHit", desc := "(I)Z" } : Jvm.MethodName)) ∈ lw_all := lw_g (lw_at lw_m7 228 rfl) rfl
theorem q1921 : (Jvm.Cond.privateMethod ({ cls := "SearchHouse", name := "isHit", desc := "(I)Z" } : Jvm.MethodName)) ∈ lw_tbl := lw_at lw_m7 229 rfl
theorem q1922 : (Jvm.Cond.instanceMethod ({ cls := "SearchHouse", name := "isHit", desc := "(I)Z" } : Jvm.MethodName)) ∈ lw_all := lw_g (lw_at lw_m7 230 rfl) rfl
theorem q1923 : (Jvm.Cond.code ({ cls := "SearchHouse", name := "isHit", desc := "(I)Z" } : Jvm.MethodName) prog_1_method_71_code (2 : Nat) (Option.some Jvm.ClassFile.FieldType.boolean)) ∈ lw_all := lw_g (lw_at lw_m7 231 rfl) rfl
theorem q1924 : (Jvm.Cond.methodLink "SearchHouseLaw" (157 : Nat) ({ cls := "SearchHouse", name := "score", desc := "(I)J" } : Jvm.MethodName)) ∈ lw_all := lw_g (lw_at lw_m7 232 rfl) rfl
theorem q1925 : (Jvm.Cond.instanceMethod ({ cls := "SearchHouse", name := "score", desc := "(I)J" } : Jvm.MethodName)) ∈ lw_all := lw_g (lw_at lw_m7 233 rfl) rfl
theorem q1926 : (Jvm.Cond.selects "SearchHouse" ({ cls := "SearchHouse", name := "score", desc := "(I)J" } : Jvm.MethodName) ({ cls := "SearchHouse", name := "score", desc := "(I)J" } : Jvm.MethodName)) ∈ lw_all := lw_g (lw_at lw_m7 234 rfl) rfl
theorem q1927 : (Jvm.Cond.code ({ cls := "SearchHouse", name := "score", desc := "(I)J" } : Jvm.MethodName) prog_1_method_73_code (2 : Nat) (Option.some Jvm.ClassFile.FieldType.long)) ∈ lw_all := lw_g (lw_at lw_m7 235 rfl) rfl
theorem q1928 : (Jvm.Cond.methodLink "SearchHouseLaw" (162 : Nat) ({ cls := "SearchHouse", name := "explain", desc := "(I)I" } : Jvm.MethodName)) ∈ lw_all := lw_g (lw_at lw_m7 236 rfl) rfl
theorem q1929 : (Jvm.Cond.instanceMethod ({ cls := "SearchHouse", name := "explain", desc := "(I)I" } : Jvm.MethodName)) ∈ lw_all := lw_g (lw_at lw_m7 237 rfl) rfl
theorem q1930 : (Jvm.Cond.selects "SearchHouse" ({ cls := "SearchHouse", name := "explain", desc := "(I)I" } : Jvm.MethodName) ({ cls := "SearchHouse", name := "explain", desc := "(I)I" } : Jvm.MethodName)) ∈ lw_all := lw_g (lw_at lw_m7 238 rfl) rfl
theorem q1931 : (Jvm.Cond.code ({ cls := "SearchHouse", name := "explain", desc := "(I)I" } : Jvm.MethodName) prog_1_method_74_code (2 : Nat) (Option.some Jvm.ClassFile.FieldType.int)) ∈ lw_all := lw_g (lw_at lw_m7 239 rfl) rfl
theorem q1932 : (Jvm.Cond.methodLink "SearchHouse" (632 : Nat) ({ cls := "SearchHouse$Asking", name := "explain", desc := "(III)V" } : Jvm.MethodName)) ∈ lw_all := lw_g (lw_at lw_m8 0 rfl) rfl
theorem q1933 : (Jvm.Cond.instanceMethod ({ cls := "SearchHouse$Asking", name := "explain", desc := "(III)V" } : Jvm.MethodName)) ∈ lw_all := lw_g (lw_at lw_m8 1 rfl) rfl
theorem q1934 : (Jvm.Cond.selects "SearchHouse$Asking" ({ cls := "SearchHouse$Asking", name := "explain", desc := "(III)V" } : Jvm.MethodName) ({ cls := "SearchHouse$Asking", name := "explain", desc := "(III)V" } : Jvm.MethodName)) ∈ lw_all := lw_g (lw_at lw_m8 2 rfl) rfl
theorem q1935 : (Jvm.Cond.code ({ cls := "SearchHouse$Asking", name := "explain", desc := "(III)V" } : Jvm.MethodName) prog_3_method_27_code (7 : Nat) (Option.none : Option Jvm.ClassFile.FieldType)) ∈ lw_all := lw_g (lw_at lw_m8 3 rfl) rfl
theorem q1936 : (Jvm.Cond.methodLink "SearchHouse$Asking" (410 : Nat) ({ cls := "SearchHouse$Asking", name := "explain", desc := "(III)V" } : Jvm.MethodName)) ∈ lw_all := lw_g (lw_at lw_m8 4 rfl) rfl
theorem q1937 : (Jvm.Cond.methodLink "SearchHouseLaw" (166 : Nat) ({ cls := "SearchHouse", name := "line", desc := "(II)J" } : Jvm.MethodName)) ∈ lw_all := lw_g (lw_at lw_m8 5 rfl) rfl
theorem q1938 : (Jvm.Cond.instanceMethod ({ cls := "SearchHouse", name := "line", desc := "(II)J" } : Jvm.MethodName)) ∈ lw_all := lw_g (lw_at lw_m8 6 rfl) rfl
theorem q1939 : (Jvm.Cond.selects "SearchHouse" ({ cls := "SearchHouse", name := "line", desc := "(II)J" } : Jvm.MethodName) ({ cls := "SearchHouse", name := "line", desc := "(II)J" } : Jvm.MethodName)) ∈ lw_all := lw_g (lw_at lw_m8 7 rfl) rfl
theorem q1940 : (Jvm.Cond.code ({ cls := "SearchHouse", name := "line", desc := "(II)J" } : Jvm.MethodName) prog_1_method_75_code (3 : Nat) (Option.some Jvm.ClassFile.FieldType.long)) ∈ lw_all := lw_g (lw_at lw_m8 8 rfl) rfl
theorem q1941 : (Jvm.Cond.methodLink "SearchHouseLaw" (171 : Nat) ({ cls := "SearchHouse", name := "marks", desc := "(II)I" } : Jvm.MethodName)) ∈ lw_all := lw_g (lw_at lw_m8 9 rfl) rfl
theorem q1942 : (Jvm.Cond.instanceMethod ({ cls := "SearchHouse", name := "marks", desc := "(II)I" } : Jvm.MethodName)) ∈ lw_all := lw_g (lw_at lw_m8 10 rfl) rfl
theorem q1943 : (Jvm.Cond.selects "SearchHouse" ({ cls := "SearchHouse", name := "marks", desc := "(II)I" } : Jvm.MethodName) ({ cls := "SearchHouse", name := "marks", desc := "(II)I" } : Jvm.MethodName)) ∈ lw_all := lw_g (lw_at lw_m8 11 rfl) rfl
theorem q1944 : (Jvm.Cond.code ({ cls := "SearchHouse", name := "marks", desc := "(II)I" } : Jvm.MethodName) prog_1_method_76_code (6 : Nat) (Option.some Jvm.ClassFile.FieldType.int)) ∈ lw_all := lw_g (lw_at lw_m8 12 rfl) rfl
theorem q1945 : (Jvm.Cond.methodLink "SearchHouse" (636 : Nat) ({ cls := "SearchHouse$Asking", name := "markAll", desc := "(III)V" } : Jvm.MethodName)) ∈ lw_all := lw_g (lw_at lw_m8 13 rfl) rfl
theorem q1946 : (Jvm.Cond.instanceMethod ({ cls := "SearchHouse$Asking", name := "markAll", desc := "(III)V" } : Jvm.MethodName)) ∈ lw_all := lw_g (lw_at lw_m8 14 rfl) rfl
theorem q1947 : (Jvm.Cond.selects "SearchHouse$Asking" ({ cls := "SearchHouse$Asking", name := "markAll", desc := "(III)V" } : Jvm.MethodName) ({ cls := "SearchHouse$Asking", name := "markAll", desc := "(III)V" } : Jvm.MethodName)) ∈ lw_all := lw_g (lw_at lw_m8 15 rfl) rfl
theorem q1948 : (Jvm.Cond.code ({ cls := "SearchHouse$Asking", name := "markAll", desc := "(III)V" } : Jvm.MethodName) prog_3_method_28_code (5 : Nat) (Option.none : Option Jvm.ClassFile.FieldType)) ∈ lw_all := lw_g (lw_at lw_m8 16 rfl) rfl
theorem q1949 : (Jvm.Cond.methodLink "SearchHouse$Asking" (413 : Nat) ({ cls := "SearchHouse$Asking", name := "markLeaf", desc := "(II)V" } : Jvm.MethodName)) ∈ lw_all := lw_g (lw_at lw_m8 17 rfl) rfl
theorem q1950 : (Jvm.Cond.privateMethod ({ cls := "SearchHouse$Asking", name := "markLeaf", desc := "(II)V" } : Jvm.MethodName)) ∈ lw_tbl := lw_at lw_m8 18 rfl
theorem q1951 : (Jvm.Cond.instanceMethod ({ cls := "SearchHouse$Asking", name := "markLeaf", desc := "(II)V" } : Jvm.MethodName)) ∈ lw_all := lw_g (lw_at lw_m8 19 rfl) rfl
theorem q1952 : (Jvm.Cond.code ({ cls := "SearchHouse$Asking", name := "markLeaf", desc := "(II)V" } : Jvm.MethodName) prog_3_method_29_code (8 : Nat) (Option.none : Option Jvm.ClassFile.FieldType)) ∈ lw_all := lw_g (lw_at lw_m8 20 rfl) rfl
theorem q1953 : (Jvm.Cond.methodLink "SearchHouse$Asking" (416 : Nat) ({ cls := "SearchHouse$Asking", name := "markAll", desc := "(III)V" } : Jvm.MethodName)) ∈ lw_all := lw_g (lw_at lw_m8 21 rfl) rfl
theorem q1954 : (Jvm.Cond.methodLink "SearchHouse" (639 : Nat) ({ cls := "SearchHouse", name := "addMark", desc := "(III)V" } : Jvm.MethodName)) ∈ lw_all := lw_g (lw_at lw_m8 22 rfl) rfl
theorem q1955 : (Jvm.Cond.privateMethod ({ cls := "SearchHouse", name := "addMark", desc := "(III)V" } : Jvm.MethodName)) ∈ lw_tbl := lw_at lw_m8 23 rfl
theorem q1956 : (Jvm.Cond.instanceMethod ({ cls := "SearchHouse", name := "addMark", desc := "(III)V" } : Jvm.MethodName)) ∈ lw_all := lw_g (lw_at lw_m8 24 rfl) rfl
theorem q1957 : (Jvm.Cond.code ({ cls := "SearchHouse", name := "addMark", desc := "(III)V" } : Jvm.MethodName) prog_1_method_77_code (4 : Nat) (Option.none : Option Jvm.ClassFile.FieldType)) ∈ lw_all := lw_g (lw_at lw_m8 25 rfl) rfl
theorem q1958 : (Jvm.Cond.methodLink "SearchHouseLaw" (175 : Nat) ({ cls := "SearchHouse", name := "mark", desc := "(II)I" } : Jvm.MethodName)) ∈ lw_all := lw_g (lw_at lw_m8 26 rfl) rfl
theorem q1959 : (Jvm.Cond.instanceMethod ({ cls := "SearchHouse", name := "mark", desc := "(II)I" } : Jvm.MethodName)) ∈ lw_all := lw_g (lw_at lw_m8 27 rfl) rfl
theorem q1960 : (Jvm.Cond.selects "SearchHouse" ({ cls := "SearchHouse", name := "mark", desc := "(II)I" } : Jvm.MethodName) ({ cls := "SearchHouse", name := "mark", desc := "(II)I" } : Jvm.MethodName)) ∈ lw_all := lw_g (lw_at lw_m8 28 rfl) rfl
theorem q1961 : (Jvm.Cond.code ({ cls := "SearchHouse", name := "mark", desc := "(II)I" } : Jvm.MethodName) prog_1_method_78_code (3 : Nat) (Option.some Jvm.ClassFile.FieldType.int)) ∈ lw_all := lw_g (lw_at lw_m8 29 rfl) rfl
theorem q1962 : (Jvm.Cond.methodLink "SearchHouseLaw" (179 : Nat) ({ cls := "SearchHouse", name := "facet", desc := "(I)I" } : Jvm.MethodName)) ∈ lw_all := lw_g (lw_at lw_m8 30 rfl) rfl
theorem q1963 : (Jvm.Cond.instanceMethod ({ cls := "SearchHouse", name := "facet", desc := "(I)I" } : Jvm.MethodName)) ∈ lw_all := lw_g (lw_at lw_m8 31 rfl) rfl
theorem q1964 : (Jvm.Cond.selects "SearchHouse" ({ cls := "SearchHouse", name := "facet", desc := "(I)I" } : Jvm.MethodName) ({ cls := "SearchHouse", name := "facet", desc := "(I)I" } : Jvm.MethodName)) ∈ lw_all := lw_g (lw_at lw_m8 32 rfl) rfl
theorem q1965 : (Jvm.Cond.code ({ cls := "SearchHouse", name := "facet", desc := "(I)I" } : Jvm.MethodName) prog_1_method_79_code (5 : Nat) (Option.some Jvm.ClassFile.FieldType.int)) ∈ lw_all := lw_g (lw_at lw_m8 33 rfl) rfl
theorem q1966 : (Jvm.Cond.methodLink "SearchHouse" (645 : Nat) ({ cls := "SearchHouse", name := "addTo", desc := "(II)V" } : Jvm.MethodName)) ∈ lw_all := lw_g (lw_at lw_m8 34 rfl) rfl
theorem q1967 : (Jvm.Cond.privateMethod ({ cls := "SearchHouse", name := "addTo", desc := "(II)V" } : Jvm.MethodName)) ∈ lw_tbl := lw_at lw_m8 35 rfl
theorem q1968 : (Jvm.Cond.instanceMethod ({ cls := "SearchHouse", name := "addTo", desc := "(II)V" } : Jvm.MethodName)) ∈ lw_all := lw_g (lw_at lw_m8 36 rfl) rfl
theorem q1969 : (Jvm.Cond.code ({ cls := "SearchHouse", name := "addTo", desc := "(II)V" } : Jvm.MethodName) prog_1_method_80_code (4 : Nat) (Option.none : Option Jvm.ClassFile.FieldType)) ∈ lw_all := lw_g (lw_at lw_m8 37 rfl) rfl
theorem q1970 : (Jvm.Cond.methodLink "SearchHouse" (648 : Nat) ({ cls := "SearchHouse", name := "sortGroups", desc := "()V" } : Jvm.MethodName)) ∈ lw_all := lw_g (lw_at lw_m8 38 rfl) rfl
theorem q1971 : (Jvm.Cond.privateMethod ({ cls := "SearchHouse", name := "sortGroups", desc := "()V" } : Jvm.MethodName)) ∈ lw_tbl := lw_at lw_m8 39 rfl
theorem q1972 : (Jvm.Cond.instanceMethod ({ cls := "SearchHouse", name := "sortGroups", desc := "()V" } : Jvm.MethodName)) ∈ lw_all := lw_g (lw_at lw_m8 40 rfl) rfl
theorem q1973 : (Jvm.Cond.code ({ cls := "SearchHouse", name := "sortGroups", desc := "()V" } : Jvm.MethodName) prog_1_method_81_code (4 : Nat) (Option.none : Option Jvm.ClassFile.FieldType)) ∈ lw_all := lw_g (lw_at lw_m8 41 rfl) rfl
theorem q1974 : (Jvm.Cond.methodLink "SearchHouse" (651 : Nat) ({ cls := "SearchHouse", name := "isGroupBefore", desc := "(II)Z" } : Jvm.MethodName)) ∈ lw_all := lw_g (lw_at lw_m8 42 rfl) rfl
theorem q1975 : (Jvm.Cond.privateMethod ({ cls := "SearchHouse", name := "isGroupBefore", desc := "(II)Z" } : Jvm.MethodName)) ∈ lw_tbl := lw_at lw_m8 43 rfl
theorem q1976 : (Jvm.Cond.instanceMethod ({ cls := "SearchHouse", name := "isGroupBefore", desc := "(II)Z" } : Jvm.MethodName)) ∈ lw_all := lw_g (lw_at lw_m8 44 rfl) rfl
theorem q1977 : (Jvm.Cond.code ({ cls := "SearchHouse", name := "isGroupBefore", desc := "(II)Z" } : Jvm.MethodName) prog_1_method_82_code (3 : Nat) (Option.some Jvm.ClassFile.FieldType.boolean)) ∈ lw_all := lw_g (lw_at lw_m8 45 rfl) rfl
theorem q1978 : (Jvm.Cond.methodLink "SearchHouse" (657 : Nat) ({ cls := "SearchHouse$Terms", name := "order", desc := "(II)I" } : Jvm.MethodName)) ∈ lw_all := lw_g (lw_at lw_m8 46 rfl) rfl
theorem q1979 : (Jvm.Cond.instanceMethod ({ cls := "SearchHouse$Terms", name := "order", desc := "(II)I" } : Jvm.MethodName)) ∈ lw_all := lw_g (lw_at lw_m8 47 rfl) rfl
theorem q1980 : (Jvm.Cond.selects "SearchHouse$Terms" ({ cls := "SearchHouse$Terms", name := "order", desc := "(II)I" } : Jvm.MethodName) ({ cls := "SearchHouse$Terms", name := "order", desc := "(II)I" } : Jvm.MethodName)) ∈ lw_all := lw_g (lw_at lw_m8 48 rfl) rfl
theorem q1981 : (Jvm.Cond.code ({ cls := "SearchHouse$Terms", name := "order", desc := "(II)I" } : Jvm.MethodName) prog_9_method_8_code (6 : Nat) (Option.some Jvm.ClassFile.FieldType.int)) ∈ lw_all := lw_g (lw_at lw_m8 49 rfl) rfl
theorem q1982 : (Jvm.Cond.methodLink "SearchHouse" (654 : Nat) ({ cls := "SearchHouse", name := "exchangeGroups", desc := "(II)V" } : Jvm.MethodName)) ∈ lw_all := lw_g (lw_at lw_m8 50 rfl) rfl
theorem q1983 : (Jvm.Cond.privateMethod ({ cls := "SearchHouse", name := "exchangeGroups", desc := "(II)V" } : Jvm.MethodName)) ∈ lw_tbl := lw_at lw_m8 51 rfl
theorem q1984 : (Jvm.Cond.instanceMethod ({ cls := "SearchHouse", name := "exchangeGroups", desc := "(II)V" } : Jvm.MethodName)) ∈ lw_all := lw_g (lw_at lw_m8 52 rfl) rfl
theorem q1985 : (Jvm.Cond.code ({ cls := "SearchHouse", name := "exchangeGroups", desc := "(II)V" } : Jvm.MethodName) prog_1_method_83_code (7 : Nat) (Option.none : Option Jvm.ClassFile.FieldType)) ∈ lw_all := lw_g (lw_at lw_m8 53 rfl) rfl
theorem q1986 : (Jvm.Cond.methodLink "SearchHouseLaw" (183 : Nat) ({ cls := "SearchHouse", name := "histogram", desc := "(IJ)I" } : Jvm.MethodName)) ∈ lw_all := lw_g (lw_at lw_m8 54 rfl) rfl
theorem q1987 : (Jvm.Cond.instanceMethod ({ cls := "SearchHouse", name := "histogram", desc := "(IJ)I" } : Jvm.MethodName)) ∈ lw_all := lw_g (lw_at lw_m8 55 rfl) rfl
theorem q1988 : (Jvm.Cond.selects "SearchHouse" ({ cls := "SearchHouse", name := "histogram", desc := "(IJ)I" } : Jvm.MethodName) ({ cls := "SearchHouse", name := "histogram", desc := "(IJ)I" } : Jvm.MethodName)) ∈ lw_all := lw_g (lw_at lw_m8 56 rfl) rfl
theorem q1989 : (Jvm.Cond.code ({ cls := "SearchHouse", name := "histogram", desc := "(IJ)I" } : Jvm.MethodName) prog_1_method_84_code (7 : Nat) (Option.some Jvm.ClassFile.FieldType.int)) ∈ lw_all := lw_g (lw_at lw_m8 57 rfl) rfl
theorem q1990 : (Jvm.Cond.methodLink "SearchHouse" (660 : Nat) ({ cls := "java/lang/Math", name := "floorDiv", desc := "(JJ)J" } : Jvm.MethodName)) ∈ lw_all := lw_g (lw_at lw_m8 58 rfl) rfl
theorem q1991 : (Jvm.Cond.static ({ cls := "java/lang/Math", name := "floorDiv", desc := "(JJ)J" } : Jvm.MethodName)) ∈ lw_all := lw_g (lw_at lw_m8 59 rfl) rfl
theorem q1992 : (Jvm.Cond.code ({ cls := "java/lang/Math", name := "floorDiv", desc := "(JJ)J" } : Jvm.MethodName) prog_22_method_49_code (6 : Nat) (Option.some Jvm.ClassFile.FieldType.long)) ∈ lw_all := lw_g (lw_at lw_m8 60 rfl) rfl
theorem q1993 : (Jvm.Cond.methodLink "SearchHouseLaw" (187 : Nat) ({ cls := "SearchHouse", name := "group", desc := "(II)I" } : Jvm.MethodName)) ∈ lw_all := lw_g (lw_at lw_m8 61 rfl) rfl
theorem q1994 : (Jvm.Cond.instanceMethod ({ cls := "SearchHouse", name := "group", desc := "(II)I" } : Jvm.MethodName)) ∈ lw_all := lw_g (lw_at lw_m8 62 rfl) rfl
theorem q1995 : (Jvm.Cond.selects "SearchHouse" ({ cls := "SearchHouse", name := "group", desc := "(II)I" } : Jvm.MethodName) ({ cls := "SearchHouse", name := "group", desc := "(II)I" } : Jvm.MethodName)) ∈ lw_all := lw_g (lw_at lw_m8 63 rfl) rfl
theorem q1996 : (Jvm.Cond.code ({ cls := "SearchHouse", name := "group", desc := "(II)I" } : Jvm.MethodName) prog_1_method_85_code (3 : Nat) (Option.some Jvm.ClassFile.FieldType.int)) ∈ lw_all := lw_g (lw_at lw_m8 64 rfl) rfl
theorem q1997 : (Jvm.Cond.methodLink "SearchHouseLaw" (191 : Nat) ({ cls := "SearchHouse", name := "groupOf", desc := "(II)J" } : Jvm.MethodName)) ∈ lw_all := lw_g (lw_at lw_m8 65 rfl) rfl
theorem q1998 : (Jvm.Cond.instanceMethod ({ cls := "SearchHouse", name := "groupOf", desc := "(II)J" } : Jvm.MethodName)) ∈ lw_all := lw_g (lw_at lw_m8 66 rfl) rfl
theorem q1999 : (Jvm.Cond.selects "SearchHouse" ({ cls := "SearchHouse", name := "groupOf", desc := "(II)J" } : Jvm.MethodName) ({ cls := "SearchHouse", name := "groupOf", desc := "(II)J" } : Jvm.MethodName)) ∈ lw_all := lw_g (lw_at lw_m8 67 rfl) rfl
theorem q2000 : (Jvm.Cond.code ({ cls := "SearchHouse", name := "groupOf", desc := "(II)J" } : Jvm.MethodName) prog_1_method_86_code (3 : Nat) (Option.some Jvm.ClassFile.FieldType.long)) ∈ lw_all := lw_g (lw_at lw_m8 68 rfl) rfl
theorem q2001 : (Jvm.Cond.methodLink "SearchHouseLaw" (195 : Nat) ({ cls := "SearchHouse", name := "suggest", desc := "(II)I" } : Jvm.MethodName)) ∈ lw_all := lw_g (lw_at lw_m8 69 rfl) rfl
theorem q2002 : (Jvm.Cond.instanceMethod ({ cls := "SearchHouse", name := "suggest", desc := "(II)I" } : Jvm.MethodName)) ∈ lw_all := lw_g (lw_at lw_m8 70 rfl) rfl
theorem q2003 : (Jvm.Cond.selects "SearchHouse" ({ cls := "SearchHouse", name := "suggest", desc := "(II)I" } : Jvm.MethodName) ({ cls := "SearchHouse", name := "suggest", desc := "(II)I" } : Jvm.MethodName)) ∈ lw_all := lw_g (lw_at lw_m8 71 rfl) rfl
theorem q2004 : (Jvm.Cond.code ({ cls := "SearchHouse", name := "suggest", desc := "(II)I" } : Jvm.MethodName) prog_1_method_87_code (3 : Nat) (Option.some Jvm.ClassFile.FieldType.int)) ∈ lw_all := lw_g (lw_at lw_m8 72 rfl) rfl
theorem q2005 : (Jvm.Cond.methodLink "SearchHouse" (664 : Nat) ({ cls := "SearchHouse", name := "tellTerms", desc := "(IIZ)I" } : Jvm.MethodName)) ∈ lw_all := lw_g (lw_at lw_m8 73 rfl) rfl
theorem q2006 : (Jvm.Cond.privateMethod ({ cls := "SearchHouse", name := "tellTerms", desc := "(IIZ)I" } : Jvm.MethodName)) ∈ lw_tbl := lw_at lw_m8 74 rfl
theorem q2007 : (Jvm.Cond.instanceMethod ({ cls := "SearchHouse", name := "tellTerms", desc := "(IIZ)I" } : Jvm.MethodName)) ∈ lw_all := lw_g (lw_at lw_m8 75 rfl) rfl
theorem q2008 : (Jvm.Cond.code ({ cls := "SearchHouse", name := "tellTerms", desc := "(IIZ)I" } : Jvm.MethodName) prog_1_method_89_code (10 : Nat) (Option.some Jvm.ClassFile.FieldType.int)) ∈ lw_all := lw_g (lw_at lw_m8 76 rfl) rfl
theorem q2009 : (Jvm.Cond.methodLink "SearchHouse" (671 : Nat) ({ cls := "SearchHouse", name := "changes", desc := "([BIIII)I" } : Jvm.MethodName)) ∈ lw_all := lw_g (lw_at lw_m8 77 rfl) rfl
theorem q2010 : (Jvm.Cond.methodLink "SearchHouse" (675 : Nat) ({ cls := "SearchHouse", name := "begins", desc := "(II)Z" } : Jvm.MethodName)) ∈ lw_all := lw_g (lw_at lw_m8 78 rfl) rfl
theorem q2011 : (Jvm.Cond.privateMethod ({ cls := "SearchHouse", name := "begins", desc := "(II)Z" } : Jvm.MethodName)) ∈ lw_tbl := lw_at lw_m8 79 rfl
theorem q2012 : (Jvm.Cond.instanceMethod ({ cls := "SearchHouse", name := "begins", desc := "(II)Z" } : Jvm.MethodName)) ∈ lw_all := lw_g (lw_at lw_m8 80 rfl) rfl
theorem q2013 : (Jvm.Cond.code ({ cls := "SearchHouse", name := "begins", desc := "(II)Z" } : Jvm.MethodName) prog_1_method_90_code (5 : Nat) (Option.some Jvm.ClassFile.FieldType.boolean)) ∈ lw_all := lw_g (lw_at lw_m8 81 rfl) rfl
theorem q2014 : (Jvm.Cond.methodLink "SearchHouse" (678 : Nat) ({ cls := "SearchHouse$World", name := "objectsWith", desc := "(I)I" } : Jvm.MethodName)) ∈ lw_all := lw_g (lw_at lw_m8 82 rfl) rfl
theorem q2015 : (Jvm.Cond.methodLink "SearchHouse" (681 : Nat) ({ cls := "SearchHouse", name := "tellTerm", desc := "(III)V" } : Jvm.MethodName)) ∈ lw_all := lw_g (lw_at lw_m8 83 rfl) rfl
theorem q2016 : (Jvm.Cond.privateMethod ({ cls := "SearchHouse", name := "tellTerm", desc := "(III)V" } : Jvm.MethodName)) ∈ lw_tbl := lw_at lw_m8 84 rfl
theorem q2017 : (Jvm.Cond.instanceMethod ({ cls := "SearchHouse", name := "tellTerm", desc := "(III)V" } : Jvm.MethodName)) ∈ lw_all := lw_g (lw_at lw_m8 85 rfl) rfl
theorem q2018 : (Jvm.Cond.code ({ cls := "SearchHouse", name := "tellTerm", desc := "(III)V" } : Jvm.MethodName) prog_1_method_91_code (5 : Nat) (Option.none : Option Jvm.ClassFile.FieldType)) ∈ lw_all := lw_g (lw_at lw_m8 86 rfl) rfl
theorem q2019 : (Jvm.Cond.methodLink "SearchHouse" (684 : Nat) ({ cls := "SearchHouse", name := "isToldBefore", desc := "(IIII)Z" } : Jvm.MethodName)) ∈ lw_all := lw_g (lw_at lw_m8 87 rfl) rfl
theorem q2020 : (Jvm.Cond.privateMethod ({ cls := "SearchHouse", name := "isToldBefore", desc := "(IIII)Z" } : Jvm.MethodName)) ∈ lw_tbl := lw_at lw_m8 88 rfl
theorem q2021 : (Jvm.Cond.instanceMethod ({ cls := "SearchHouse", name := "isToldBefore", desc := "(IIII)Z" } : Jvm.MethodName)) ∈ lw_all := lw_g (lw_at lw_m8 89 rfl) rfl
theorem q2022 : (Jvm.Cond.code ({ cls := "SearchHouse", name := "isToldBefore", desc := "(IIII)Z" } : Jvm.MethodName) prog_1_method_92_code (5 : Nat) (Option.some Jvm.ClassFile.FieldType.boolean)) ∈ lw_all := lw_g (lw_at lw_m8 90 rfl) rfl
theorem q2023 : (Jvm.Cond.methodLink "SearchHouseLaw" (199 : Nat) ({ cls := "SearchHouse", name := "spell", desc := "(II)I" } : Jvm.MethodName)) ∈ lw_all := lw_g (lw_at lw_m8 91 rfl) rfl
theorem q2024 : (Jvm.Cond.instanceMethod ({ cls := "SearchHouse", name := "spell", desc := "(II)I" } : Jvm.MethodName)) ∈ lw_all := lw_g (lw_at lw_m8 92 rfl) rfl
theorem q2025 : (Jvm.Cond.selects "SearchHouse" ({ cls := "SearchHouse", name := "spell", desc := "(II)I" } : Jvm.MethodName) ({ cls := "SearchHouse", name := "spell", desc := "(II)I" } : Jvm.MethodName)) ∈ lw_all := lw_g (lw_at lw_m8 93 rfl) rfl
theorem q2026 : (Jvm.Cond.code ({ cls := "SearchHouse", name := "spell", desc := "(II)I" } : Jvm.MethodName) prog_1_method_88_code (3 : Nat) (Option.some Jvm.ClassFile.FieldType.int)) ∈ lw_all := lw_g (lw_at lw_m8 94 rfl) rfl
theorem q2027 : (Jvm.Cond.methodLink "SearchHouseLaw" (203 : Nat) ({ cls := "SearchHouse", name := "term", desc := "(II)I" } : Jvm.MethodName)) ∈ lw_all := lw_g (lw_at lw_m8 95 rfl) rfl
theorem q2028 : (Jvm.Cond.instanceMethod ({ cls := "SearchHouse", name := "term", desc := "(II)I" } : Jvm.MethodName)) ∈ lw_all := lw_g (lw_at lw_m8 96 rfl) rfl
theorem q2029 : (Jvm.Cond.selects "SearchHouse" ({ cls := "SearchHouse", name := "term", desc := "(II)I" } : Jvm.MethodName) ({ cls := "SearchHouse", name := "term", desc := "(II)I" } : Jvm.MethodName)) ∈ lw_all := lw_g (lw_at lw_m8 97 rfl) rfl
theorem q2030 : (Jvm.Cond.code ({ cls := "SearchHouse", name := "term", desc := "(II)I" } : Jvm.MethodName) prog_1_method_93_code (3 : Nat) (Option.some Jvm.ClassFile.FieldType.int)) ∈ lw_all := lw_g (lw_at lw_m8 98 rfl) rfl
theorem q2031 : (Jvm.Cond.methodLink "SearchHouseLaw" (207 : Nat) ({ cls := "SearchHouse", name := "termByte", desc := "(II)I" } : Jvm.MethodName)) ∈ lw_all := lw_g (lw_at lw_m8 99 rfl) rfl
theorem q2032 : (Jvm.Cond.instanceMethod ({ cls := "SearchHouse", name := "termByte", desc := "(II)I" } : Jvm.MethodName)) ∈ lw_all := lw_g (lw_at lw_m8 100 rfl) rfl
theorem q2033 : (Jvm.Cond.selects "SearchHouse" ({ cls := "SearchHouse", name := "termByte", desc := "(II)I" } : Jvm.MethodName) ({ cls := "SearchHouse", name := "termByte", desc := "(II)I" } : Jvm.MethodName)) ∈ lw_all := lw_g (lw_at lw_m8 101 rfl) rfl
theorem q2034 : (Jvm.Cond.code ({ cls := "SearchHouse", name := "termByte", desc := "(II)I" } : Jvm.MethodName) prog_1_method_94_code (3 : Nat) (Option.some Jvm.ClassFile.FieldType.int)) ∈ lw_all := lw_g (lw_at lw_m8 102 rfl) rfl
theorem q2035 : (Jvm.Cond.methodLink "SearchHouseLaw" (211 : Nat) ({ cls := "SearchHouse", name := "like", desc := "(II)I" } : Jvm.MethodName)) ∈ lw_all := lw_g (lw_at lw_m8 103 rfl) rfl
theorem q2036 : (Jvm.Cond.instanceMethod ({ cls := "SearchHouse", name := "like", desc := "(II)I" } : Jvm.MethodName)) ∈ lw_all := lw_g (lw_at lw_m8 104 rfl) rfl
theorem q2037 : (Jvm.Cond.selects "SearchHouse" ({ cls := "SearchHouse", name := "like", desc := "(II)I" } : Jvm.MethodName) ({ cls := "SearchHouse", name := "like", desc := "(II)I" } : Jvm.MethodName)) ∈ lw_all := lw_g (lw_at lw_m8 105 rfl) rfl
theorem q2038 : (Jvm.Cond.code ({ cls := "SearchHouse", name := "like", desc := "(II)I" } : Jvm.MethodName) prog_1_method_95_code (10 : Nat) (Option.some Jvm.ClassFile.FieldType.int)) ∈ lw_all := lw_g (lw_at lw_m8 106 rfl) rfl
theorem q2039 : (Jvm.Cond.methodLink "SearchHouse" (688 : Nat) ({ cls := "SearchHouse$World", name := "count", desc := "()V" } : Jvm.MethodName)) ∈ lw_all := lw_g (lw_at lw_m8 107 rfl) rfl
theorem q2040 : (Jvm.Cond.methodLink "SearchHouse" (690 : Nat) ({ cls := "SearchHouse", name := "weighTerms", desc := "(I)V" } : Jvm.MethodName)) ∈ lw_all := lw_g (lw_at lw_m8 108 rfl) rfl
theorem q2041 : (Jvm.Cond.privateMethod ({ cls := "SearchHouse", name := "weighTerms", desc := "(I)V" } : Jvm.MethodName)) ∈ lw_tbl := lw_at lw_m8 109 rfl
theorem q2042 : (Jvm.Cond.instanceMethod ({ cls := "SearchHouse", name := "weighTerms", desc := "(I)V" } : Jvm.MethodName)) ∈ lw_all := lw_g (lw_at lw_m8 110 rfl) rfl
theorem q2043 : (Jvm.Cond.code ({ cls := "SearchHouse", name := "weighTerms", desc := "(I)V" } : Jvm.MethodName) prog_1_method_96_code (8 : Nat) (Option.none : Option Jvm.ClassFile.FieldType)) ∈ lw_all := lw_g (lw_at lw_m8 111 rfl) rfl
theorem q2044 : (Jvm.Cond.methodLinkNest "SearchHouse" (701 : Nat) ({ cls := "SearchHouse$Asking", name := "idf", desc := "(II)I" } : Jvm.MethodName) "SearchHouse") ∈ lw_tbl := lw_at lw_m8 112 rfl
theorem q2045 : (Jvm.Cond.methodLink "SearchHouse" (708 : Nat) ({ cls := "SearchHouse", name := "choose", desc := "(IJ)V" } : Jvm.MethodName)) ∈ lw_all := lw_g (lw_at lw_m8 113 rfl) rfl
theorem q2046 : (Jvm.Cond.privateMethod ({ cls := "SearchHouse", name := "choose", desc := "(IJ)V" } : Jvm.MethodName)) ∈ lw_tbl := lw_at lw_m8 114 rfl
theorem q2047 : (Jvm.Cond.instanceMethod ({ cls := "SearchHouse", name := "choose", desc := "(IJ)V" } : Jvm.MethodName)) ∈ lw_all := lw_g (lw_at lw_m8 115 rfl) rfl
theorem q2048 : (Jvm.Cond.code ({ cls := "SearchHouse", name := "choose", desc := "(IJ)V" } : Jvm.MethodName) prog_1_method_97_code (5 : Nat) (Option.none : Option Jvm.ClassFile.FieldType)) ∈ lw_all := lw_g (lw_at lw_m8 116 rfl) rfl
theorem q2049 : (Jvm.Cond.methodLink "SearchHouse" (711 : Nat) ({ cls := "SearchHouse", name := "isTermBefore", desc := "(II)Z" } : Jvm.MethodName)) ∈ lw_all := lw_g (lw_at lw_m8 117 rfl) rfl
theorem q2050 : (Jvm.Cond.privateMethod ({ cls := "SearchHouse", name := "isTermBefore", desc := "(II)Z" } : Jvm.MethodName)) ∈ lw_tbl := lw_at lw_m8 118 rfl
theorem q2051 : (Jvm.Cond.instanceMethod ({ cls := "SearchHouse", name := "isTermBefore", desc := "(II)Z" } : Jvm.MethodName)) ∈ lw_all := lw_g (lw_at lw_m8 119 rfl) rfl
theorem q2052 : (Jvm.Cond.code ({ cls := "SearchHouse", name := "isTermBefore", desc := "(II)Z" } : Jvm.MethodName) prog_1_method_98_code (3 : Nat) (Option.some Jvm.ClassFile.FieldType.boolean)) ∈ lw_all := lw_g (lw_at lw_m8 120 rfl) rfl
theorem q2053 : (Jvm.Cond.methodLink "SearchHouse" (696 : Nat) ({ cls := "SearchHouse", name := "count", desc := "(II)I" } : Jvm.MethodName)) ∈ lw_all := lw_g (lw_at lw_m8 121 rfl) rfl
theorem q2054 : (Jvm.Cond.privateMethod ({ cls := "SearchHouse", name := "count", desc := "(II)I" } : Jvm.MethodName)) ∈ lw_tbl := lw_at lw_m8 122 rfl
theorem q2055 : (Jvm.Cond.instanceMethod ({ cls := "SearchHouse", name := "count", desc := "(II)I" } : Jvm.MethodName)) ∈ lw_all := lw_g (lw_at lw_m8 123 rfl) rfl
theorem q2056 : (Jvm.Cond.code ({ cls := "SearchHouse", name := "count", desc := "(II)I" } : Jvm.MethodName) prog_1_method_99_code (6 : Nat) (Option.some Jvm.ClassFile.FieldType.int)) ∈ lw_all := lw_g (lw_at lw_m8 124 rfl) rfl
theorem q2057 : (Jvm.Cond.methodLink "SearchHouse" (698 : Nat) ({ cls := "java/lang/Math", name := "max", desc := "(JJ)J" } : Jvm.MethodName)) ∈ lw_all := lw_g (lw_at lw_m8 125 rfl) rfl
theorem q2058 : (Jvm.Cond.methodLink "SearchHouse" (704 : Nat) ({ cls := "SearchHouse$Asking", name := "weigh", desc := "(JJII)J" } : Jvm.MethodName)) ∈ lw_all := lw_g (lw_at lw_m8 126 rfl) rfl
theorem q2059 : (Jvm.Cond.methodLink "SearchHouseLaw" (215 : Nat) ({ cls := "SearchHouse", name := "near", desc := "(IIIIIII)I" } : Jvm.MethodName)) ∈ lw_all := lw_g (lw_at lw_m8 127 rfl) rfl
theorem q2060 : (Jvm.Cond.instanceMethod ({ cls := "SearchHouse", name := "near", desc := "(IIIIIII)I" } : Jvm.MethodName)) ∈ lw_all := lw_g (lw_at lw_m8 128 rfl) rfl
theorem q2061 : (Jvm.Cond.selects "SearchHouse" ({ cls := "SearchHouse", name := "near", desc := "(IIIIIII)I" } : Jvm.MethodName) ({ cls := "SearchHouse", name := "near", desc := "(IIIIIII)I" } : Jvm.MethodName)) ∈ lw_all := lw_g (lw_at lw_m8 129 rfl) rfl
theorem q2062 : (Jvm.Cond.code ({ cls := "SearchHouse", name := "near", desc := "(IIIIIII)I" } : Jvm.MethodName) prog_1_method_100_code (14 : Nat) (Option.some Jvm.ClassFile.FieldType.int)) ∈ lw_all := lw_g (lw_at lw_m8 130 rfl) rfl
theorem q2063 : (Jvm.Cond.methodLink "SearchHouse" (714 : Nat) ({ cls := "SearchHouse", name := "leastDistance", desc := "(IIJ)J" } : Jvm.MethodName)) ∈ lw_all := lw_g (lw_at lw_m8 131 rfl) rfl
theorem q2064 : (Jvm.Cond.privateMethod ({ cls := "SearchHouse", name := "leastDistance", desc := "(IIJ)J" } : Jvm.MethodName)) ∈ lw_tbl := lw_at lw_m8 132 rfl
theorem q2065 : (Jvm.Cond.instanceMethod ({ cls := "SearchHouse", name := "leastDistance", desc := "(IIJ)J" } : Jvm.MethodName)) ∈ lw_all := lw_g (lw_at lw_m8 133 rfl) rfl
theorem q2066 : (Jvm.Cond.code ({ cls := "SearchHouse", name := "leastDistance", desc := "(IIJ)J" } : Jvm.MethodName) prog_1_method_101_code (13 : Nat) (Option.some Jvm.ClassFile.FieldType.long)) ∈ lw_all := lw_g (lw_at lw_m8 134 rfl) rfl
theorem q2067 : (Jvm.Cond.methodLink "SearchHouse" (718 : Nat) ({ cls := "java/lang/Math", name := "min", desc := "(JJ)J" } : Jvm.MethodName)) ∈ lw_all := lw_g (lw_at lw_m8 135 rfl) rfl
theorem q2068 : (Jvm.Cond.methodLink "SearchHouseLaw" (220 : Nat) ({ cls := "SearchHouse", name := "percolate", desc := "()I" } : Jvm.MethodName)) ∈ lw_all := lw_g (lw_at lw_m8 136 rfl) rfl
theorem q2069 : (Jvm.Cond.instanceMethod ({ cls := "SearchHouse", name := "percolate", desc := "()I" } : Jvm.MethodName)) ∈ lw_all := lw_g (lw_at lw_m8 137 rfl) rfl
theorem q2070 : (Jvm.Cond.selects "SearchHouse" ({ cls := "SearchHouse", name := "percolate", desc := "()I" } : Jvm.MethodName) ({ cls := "SearchHouse", name := "percolate", desc := "()I" } : Jvm.MethodName)) ∈ lw_all := lw_g (lw_at lw_m8 138 rfl) rfl
theorem q2071 : (Jvm.Cond.code ({ cls := "SearchHouse", name := "percolate", desc := "()I" } : Jvm.MethodName) prog_1_method_102_code (2 : Nat) (Option.some Jvm.ClassFile.FieldType.int)) ∈ lw_all := lw_g (lw_at lw_m8 139 rfl) rfl
theorem q2072 : (Jvm.Cond.methodLink "SearchHouse" (723 : Nat) ({ cls := "SearchHouse$World", name := "alone", desc := "()V" } : Jvm.MethodName)) ∈ lw_all := lw_g (lw_at lw_m8 140 rfl) rfl
theorem q2073 : (Jvm.Cond.instanceMethod ({ cls := "SearchHouse$World", name := "alone", desc := "()V" } : Jvm.MethodName)) ∈ lw_all := lw_g (lw_at lw_m8 141 rfl) rfl
theorem q2074 : (Jvm.Cond.selects "SearchHouse$World" ({ cls := "SearchHouse$World", name := "alone", desc := "()V" } : Jvm.MethodName) ({ cls := "SearchHouse$World", name := "alone", desc := "()V" } : Jvm.MethodName)) ∈ lw_all := lw_g (lw_at lw_m8 142 rfl) rfl
theorem q2075 : (Jvm.Cond.code ({ cls := "SearchHouse$World", name := "alone", desc := "()V" } : Jvm.MethodName) prog_12_method_4_code (2 : Nat) (Option.none : Option Jvm.ClassFile.FieldType)) ∈ lw_all := lw_g (lw_at lw_m8 143 rfl) rfl
theorem q2076 : (Jvm.Cond.methodLink "SearchHouseLaw" (224 : Nat) ({ cls := "SearchHouse", name := "matched", desc := "(I)I" } : Jvm.MethodName)) ∈ lw_all := lw_g (lw_at lw_m8 144 rfl) rfl
theorem q2077 : (Jvm.Cond.instanceMethod ({ cls := "SearchHouse", name := "matched", desc := "(I)I" } : Jvm.MethodName)) ∈ lw_all := lw_g (lw_at lw_m8 145 rfl) rfl
theorem q2078 : (Jvm.Cond.selects "SearchHouse" ({ cls := "SearchHouse", name := "matched", desc := "(I)I" } : Jvm.MethodName) ({ cls := "SearchHouse", name := "matched", desc := "(I)I" } : Jvm.MethodName)) ∈ lw_all := lw_g (lw_at lw_m8 146 rfl) rfl
theorem q2079 : (Jvm.Cond.code ({ cls := "SearchHouse", name := "matched", desc := "(I)I" } : Jvm.MethodName) prog_1_method_103_code (2 : Nat) (Option.some Jvm.ClassFile.FieldType.int)) ∈ lw_all := lw_g (lw_at lw_m8 147 rfl) rfl
theorem q2080 : (Jvm.Cond.methodLink "SearchHouseLaw" (228 : Nat) ({ cls := "SearchHouse", name := "spread", desc := "(II)I" } : Jvm.MethodName)) ∈ lw_all := lw_g (lw_at lw_m8 148 rfl) rfl
theorem q2081 : (Jvm.Cond.instanceMethod ({ cls := "SearchHouse", name := "spread", desc := "(II)I" } : Jvm.MethodName)) ∈ lw_all := lw_g (lw_at lw_m8 149 rfl) rfl
theorem q2082 : (Jvm.Cond.selects "SearchHouse" ({ cls := "SearchHouse", name := "spread", desc := "(II)I" } : Jvm.MethodName) ({ cls := "SearchHouse", name := "spread", desc := "(II)I" } : Jvm.MethodName)) ∈ lw_all := lw_g (lw_at lw_m8 150 rfl) rfl
theorem q2083 : (Jvm.Cond.code ({ cls := "SearchHouse", name := "spread", desc := "(II)I" } : Jvm.MethodName) prog_1_method_104_code (4 : Nat) (Option.some Jvm.ClassFile.FieldType.int)) ∈ lw_all := lw_g (lw_at lw_m8 151 rfl) rfl
theorem q2084 : (Jvm.Cond.methodLink "SearchHouseLaw" (232 : Nat) ({ cls := "SearchHouse", name := "lose", desc := "(II)I" } : Jvm.MethodName)) ∈ lw_all := lw_g (lw_at lw_m8 152 rfl) rfl
theorem q2085 : (Jvm.Cond.instanceMethod ({ cls := "SearchHouse", name := "lose", desc := "(II)I" } : Jvm.MethodName)) ∈ lw_all := lw_g (lw_at lw_m8 153 rfl) rfl
theorem q2086 : (Jvm.Cond.selects "SearchHouse" ({ cls := "SearchHouse", name := "lose", desc := "(II)I" } : Jvm.MethodName) ({ cls := "SearchHouse", name := "lose", desc := "(II)I" } : Jvm.MethodName)) ∈ lw_all := lw_g (lw_at lw_m8 154 rfl) rfl
theorem q2087 : (Jvm.Cond.code ({ cls := "SearchHouse", name := "lose", desc := "(II)I" } : Jvm.MethodName) prog_1_method_105_code (4 : Nat) (Option.some Jvm.ClassFile.FieldType.int)) ∈ lw_all := lw_g (lw_at lw_m8 155 rfl) rfl
theorem q2088 : (Jvm.Cond.methodLink "SearchHouseLaw" (236 : Nat) ({ cls := "SearchHouse", name := "route", desc := "(I)I" } : Jvm.MethodName)) ∈ lw_all := lw_g (lw_at lw_m8 156 rfl) rfl
theorem q2089 : (Jvm.Cond.instanceMethod ({ cls := "SearchHouse", name := "route", desc := "(I)I" } : Jvm.MethodName)) ∈ lw_all := lw_g (lw_at lw_m8 157 rfl) rfl
theorem q2090 : (Jvm.Cond.selects "SearchHouse" ({ cls := "SearchHouse", name := "route", desc := "(I)I" } : Jvm.MethodName) ({ cls := "SearchHouse", name := "route", desc := "(I)I" } : Jvm.MethodName)) ∈ lw_all := lw_g (lw_at lw_m8 158 rfl) rfl
theorem q2091 : (Jvm.Cond.code ({ cls := "SearchHouse", name := "route", desc := "(I)I" } : Jvm.MethodName) prog_1_method_108_code (3 : Nat) (Option.some Jvm.ClassFile.FieldType.int)) ∈ lw_all := lw_g (lw_at lw_m8 159 rfl) rfl
theorem q2092 : (Jvm.Cond.methodLink "SearchHouseLaw" (240 : Nat) ({ cls := "SearchHouse", name := "asked", desc := "(I)I" } : Jvm.MethodName)) ∈ lw_all := lw_g (lw_at lw_m8 160 rfl) rfl
theorem q2093 : (Jvm.Cond.instanceMethod ({ cls := "SearchHouse", name := "asked", desc := "(I)I" } : Jvm.MethodName)) ∈ lw_all := lw_g (lw_at lw_m8 161 rfl) rfl
theorem q2094 : (Jvm.Cond.selects "SearchHouse" ({ cls := "SearchHouse", name := "asked", desc := "(I)I" } : Jvm.MethodName) ({ cls := "SearchHouse", name := "asked", desc := "(I)I" } : Jvm.MethodName)) ∈ lw_all := lw_g (lw_at lw_m8 162 rfl) rfl
theorem q2095 : (Jvm.Cond.code ({ cls := "SearchHouse", name := "asked", desc := "(I)I" } : Jvm.MethodName) prog_1_method_109_code (2 : Nat) (Option.some Jvm.ClassFile.FieldType.int)) ∈ lw_all := lw_g (lw_at lw_m8 163 rfl) rfl
theorem q2096 : (Jvm.Cond.methodLink "SearchHouseLaw" (244 : Nat) ({ cls := "SearchHouse", name := "export", desc := "()I" } : Jvm.MethodName)) ∈ lw_all := lw_g (lw_at lw_m8 164 rfl) rfl
theorem q2097 : (Jvm.Cond.instanceMethod ({ cls := "SearchHouse", name := "export", desc := "()I" } : Jvm.MethodName)) ∈ lw_all := lw_g (lw_at lw_m8 165 rfl) rfl
theorem q2098 : (Jvm.Cond.selects "SearchHouse" ({ cls := "SearchHouse", name := "export", desc := "()I" } : Jvm.MethodName) ({ cls := "SearchHouse", name := "export", desc := "()I" } : Jvm.MethodName)) ∈ lw_all := lw_g (lw_at lw_m8 166 rfl) rfl
theorem q2099 : (Jvm.Cond.code ({ cls := "SearchHouse", name := "export", desc := "()I" } : Jvm.MethodName) prog_1_method_113_code (3 : Nat) (Option.some Jvm.ClassFile.FieldType.int)) ∈ lw_all := lw_g (lw_at lw_m8 167 rfl) rfl
theorem q2100 : (Jvm.Cond.constantLong "SearchHouse" (744 : Nat) (83 : Int64)) ∈ lw_all := lw_g (lw_at lw_m8 168 rfl) rfl
theorem q2101 : (Jvm.Cond.methodLink "SearchHouse" (732 : Nat) ({ cls := "SearchHouse", name := "write", desc := "(JI)V" } : Jvm.MethodName)) ∈ lw_all := lw_g (lw_at lw_m8 169 rfl) rfl
theorem q2102 : (Jvm.Cond.privateMethod ({ cls := "SearchHouse", name := "write", desc := "(JI)V" } : Jvm.MethodName)) ∈ lw_tbl := lw_at lw_m8 170 rfl
theorem q2103 : (Jvm.Cond.instanceMethod ({ cls := "SearchHouse", name := "write", desc := "(JI)V" } : Jvm.MethodName)) ∈ lw_all := lw_g (lw_at lw_m8 171 rfl) rfl
theorem q2104 : (Jvm.Cond.code ({ cls := "SearchHouse", name := "write", desc := "(JI)V" } : Jvm.MethodName) prog_1_method_110_code (5 : Nat) (Option.none : Option Jvm.ClassFile.FieldType)) ∈ lw_all := lw_g (lw_at lw_m8 172 rfl) rfl
theorem q2105 : (Jvm.Cond.constantLong "SearchHouse" (746 : Nat) (72 : Int64)) ∈ lw_all := lw_g (lw_at lw_m8 173 rfl) rfl
theorem q2106 : (Jvm.Cond.methodLink "SearchHouse" (748 : Nat) ({ cls := "SearchHouse", name := "writeRows", desc := "(LSearchHouse$Rows;LSearchHouse$Rows;)V" } : Jvm.MethodName)) ∈ lw_all := lw_g (lw_at lw_m8 174 rfl) rfl
theorem q2107 : (Jvm.Cond.privateMethod ({ cls := "SearchHouse", name := "writeRows", desc := "(LSearchHouse$Rows;LSearchHouse$Rows;)V" } : Jvm.MethodName)) ∈ lw_tbl := lw_at lw_m8 175 rfl
theorem q2108 : (Jvm.Cond.instanceMethod ({ cls := "SearchHouse", name := "writeRows", desc := "(LSearchHouse$Rows;LSearchHouse$Rows;)V" } : Jvm.MethodName)) ∈ lw_all := lw_g (lw_at lw_m8 176 rfl) rfl
theorem q2109 : (Jvm.Cond.code ({ cls := "SearchHouse", name := "writeRows", desc := "(LSearchHouse$Rows;LSearchHouse$Rows;)V" } : Jvm.MethodName) prog_1_method_112_code (4 : Nat) (Option.none : Option Jvm.ClassFile.FieldType)) ∈ lw_all := lw_g (lw_at lw_m8 177 rfl) rfl
theorem q2110 : (Jvm.Cond.methodLink "SearchHouse" (738 : Nat) ({ cls := "SearchHouse", name := "writeRow", desc := "([BII)V" } : Jvm.MethodName)) ∈ lw_all := lw_g (lw_at lw_m8 178 rfl) rfl
theorem q2111 : (Jvm.Cond.privateMethod ({ cls := "SearchHouse", name := "writeRow", desc := "([BII)V" } : Jvm.MethodName)) ∈ lw_tbl := lw_at lw_m8 179 rfl
theorem q2112 : (Jvm.Cond.instanceMethod ({ cls := "SearchHouse", name := "writeRow", desc := "([BII)V" } : Jvm.MethodName)) ∈ lw_all := lw_g (lw_at lw_m8 180 rfl) rfl
theorem q2113 : (Jvm.Cond.code ({ cls := "SearchHouse", name := "writeRow", desc := "([BII)V" } : Jvm.MethodName) prog_1_method_111_code (5 : Nat) (Option.none : Option Jvm.ClassFile.FieldType)) ∈ lw_all := lw_g (lw_at lw_m8 181 rfl) rfl
theorem q2114 : (Jvm.Cond.methodLink "SearchHouse" (752 : Nat) ({ cls := "SearchHouse", name := "writeObject", desc := "(I)V" } : Jvm.MethodName)) ∈ lw_all := lw_g (lw_at lw_m8 182 rfl) rfl
theorem q2115 : (Jvm.Cond.privateMethod ({ cls := "SearchHouse", name := "writeObject", desc := "(I)V" } : Jvm.MethodName)) ∈ lw_tbl := lw_at lw_m8 183 rfl
theorem q2116 : (Jvm.Cond.instanceMethod ({ cls := "SearchHouse", name := "writeObject", desc := "(I)V" } : Jvm.MethodName)) ∈ lw_all := lw_g (lw_at lw_m8 184 rfl) rfl
theorem q2117 : (Jvm.Cond.code ({ cls := "SearchHouse", name := "writeObject", desc := "(I)V" } : Jvm.MethodName) prog_1_method_114_code (3 : Nat) (Option.none : Option Jvm.ClassFile.FieldType)) ∈ lw_all := lw_g (lw_at lw_m8 185 rfl) rfl
theorem q2118 : (Jvm.Cond.methodLink "SearchHouse" (755 : Nat) ({ cls := "SearchHouse", name := "sumOf", desc := "([BI)I" } : Jvm.MethodName)) ∈ lw_all := lw_g (lw_at lw_m8 186 rfl) rfl
theorem q2119 : (Jvm.Cond.static ({ cls := "SearchHouse", name := "sumOf", desc := "([BI)I" } : Jvm.MethodName)) ∈ lw_all := lw_g (lw_at lw_m8 187 rfl) rfl
theorem q2120 : (Jvm.Cond.code ({ cls := "SearchHouse", name := "sumOf", desc := "([BI)I" } : Jvm.MethodName) prog_1_method_115_code (4 : Nat) (Option.some Jvm.ClassFile.FieldType.int)) ∈ lw_all := lw_g (lw_at lw_m8 188 rfl) rfl
theorem q2121 : (Jvm.Cond.methodLink "SearchHouseLaw" (248 : Nat) ({ cls := "SearchHouse", name := "written", desc := "(I)I" } : Jvm.MethodName)) ∈ lw_all := lw_g (lw_at lw_m8 189 rfl) rfl
theorem q2122 : (Jvm.Cond.instanceMethod ({ cls := "SearchHouse", name := "written", desc := "(I)I" } : Jvm.MethodName)) ∈ lw_all := lw_g (lw_at lw_m8 190 rfl) rfl
theorem q2123 : (Jvm.Cond.selects "SearchHouse" ({ cls := "SearchHouse", name := "written", desc := "(I)I" } : Jvm.MethodName) ({ cls := "SearchHouse", name := "written", desc := "(I)I" } : Jvm.MethodName)) ∈ lw_all := lw_g (lw_at lw_m8 191 rfl) rfl
theorem q2124 : (Jvm.Cond.code ({ cls := "SearchHouse", name := "written", desc := "(I)I" } : Jvm.MethodName) prog_1_method_116_code (2 : Nat) (Option.some Jvm.ClassFile.FieldType.int)) ∈ lw_all := lw_g (lw_at lw_m8 192 rfl) rfl
theorem q2125 : (Jvm.Cond.methodLink "SearchHouseLaw" (252 : Nat) ({ cls := "SearchHouse", name := "imported", desc := "()I" } : Jvm.MethodName)) ∈ lw_all := lw_g (lw_at lw_m8 193 rfl) rfl
theorem q2126 : (Jvm.Cond.instanceMethod ({ cls := "SearchHouse", name := "imported", desc := "()I" } : Jvm.MethodName)) ∈ lw_all := lw_g (lw_at lw_m8 194 rfl) rfl
theorem q2127 : (Jvm.Cond.selects "SearchHouse" ({ cls := "SearchHouse", name := "imported", desc := "()I" } : Jvm.MethodName) ({ cls := "SearchHouse", name := "imported", desc := "()I" } : Jvm.MethodName)) ∈ lw_all := lw_g (lw_at lw_m8 195 rfl) rfl
theorem q2128 : (Jvm.Cond.codeWith ({ cls := "SearchHouse", name := "imported", desc := "()I" } : Jvm.MethodName) prog_1_method_117_code (5 : Nat) (Option.some Jvm.ClassFile.FieldType.int) [((107 : Nat), (116 : Nat), (119 : Nat), (509 : Nat))]) ∈ lw_all := lw_g (lw_at lw_m8 196 rfl) rfl
theorem q2129 : (Jvm.Cond.methodLink "SearchHouse" (759 : Nat) ({ cls := "SearchHouse$Importer", name := "all", desc := "(I)I" } : Jvm.MethodName)) ∈ lw_all := lw_g (lw_at lw_m8 197 rfl) rfl
theorem q2130 : (Jvm.Cond.instanceMethod ({ cls := "SearchHouse$Importer", name := "all", desc := "(I)I" } : Jvm.MethodName)) ∈ lw_all := lw_g (lw_at lw_m8 198 rfl) rfl
theorem q2131 : (Jvm.Cond.selects "SearchHouse$Importer" ({ cls := "SearchHouse$Importer", name := "all", desc := "(I)I" } : Jvm.MethodName) ({ cls := "SearchHouse$Importer", name := "all", desc := "(I)I" } : Jvm.MethodName)) ∈ lw_all := lw_g (lw_at lw_m8 199 rfl) rfl
theorem q2132 : (Jvm.Cond.code ({ cls := "SearchHouse$Importer", name := "all", desc := "(I)I" } : Jvm.MethodName) prog_5_method_6_code (7 : Nat) (Option.some Jvm.ClassFile.FieldType.int)) ∈ lw_all := lw_g (lw_at lw_m8 200 rfl) rfl
theorem q2133 : (Jvm.Cond.methodLink "SearchHouse$Importer" (45 : Nat) ({ cls := "SearchHouse$Importer", name := "small", desc := "(II)I" } : Jvm.MethodName)) ∈ lw_all := lw_g (lw_at lw_m8 201 rfl) rfl
theorem q2134 : (Jvm.Cond.privateMethod ({ cls := "SearchHouse$Importer", name := "small", desc := "(II)I" } : Jvm.MethodName)) ∈ lw_tbl := lw_at lw_m8 202 rfl
theorem q2135 : (Jvm.Cond.instanceMethod ({ cls := "SearchHouse$Importer", name := "small", desc := "(II)I" } : Jvm.MethodName)) ∈ lw_all := lw_g (lw_at lw_m8 203 rfl) rfl
theorem q2136 : (Jvm.Cond.code ({ cls := "SearchHouse$Importer", name := "small", desc := "(II)I" } : Jvm.MethodName) prog_5_method_4_code (4 : Nat) (Option.some Jvm.ClassFile.FieldType.int)) ∈ lw_all := lw_g (lw_at lw_m8 204 rfl) rfl
theorem q2137 : (Jvm.Cond.methodLink "SearchHouse$Importer" (37 : Nat) ({ cls := "SearchHouse$Importer", name := "number", desc := "(I)J" } : Jvm.MethodName)) ∈ lw_all := lw_g (lw_at lw_m8 205 rfl) rfl
theorem q2138 : (Jvm.Cond.privateMethod ({ cls := "SearchHouse$Importer", name := "number", desc := "(I)J" } : Jvm.MethodName)) ∈ lw_tbl := lw_at lw_m8 206 rfl
theorem q2139 : (Jvm.Cond.instanceMethod ({ cls := "SearchHouse$Importer", name := "number", desc := "(I)J" } : Jvm.MethodName)) ∈ lw_all := lw_g (lw_at lw_m8 207 rfl) rfl
theorem q2140 : (Jvm.Cond.code ({ cls := "SearchHouse$Importer", name := "number", desc := "(I)J" } : Jvm.MethodName) prog_5_method_3_code (5 : Nat) (Option.some Jvm.ClassFile.FieldType.long)) ∈ lw_all := lw_g (lw_at lw_m8 208 rfl) rfl
theorem q2141 : (Jvm.Cond.methodLink "SearchHouse$Importer" (27 : Nat) ({ cls := "SearchHouse$Importer", name := "need", desc := "(Z)V" } : Jvm.MethodName)) ∈ lw_all := lw_g (lw_at lw_m8 209 rfl) rfl
theorem q2142 : (Jvm.Cond.privateMethod ({ cls := "SearchHouse$Importer", name := "need", desc := "(Z)V" } : Jvm.MethodName)) ∈ lw_tbl := lw_at lw_m8 210 rfl
theorem q2143 : (Jvm.Cond.instanceMethod ({ cls := "SearchHouse$Importer", name := "need", desc := "(Z)V" } : Jvm.MethodName)) ∈ lw_all := lw_g (lw_at lw_m8 211 rfl) rfl
theorem q2144 : (Jvm.Cond.code ({ cls := "SearchHouse$Importer", name := "need", desc := "(Z)V" } : Jvm.MethodName) prog_5_method_2_code (2 : Nat) (Option.none : Option Jvm.ClassFile.FieldType)) ∈ lw_all := lw_g (lw_at lw_m8 212 rfl) rfl
theorem q2145 : (Jvm.Cond.classLink "SearchHouse$Importer" (15 : Nat) "SearchHouse$Fault") ∈ lw_all := lw_g (lw_at lw_m8 213 rfl) rfl
theorem q2146 : (Jvm.Cond.methodLink "SearchHouse$Importer" (17 : Nat) ({ cls := "SearchHouse$Fault", name := "<init>", desc := "(I)V" } : Jvm.MethodName)) ∈ lw_all := lw_g (lw_at lw_m8 214 rfl) rfl
theorem q2147 : (Jvm.Cond.methodLinkNest "SearchHouse$Importer" (31 : Nat) ({ cls := "SearchHouse", name := "byteAt", desc := "(I)I" } : Jvm.MethodName) "SearchHouse") ∈ lw_tbl := lw_at lw_m8 215 rfl
theorem q2148 : (Jvm.Cond.constantLong "SearchHouse$Importer" (35 : Nat) (-1 : Int64)) ∈ lw_all := lw_g (lw_at lw_m8 216 rfl) rfl
theorem q2149 : (Jvm.Cond.methodLinkNest "SearchHouse$Importer" (41 : Nat) ({ cls := "SearchHouse", name := "isIn", desc := "(III)Z" } : Jvm.MethodName) "SearchHouse") ∈ lw_tbl := lw_at lw_m8 217 rfl
theorem q2150 : (Jvm.Cond.methodLink "SearchHouse$Importer" (63 : Nat) ({ cls := "SearchHouse$Importer", name := "readAnalyser", desc := "()V" } : Jvm.MethodName)) ∈ lw_all := lw_g (lw_at lw_m8 218 rfl) rfl
theorem q2151 : (Jvm.Cond.privateMethod ({ cls := "SearchHouse$Importer", name := "readAnalyser", desc := "()V" } : Jvm.MethodName)) ∈ lw_tbl := lw_at lw_m8 219 rfl
theorem q2152 : (Jvm.Cond.instanceMethod ({ cls := "SearchHouse$Importer", name := "readAnalyser", desc := "()V" } : Jvm.MethodName)) ∈ lw_all := lw_g (lw_at lw_m8 220 rfl) rfl
theorem q2153 : (Jvm.Cond.code ({ cls := "SearchHouse$Importer", name := "readAnalyser", desc := "()V" } : Jvm.MethodName) prog_5_method_7_code (8 : Nat) (Option.none : Option Jvm.ClassFile.FieldType)) ∈ lw_all := lw_g (lw_at lw_m8 221 rfl) rfl
theorem q2154 : (Jvm.Cond.methodLink "SearchHouse$Importer" (84 : Nat) ({ cls := "SearchHouse", name := "analyser", desc := "(III)I" } : Jvm.MethodName)) ∈ lw_all := lw_g (lw_at lw_m8 222 rfl) rfl
theorem q2155 : (Jvm.Cond.methodLink "SearchHouse$Importer" (101 : Nat) ({ cls := "SearchHouse$Importer", name := "row", desc := "(LSearchHouse$Rows;)V" } : Jvm.MethodName)) ∈ lw_all := lw_g (lw_at lw_m8 223 rfl) rfl
theorem q2156 : (Jvm.Cond.privateMethod ({ cls := "SearchHouse$Importer", name := "row", desc := "(LSearchHouse$Rows;)V" } : Jvm.MethodName)) ∈ lw_tbl := lw_at lw_m8 224 rfl
theorem q2157 : (Jvm.Cond.instanceMethod ({ cls := "SearchHouse$Importer", name := "row", desc := "(LSearchHouse$Rows;)V" } : Jvm.MethodName)) ∈ lw_all := lw_g (lw_at lw_m8 225 rfl) rfl
theorem q2158 : (Jvm.Cond.code ({ cls := "SearchHouse$Importer", name := "row", desc := "(LSearchHouse$Rows;)V" } : Jvm.MethodName) prog_5_method_5_code (3 : Nat) (Option.none : Option Jvm.ClassFile.FieldType)) ∈ lw_all := lw_g (lw_at lw_m8 226 rfl) rfl
theorem q2159 : (Jvm.Cond.methodLinkNest "SearchHouse$Importer" (49 : Nat) ({ cls := "SearchHouse", name := "areLetters", desc := "(II)Z" } : Jvm.MethodName) "SearchHouse") ∈ lw_tbl := lw_at lw_m8 227 rfl
theorem q2160 : (Jvm.Cond.methodLink "SearchHouse$Importer" (57 : Nat) ({ cls := "SearchHouse$Rows", name := "add", desc := "([BII)V" } : Jvm.MethodName)) ∈ lw_all := lw_g (lw_at lw_m8 228 rfl) rfl
theorem q2161 : (Jvm.Cond.methodLink "SearchHouse$Importer" (115 : Nat) ({ cls := "SearchHouse$Rows", name := "has", desc := "([BII)Z" } : Jvm.MethodName)) ∈ lw_all := lw_g (lw_at lw_m8 229 rfl) rfl
theorem q2162 : (Jvm.Cond.methodLinkNest "SearchHouse$Importer" (66 : Nat) ({ cls := "SearchHouse", name := "isAnalyser", desc := "(I)Z" } : Jvm.MethodName) "SearchHouse") ∈ lw_tbl := lw_at lw_m8 230 rfl
theorem q2163 : (Jvm.Cond.methodLink "SearchHouse$Importer" (70 : Nat) ({ cls := "SearchHouse", name := "field", desc := "(II)I" } : Jvm.MethodName)) ∈ lw_all := lw_g (lw_at lw_m8 231 rfl) rfl
theorem q2164 : (Jvm.Cond.constantLong "SearchHouse$Importer" (73 : Nat) (600 : Int64)) ∈ lw_all := lw_g (lw_at lw_m8 232 rfl) rfl
theorem q2165 : (Jvm.Cond.methodLink "SearchHouse$Importer" (75 : Nat) ({ cls := "SearchHouse$Importer", name := "object", desc := "()V" } : Jvm.MethodName)) ∈ lw_all := lw_g (lw_at lw_m8 233 rfl) rfl
theorem q2166 : (Jvm.Cond.privateMethod ({ cls := "SearchHouse$Importer", name := "object", desc := "()V" } : Jvm.MethodName)) ∈ lw_tbl := lw_at lw_m8 234 rfl
theorem q2167 : (Jvm.Cond.instanceMethod ({ cls := "SearchHouse$Importer", name := "object", desc := "()V" } : Jvm.MethodName)) ∈ lw_all := lw_g (lw_at lw_m8 235 rfl) rfl
theorem q2168 : (Jvm.Cond.code ({ cls := "SearchHouse$Importer", name := "object", desc := "()V" } : Jvm.MethodName) prog_5_method_9_code (8 : Nat) (Option.none : Option Jvm.ClassFile.FieldType)) ∈ lw_all := lw_g (lw_at lw_m8 236 rfl) rfl
theorem q2169 : (Jvm.Cond.methodLink "SearchHouse$Importer" (81 : Nat) ({ cls := "SearchHouse$Importer", name := "hole", desc := "()V" } : Jvm.MethodName)) ∈ lw_all := lw_g (lw_at lw_m8 237 rfl) rfl
theorem q2170 : (Jvm.Cond.privateMethod ({ cls := "SearchHouse$Importer", name := "hole", desc := "()V" } : Jvm.MethodName)) ∈ lw_tbl := lw_at lw_m8 238 rfl
theorem q2171 : (Jvm.Cond.instanceMethod ({ cls := "SearchHouse$Importer", name := "hole", desc := "()V" } : Jvm.MethodName)) ∈ lw_all := lw_g (lw_at lw_m8 239 rfl) rfl
theorem q2172 : (Jvm.Cond.code ({ cls := "SearchHouse$Importer", name := "hole", desc := "()V" } : Jvm.MethodName) prog_5_method_8_code (1 : Nat) (Option.none : Option Jvm.ClassFile.FieldType)) ∈ lw_all := lw_g (lw_at lw_m9 0 rfl) rfl
theorem q2173 : (Jvm.Cond.constant "SearchHouse$Importer" (140 : Nat) (2147483647 : Int32)) ∈ lw_all := lw_g (lw_at lw_m9 1 rfl) rfl
theorem q2174 : (Jvm.Cond.methodLink "SearchHouse$Importer" (148 : Nat) ({ cls := "SearchHouse$Importer", name := "value", desc := "()V" } : Jvm.MethodName)) ∈ lw_all := lw_g (lw_at lw_m9 2 rfl) rfl
theorem q2175 : (Jvm.Cond.privateMethod ({ cls := "SearchHouse$Importer", name := "value", desc := "()V" } : Jvm.MethodName)) ∈ lw_tbl := lw_at lw_m9 3 rfl
theorem q2176 : (Jvm.Cond.instanceMethod ({ cls := "SearchHouse$Importer", name := "value", desc := "()V" } : Jvm.MethodName)) ∈ lw_all := lw_g (lw_at lw_m9 4 rfl) rfl
theorem q2177 : (Jvm.Cond.code ({ cls := "SearchHouse$Importer", name := "value", desc := "()V" } : Jvm.MethodName) prog_5_method_10_code (5 : Nat) (Option.none : Option Jvm.ClassFile.FieldType)) ∈ lw_all := lw_g (lw_at lw_m9 5 rfl) rfl
theorem q2178 : (Jvm.Cond.methodLinkNest "SearchHouse$Importer" (155 : Nat) ({ cls := "SearchHouse", name := "isField", desc := "(I)Z" } : Jvm.MethodName) "SearchHouse") ∈ lw_tbl := lw_at lw_m9 6 rfl
theorem q2179 : (Jvm.Cond.methodLinkNest "SearchHouse$Importer" (161 : Nat) ({ cls := "SearchHouse", name := "addText", desc := "(I[BII)Z" } : Jvm.MethodName) "SearchHouse") ∈ lw_tbl := lw_at lw_m9 7 rfl
theorem q2180 : (Jvm.Cond.methodLinkNest "SearchHouse$Importer" (165 : Nat) ({ cls := "SearchHouse", name := "came", desc := "(I)I" } : Jvm.MethodName) "SearchHouse") ∈ lw_tbl := lw_at lw_m9 8 rfl
theorem q2181 : (Jvm.Cond.methodLinkNest "SearchHouse$Importer" (168 : Nat) ({ cls := "SearchHouse", name := "isNear", desc := "(I)Z" } : Jvm.MethodName) "SearchHouse") ∈ lw_tbl := lw_at lw_m9 9 rfl
theorem q2182 : (Jvm.Cond.methodLinkNest "SearchHouse$Importer" (171 : Nat) ({ cls := "SearchHouse", name := "isSmall", desc := "(I)Z" } : Jvm.MethodName) "SearchHouse") ∈ lw_tbl := lw_at lw_m9 10 rfl
theorem q2183 : (Jvm.Cond.methodLinkNest "SearchHouse$Importer" (174 : Nat) ({ cls := "SearchHouse", name := "plain", desc := "(IJ)I" } : Jvm.MethodName) "SearchHouse") ∈ lw_tbl := lw_at lw_m9 11 rfl
theorem q2184 : (Jvm.Cond.methodLinkNest "SearchHouse$Importer" (151 : Nat) ({ cls := "SearchHouse", name := "enter", desc := "(II)V" } : Jvm.MethodName) "SearchHouse") ∈ lw_tbl := lw_at lw_m9 12 rfl
theorem q2185 : (Jvm.Cond.classLink "SearchHouseLaw" (10 : Nat) "SearchHouseModel") ∈ lw_all := lw_g (lw_at lw_m9 13 rfl) rfl
theorem q2186 : (Jvm.Cond.instantiable "SearchHouseModel" (166 : Nat)) ∈ lw_all := lw_g (lw_at lw_m9 14 rfl) rfl
theorem q2187 : (Jvm.Cond.methodLink "SearchHouseLaw" (12 : Nat) ({ cls := "SearchHouseModel", name := "<init>", desc := "()V" } : Jvm.MethodName)) ∈ lw_all := lw_g (lw_at lw_m9 15 rfl) rfl
theorem q2188 : (Jvm.Cond.instanceMethod ({ cls := "SearchHouseModel", name := "<init>", desc := "()V" } : Jvm.MethodName)) ∈ lw_all := lw_g (lw_at lw_m9 16 rfl) rfl
theorem q2189 : (Jvm.Cond.code ({ cls := "SearchHouseModel", name := "<init>", desc := "()V" } : Jvm.MethodName) prog_14_method_1_code (1 : Nat) (Option.none : Option Jvm.ClassFile.FieldType)) ∈ lw_all := lw_g (lw_at lw_m9 17 rfl) rfl
theorem q2190 : (Jvm.Cond.methodLink "SearchHouseModel" (5 : Nat) ({ cls := "java/lang/Object", name := "<init>", desc := "()V" } : Jvm.MethodName)) ∈ lw_all := lw_g (lw_at lw_m9 18 rfl) rfl
theorem q2191 : (Jvm.Cond.classLink "SearchHouseModel" (11 : Nat) "java/lang/IllegalStateException") ∈ lw_all := lw_g (lw_at lw_m9 19 rfl) rfl
theorem q2192 : (Jvm.Cond.instantiable "java/lang/IllegalStateException" (6 : Nat)) ∈ lw_all := lw_g (lw_at lw_m9 20 rfl) rfl
theorem q2193 : (Jvm.Cond.castable "java/lang/IllegalStateException" "java/lang/IllegalStateException") ∈ lw_tbl := lw_at lw_m9 21 rfl
theorem q2194 : (Jvm.Cond.selects "java/lang/IllegalStateException" ({ cls := "java/lang/Throwable", name := "fillInStackTrace", desc := "(I)Ljava/lang/Throwable;" } : Jvm.MethodName) ({ cls := "java/lang/Throwable", name := "fillInStackTrace", desc := "(I)Ljava/lang/Throwable;" } : Jvm.MethodName)) ∈ lw_all := lw_g (lw_at lw_m9 22 rfl) rfl
theorem q2195 : (Jvm.Cond.lays "java/lang/IllegalStateException" "java/lang/Throwable" "cause" "Ljava/lang/Throwable;") ∈ lw_all := lw_g (lw_at lw_m9 23 rfl) rfl
theorem q2196 : (Jvm.Cond.lays "java/lang/IllegalStateException" "java/lang/Throwable" "stackTrace" "[Ljava/lang/StackTraceElement;") ∈ lw_all := lw_g (lw_at lw_m9 24 rfl) rfl
theorem q2197 : (Jvm.Cond.lays "java/lang/IllegalStateException" "java/lang/Throwable" "suppressedExceptions" "Ljava/util/List;") ∈ lw_all := lw_g (lw_at lw_m9 25 rfl) rfl
theorem q2198 : (Jvm.Cond.lays "java/lang/IllegalStateException" "java/lang/Throwable" "detailMessage" "Ljava/lang/String;") ∈ lw_all := lw_g (lw_at lw_m9 26 rfl) rfl
theorem q2199 : (Jvm.Cond.lays "java/lang/IllegalStateException" "java/lang/Throwable" "backtrace" "Ljava/lang/Object;") ∈ lw_all := lw_g (lw_at lw_m9 27 rfl) rfl
theorem q2200 : (Jvm.Cond.stringRef "SearchHouseModel" (13 : Nat) "stopped") ∈ lw_tbl := lw_at lw_m9 28 rfl
theorem q2201 : (Jvm.Cond.methodLink "SearchHouseModel" (15 : Nat) ({ cls := "java/lang/IllegalStateException", name := "<init>", desc := "(Ljava/lang/String;)V" } : Jvm.MethodName)) ∈ lw_all := lw_g (lw_at lw_m9 29 rfl) rfl
theorem q2202 : (Jvm.Cond.instanceMethod ({ cls := "java/lang/IllegalStateException", name := "<init>", desc := "(Ljava/lang/String;)V" } : Jvm.MethodName)) ∈ lw_all := lw_g (lw_at lw_m9 30 rfl) rfl
theorem q2203 : (Jvm.Cond.code ({ cls := "java/lang/IllegalStateException", name := "<init>", desc := "(Ljava/lang/String;)V" } : Jvm.MethodName) prog_20_method_2_code (2 : Nat) (Option.none : Option Jvm.ClassFile.FieldType)) ∈ lw_all := lw_g (lw_at lw_m9 31 rfl) rfl
theorem q2204 : (Jvm.Cond.methodLink "java/lang/IllegalStateException" (7 : Nat) ({ cls := "java/lang/RuntimeException", name := "<init>", desc := "(Ljava/lang/String;)V" } : Jvm.MethodName)) ∈ lw_all := lw_g (lw_at lw_m9 32 rfl) rfl
theorem q2205 : (Jvm.Cond.instanceMethod ({ cls := "java/lang/RuntimeException", name := "<init>", desc := "(Ljava/lang/String;)V" } : Jvm.MethodName)) ∈ lw_all := lw_g (lw_at lw_m9 33 rfl) rfl
theorem q2206 : (Jvm.Cond.code ({ cls := "java/lang/RuntimeException", name := "<init>", desc := "(Ljava/lang/String;)V" } : Jvm.MethodName) prog_24_method_2_code (2 : Nat) (Option.none : Option Jvm.ClassFile.FieldType)) ∈ lw_all := lw_g (lw_at lw_m9 34 rfl) rfl
theorem q2207 : (Jvm.Cond.methodLink "java/lang/RuntimeException" (7 : Nat) ({ cls := "java/lang/Exception", name := "<init>", desc := "(Ljava/lang/String;)V" } : Jvm.MethodName)) ∈ lw_all := lw_g (lw_at lw_m9 35 rfl) rfl
theorem q2208 : (Jvm.Cond.instanceMethod ({ cls := "java/lang/Exception", name := "<init>", desc := "(Ljava/lang/String;)V" } : Jvm.MethodName)) ∈ lw_all := lw_g (lw_at lw_m9 36 rfl) rfl
theorem q2209 : (Jvm.Cond.code ({ cls := "java/lang/Exception", name := "<init>", desc := "(Ljava/lang/String;)V" } : Jvm.MethodName) prog_17_method_2_code (2 : Nat) (Option.none : Option Jvm.ClassFile.FieldType)) ∈ lw_all := lw_g (lw_at lw_m9 37 rfl) rfl
theorem q2210 : (Jvm.Cond.methodLink "java/lang/Exception" (7 : Nat) ({ cls := "java/lang/Throwable", name := "<init>", desc := "(Ljava/lang/String;)V" } : Jvm.MethodName)) ∈ lw_all := lw_g (lw_at lw_m9 38 rfl) rfl
theorem q2211 : (Jvm.Cond.instanceMethod ({ cls := "java/lang/Throwable", name := "<init>", desc := "(Ljava/lang/String;)V" } : Jvm.MethodName)) ∈ lw_all := lw_g (lw_at lw_m9 39 rfl) rfl
theorem q2212 : (Jvm.Cond.code ({ cls := "java/lang/Throwable", name := "<init>", desc := "(Ljava/lang/String;)V" } : Jvm.MethodName) prog_30_method_2_code (2 : Nat) (Option.none : Option Jvm.ClassFile.FieldType)) ∈ lw_all := lw_g (lw_at lw_m9 40 rfl) rfl
theorem q2213 : (Jvm.Cond.lays "java/lang/IllegalStateException" "java/lang/Throwable" "depth" "I") ∈ lw_all := lw_g (lw_at lw_m9 41 rfl) rfl
theorem q2214 : (Jvm.Cond.superclass "java/lang/IllegalStateException" "java/lang/RuntimeException") ∈ lw_all := lw_g (lw_at lw_m9 42 rfl) rfl
theorem q2215 : (Jvm.Cond.constant "SearchHouseModel" (109 : Nat) (60000 : Int32)) ∈ lw_all := lw_g (lw_at lw_m9 43 rfl) rfl
theorem q2216 : (Jvm.Cond.constant "SearchHouseModel" (113 : Nat) (480000 : Int32)) ∈ lw_all := lw_g (lw_at lw_m9 44 rfl) rfl
theorem q2217 : (Jvm.Cond.constant "SearchHouseModel" (222 : Nat) (78130 : Int32)) ∈ lw_all := lw_g (lw_at lw_m9 45 rfl) rfl
theorem q2218 : (Jvm.Cond.constant "SearchHouseModel" (244 : Nat) (120000 : Int32)) ∈ lw_all := lw_g (lw_at lw_m9 46 rfl) rfl
theorem q2219 : (Jvm.Cond.constant "SearchHouseModel" (348 : Nat) (65536 : Int32)) ∈ lw_all := lw_g (lw_at lw_m9 47 rfl) rfl
theorem q2220 : (Jvm.Cond.methodLink "SearchHouseModel" (391 : Nat) ({ cls := "SearchHouseModel", name := "spread", desc := "(II)I" } : Jvm.MethodName)) ∈ lw_all := lw_g (lw_at lw_m9 48 rfl) rfl
theorem q2221 : (Jvm.Cond.instanceMethod ({ cls := "SearchHouseModel", name := "spread", desc := "(II)I" } : Jvm.MethodName)) ∈ lw_all := lw_g (lw_at lw_m9 49 rfl) rfl
theorem q2222 : (Jvm.Cond.selects "SearchHouseModel" ({ cls := "SearchHouseModel", name := "spread", desc := "(II)I" } : Jvm.MethodName) ({ cls := "SearchHouseModel", name := "spread", desc := "(II)I" } : Jvm.MethodName)) ∈ lw_all := lw_g (lw_at lw_m9 50 rfl) rfl
theorem q2223 : (Jvm.Cond.code ({ cls := "SearchHouseModel", name := "spread", desc := "(II)I" } : Jvm.MethodName) prog_14_method_72_code (4 : Nat) (Option.some Jvm.ClassFile.FieldType.int)) ∈ lw_all := lw_g (lw_at lw_m9 51 rfl) rfl
theorem q2224 : (Jvm.Cond.fieldLink "SearchHouseModel" (18 : Nat) "SearchHouseModel" "stopped" "Ljava/lang/IllegalStateException;") ∈ lw_all := lw_g (lw_at lw_m9 52 rfl) rfl
theorem q2225 : (Jvm.Cond.fieldLink "SearchHouseModel" (21 : Nat) "SearchHouseModel" "tape" "[B") ∈ lw_all := lw_g (lw_at lw_m9 53 rfl) rfl
theorem q2226 : (Jvm.Cond.fieldLink "SearchHouseModel" (395 : Nat) "SearchHouseModel" "taped" "I") ∈ lw_all := lw_g (lw_at lw_m9 54 rfl) rfl
theorem q2227 : (Jvm.Cond.fieldLink "SearchHouseModel" (398 : Nat) "SearchHouseModel" "analysers" "I") ∈ lw_all := lw_g (lw_at lw_m9 55 rfl) rfl
theorem q2228 : (Jvm.Cond.fieldLink "SearchHouseModel" (25 : Nat) "SearchHouseModel" "folds" "[I") ∈ lw_all := lw_g (lw_at lw_m9 56 rfl) rfl
theorem q2229 : (Jvm.Cond.fieldLink "SearchHouseModel" (29 : Nat) "SearchHouseModel" "stems" "[I") ∈ lw_all := lw_g (lw_at lw_m9 57 rfl) rfl
theorem q2230 : (Jvm.Cond.fieldLink "SearchHouseModel" (32 : Nat) "SearchHouseModel" "grams" "[I") ∈ lw_all := lw_g (lw_at lw_m9 58 rfl) rfl
theorem q2231 : (Jvm.Cond.fieldLink "SearchHouseModel" (35 : Nat) "SearchHouseModel" "stopCounts" "[I") ∈ lw_all := lw_g (lw_at lw_m9 59 rfl) rfl
theorem q2232 : (Jvm.Cond.fieldLink "SearchHouseModel" (38 : Nat) "SearchHouseModel" "synonymCounts" "[I") ∈ lw_all := lw_g (lw_at lw_m9 60 rfl) rfl
theorem q2233 : (Jvm.Cond.fieldLink "SearchHouseModel" (41 : Nat) "SearchHouseModel" "toldBytes" "[B") ∈ lw_all := lw_g (lw_at lw_m9 61 rfl) rfl
theorem q2234 : (Jvm.Cond.fieldLink "SearchHouseModel" (44 : Nat) "SearchHouseModel" "toldSizes" "[I") ∈ lw_all := lw_g (lw_at lw_m9 62 rfl) rfl
theorem q2235 : (Jvm.Cond.fieldLink "SearchHouseModel" (47 : Nat) "SearchHouseModel" "word" "[B") ∈ lw_all := lw_g (lw_at lw_m9 63 rfl) rfl
theorem q2236 : (Jvm.Cond.fieldLink "SearchHouseModel" (439 : Nat) "SearchHouseModel" "length" "I") ∈ lw_all := lw_g (lw_at lw_m9 64 rfl) rfl
theorem q2237 : (Jvm.Cond.fieldLink "SearchHouseModel" (50 : Nat) "SearchHouseModel" "vowels" "[Z") ∈ lw_all := lw_g (lw_at lw_m9 65 rfl) rfl
theorem q2238 : (Jvm.Cond.fieldLink "SearchHouseModel" (54 : Nat) "SearchHouseModel" "tokenBytes" "[B") ∈ lw_all := lw_g (lw_at lw_m9 66 rfl) rfl
theorem q2239 : (Jvm.Cond.fieldLink "SearchHouseModel" (57 : Nat) "SearchHouseModel" "tokenSizes" "[I") ∈ lw_all := lw_g (lw_at lw_m9 67 rfl) rfl
theorem q2240 : (Jvm.Cond.fieldLink "SearchHouseModel" (60 : Nat) "SearchHouseModel" "tokenStarts" "[I") ∈ lw_all := lw_g (lw_at lw_m9 68 rfl) rfl
theorem q2241 : (Jvm.Cond.fieldLink "SearchHouseModel" (63 : Nat) "SearchHouseModel" "tokenEnds" "[I") ∈ lw_all := lw_g (lw_at lw_m9 69 rfl) rfl
theorem q2242 : (Jvm.Cond.fieldLink "SearchHouseModel" (66 : Nat) "SearchHouseModel" "tokenPositions" "[I") ∈ lw_all := lw_g (lw_at lw_m9 70 rfl) rfl
theorem q2243 : (Jvm.Cond.fieldLink "SearchHouseModel" (549 : Nat) "SearchHouseModel" "tokenCount" "I") ∈ lw_all := lw_g (lw_at lw_m9 71 rfl) rfl
theorem q2244 : (Jvm.Cond.fieldLink "SearchHouseModel" (69 : Nat) "SearchHouseModel" "wordBytes" "[B") ∈ lw_all := lw_g (lw_at lw_m9 72 rfl) rfl
theorem q2245 : (Jvm.Cond.fieldLink "SearchHouseModel" (72 : Nat) "SearchHouseModel" "wordSizes" "[I") ∈ lw_all := lw_g (lw_at lw_m9 73 rfl) rfl
theorem q2246 : (Jvm.Cond.fieldLink "SearchHouseModel" (529 : Nat) "SearchHouseModel" "wordTokens" "I") ∈ lw_all := lw_g (lw_at lw_m9 74 rfl) rfl
theorem q2247 : (Jvm.Cond.fieldLink "SearchHouseModel" (75 : Nat) "SearchHouseModel" "plain" "[B") ∈ lw_all := lw_g (lw_at lw_m9 75 rfl) rfl
theorem q2248 : (Jvm.Cond.fieldLink "SearchHouseModel" (562 : Nat) "SearchHouseModel" "shownCount" "I") ∈ lw_all := lw_g (lw_at lw_m9 76 rfl) rfl
theorem q2249 : (Jvm.Cond.fieldLink "SearchHouseModel" (78 : Nat) "SearchHouseModel" "shownTold" "[I") ∈ lw_all := lw_g (lw_at lw_m9 77 rfl) rfl
theorem q2250 : (Jvm.Cond.fieldLink "SearchHouseModel" (81 : Nat) "SearchHouseModel" "shownBytes" "[B") ∈ lw_all := lw_g (lw_at lw_m9 78 rfl) rfl
theorem q2251 : (Jvm.Cond.fieldLink "SearchHouseModel" (565 : Nat) "SearchHouseModel" "fields" "I") ∈ lw_all := lw_g (lw_at lw_m9 79 rfl) rfl
theorem q2252 : (Jvm.Cond.fieldLink "SearchHouseModel" (84 : Nat) "SearchHouseModel" "fieldKinds" "[I") ∈ lw_all := lw_g (lw_at lw_m9 80 rfl) rfl
theorem q2253 : (Jvm.Cond.fieldLink "SearchHouseModel" (87 : Nat) "SearchHouseModel" "fieldAnalysers" "[I") ∈ lw_all := lw_g (lw_at lw_m9 81 rfl) rfl
theorem q2254 : (Jvm.Cond.fieldLink "SearchHouseModel" (571 : Nat) "SearchHouseModel" "values" "I") ∈ lw_all := lw_g (lw_at lw_m9 82 rfl) rfl
theorem q2255 : (Jvm.Cond.fieldLink "SearchHouseModel" (90 : Nat) "SearchHouseModel" "valueFields" "[I") ∈ lw_all := lw_g (lw_at lw_m9 83 rfl) rfl
theorem q2256 : (Jvm.Cond.fieldLink "SearchHouseModel" (93 : Nat) "SearchHouseModel" "valueBytes" "[I") ∈ lw_all := lw_g (lw_at lw_m9 84 rfl) rfl
theorem q2257 : (Jvm.Cond.fieldLink "SearchHouseModel" (96 : Nat) "SearchHouseModel" "valueSizes" "[I") ∈ lw_all := lw_g (lw_at lw_m9 85 rfl) rfl
theorem q2258 : (Jvm.Cond.fieldLink "SearchHouseModel" (99 : Nat) "SearchHouseModel" "valueTokens" "[I") ∈ lw_all := lw_g (lw_at lw_m9 86 rfl) rfl
theorem q2259 : (Jvm.Cond.fieldLink "SearchHouseModel" (102 : Nat) "SearchHouseModel" "longs" "[J") ∈ lw_all := lw_g (lw_at lw_m9 87 rfl) rfl
theorem q2260 : (Jvm.Cond.fieldLink "SearchHouseModel" (106 : Nat) "SearchHouseModel" "numbers" "[I") ∈ lw_all := lw_g (lw_at lw_m9 88 rfl) rfl
theorem q2261 : (Jvm.Cond.fieldLink "SearchHouseModel" (110 : Nat) "SearchHouseModel" "bytes" "[B") ∈ lw_all := lw_g (lw_at lw_m9 89 rfl) rfl
theorem q2262 : (Jvm.Cond.fieldLink "SearchHouseModel" (577 : Nat) "SearchHouseModel" "byteCount" "I") ∈ lw_all := lw_g (lw_at lw_m9 90 rfl) rfl
theorem q2263 : (Jvm.Cond.fieldLink "SearchHouseModel" (114 : Nat) "SearchHouseModel" "terms" "[B") ∈ lw_all := lw_g (lw_at lw_m9 91 rfl) rfl
theorem q2264 : (Jvm.Cond.fieldLink "SearchHouseModel" (117 : Nat) "SearchHouseModel" "termSizes" "[I") ∈ lw_all := lw_g (lw_at lw_m9 92 rfl) rfl
theorem q2265 : (Jvm.Cond.fieldLink "SearchHouseModel" (120 : Nat) "SearchHouseModel" "starts" "[I") ∈ lw_all := lw_g (lw_at lw_m9 93 rfl) rfl
theorem q2266 : (Jvm.Cond.fieldLink "SearchHouseModel" (123 : Nat) "SearchHouseModel" "ends" "[I") ∈ lw_all := lw_g (lw_at lw_m9 94 rfl) rfl
theorem q2267 : (Jvm.Cond.fieldLink "SearchHouseModel" (126 : Nat) "SearchHouseModel" "positions" "[I") ∈ lw_all := lw_g (lw_at lw_m9 95 rfl) rfl
theorem q2268 : (Jvm.Cond.fieldLink "SearchHouseModel" (580 : Nat) "SearchHouseModel" "termCount" "I") ∈ lw_all := lw_g (lw_at lw_m9 96 rfl) rfl
theorem q2269 : (Jvm.Cond.fieldLink "SearchHouseModel" (574 : Nat) "SearchHouseModel" "draftFrom" "I") ∈ lw_all := lw_g (lw_at lw_m9 97 rfl) rfl
theorem q2270 : (Jvm.Cond.fieldLink "SearchHouseModel" (129 : Nat) "SearchHouseModel" "parents" "[I") ∈ lw_all := lw_g (lw_at lw_m9 98 rfl) rfl
theorem q2271 : (Jvm.Cond.fieldLink "SearchHouseModel" (132 : Nat) "SearchHouseModel" "came" "[I") ∈ lw_all := lw_g (lw_at lw_m9 99 rfl) rfl
theorem q2272 : (Jvm.Cond.fieldLink "SearchHouseModel" (135 : Nat) "SearchHouseModel" "gone" "[I") ∈ lw_all := lw_g (lw_at lw_m9 100 rfl) rfl
theorem q2273 : (Jvm.Cond.fieldLink "SearchHouseModel" (138 : Nat) "SearchHouseModel" "held" "[Z") ∈ lw_all := lw_g (lw_at lw_m9 101 rfl) rfl
theorem q2274 : (Jvm.Cond.fieldLink "SearchHouseModel" (141 : Nat) "SearchHouseModel" "firsts" "[I") ∈ lw_all := lw_g (lw_at lw_m9 102 rfl) rfl
theorem q2275 : (Jvm.Cond.fieldLink "SearchHouseModel" (144 : Nat) "SearchHouseModel" "counts" "[I") ∈ lw_all := lw_g (lw_at lw_m9 103 rfl) rfl
theorem q2276 : (Jvm.Cond.fieldLink "SearchHouseModel" (618 : Nat) "SearchHouseModel" "nextObject" "I") ∈ lw_all := lw_g (lw_at lw_m9 104 rfl) rfl
theorem q2277 : (Jvm.Cond.fieldLink "SearchHouseModel" (638 : Nat) "SearchHouseModel" "latest" "I") ∈ lw_all := lw_g (lw_at lw_m9 105 rfl) rfl
theorem q2278 : (Jvm.Cond.fieldLink "SearchHouseModel" (628 : Nat) "SearchHouseModel" "greatest" "I") ∈ lw_all := lw_g (lw_at lw_m9 106 rfl) rfl
theorem q2279 : (Jvm.Cond.fieldLink "SearchHouseModel" (650 : Nat) "SearchHouseModel" "committed" "I") ∈ lw_all := lw_g (lw_at lw_m9 107 rfl) rfl
theorem q2280 : (Jvm.Cond.fieldLink "SearchHouseModel" (147 : Nat) "SearchHouseModel" "pins" "[I") ∈ lw_all := lw_g (lw_at lw_m9 108 rfl) rfl
theorem q2281 : (Jvm.Cond.fieldLink "SearchHouseModel" (666 : Nat) "SearchHouseModel" "shards" "I") ∈ lw_all := lw_g (lw_at lw_m9 109 rfl) rfl
theorem q2282 : (Jvm.Cond.fieldLink "SearchHouseModel" (669 : Nat) "SearchHouseModel" "nodes" "I") ∈ lw_all := lw_g (lw_at lw_m9 110 rfl) rfl
theorem q2283 : (Jvm.Cond.fieldLink "SearchHouseModel" (150 : Nat) "SearchHouseModel" "lost" "[Z") ∈ lw_all := lw_g (lw_at lw_m9 111 rfl) rfl
theorem q2284 : (Jvm.Cond.fieldLink "SearchHouseModel" (153 : Nat) "SearchHouseModel" "asks" "[I") ∈ lw_all := lw_g (lw_at lw_m9 112 rfl) rfl
theorem q2285 : (Jvm.Cond.fieldLink "SearchHouseModel" (681 : Nat) "SearchHouseModel" "user" "I") ∈ lw_all := lw_g (lw_at lw_m9 113 rfl) rfl
theorem q2286 : (Jvm.Cond.fieldLink "SearchHouseModel" (156 : Nat) "SearchHouseModel" "blinds" "[Z") ∈ lw_all := lw_g (lw_at lw_m9 114 rfl) rfl
theorem q2287 : (Jvm.Cond.fieldLink "SearchHouseModel" (159 : Nat) "SearchHouseModel" "inWorld" "[Z") ∈ lw_all := lw_g (lw_at lw_m9 115 rfl) rfl
theorem q2288 : (Jvm.Cond.fieldLink "SearchHouseModel" (162 : Nat) "SearchHouseModel" "seen" "[Z") ∈ lw_all := lw_g (lw_at lw_m9 116 rfl) rfl
theorem q2289 : (Jvm.Cond.fieldLink "SearchHouseModel" (165 : Nat) "SearchHouseModel" "asking" "[B") ∈ lw_all := lw_g (lw_at lw_m9 117 rfl) rfl
theorem q2290 : (Jvm.Cond.fieldLink "SearchHouseModel" (690 : Nat) "SearchHouseModel" "askingSize" "I") ∈ lw_all := lw_g (lw_at lw_m9 118 rfl) rfl
theorem q2291 : (Jvm.Cond.fieldLink "SearchHouseModel" (696 : Nat) "SearchHouseModel" "askingOnes" "I") ∈ lw_all := lw_g (lw_at lw_m9 119 rfl) rfl
theorem q2292 : (Jvm.Cond.fieldLink "SearchHouseModel" (168 : Nat) "SearchHouseModel" "kept" "[B") ∈ lw_all := lw_g (lw_at lw_m9 120 rfl) rfl
theorem q2293 : (Jvm.Cond.fieldLink "SearchHouseModel" (171 : Nat) "SearchHouseModel" "keptSizes" "[I") ∈ lw_all := lw_g (lw_at lw_m9 121 rfl) rfl
theorem q2294 : (Jvm.Cond.fieldLink "SearchHouseModel" (174 : Nat) "SearchHouseModel" "keptOnes" "[I") ∈ lw_all := lw_g (lw_at lw_m9 122 rfl) rfl
theorem q2295 : (Jvm.Cond.fieldLink "SearchHouseModel" (693 : Nat) "SearchHouseModel" "keptCount" "I") ∈ lw_all := lw_g (lw_at lw_m9 123 rfl) rfl
theorem q2296 : (Jvm.Cond.fieldLink "SearchHouseModel" (177 : Nat) "SearchHouseModel" "hidings" "[B") ∈ lw_all := lw_g (lw_at lw_m9 124 rfl) rfl
theorem q2297 : (Jvm.Cond.fieldLink "SearchHouseModel" (180 : Nat) "SearchHouseModel" "hidingSizes" "[I") ∈ lw_all := lw_g (lw_at lw_m9 125 rfl) rfl
theorem q2298 : (Jvm.Cond.fieldLink "SearchHouseModel" (183 : Nat) "SearchHouseModel" "source" "[B") ∈ lw_all := lw_g (lw_at lw_m9 126 rfl) rfl
theorem q2299 : (Jvm.Cond.fieldLink "SearchHouseModel" (704 : Nat) "SearchHouseModel" "base" "I") ∈ lw_all := lw_g (lw_at lw_m9 127 rfl) rfl
theorem q2300 : (Jvm.Cond.fieldLink "SearchHouseModel" (699 : Nat) "SearchHouseModel" "at" "I") ∈ lw_all := lw_g (lw_at lw_m9 128 rfl) rfl
theorem q2301 : (Jvm.Cond.fieldLink "SearchHouseModel" (701 : Nat) "SearchHouseModel" "stop" "I") ∈ lw_all := lw_g (lw_at lw_m9 129 rfl) rfl
theorem q2302 : (Jvm.Cond.fieldLink "SearchHouseModel" (745 : Nat) "SearchHouseModel" "tooMany" "Z") ∈ lw_all := lw_g (lw_at lw_m9 130 rfl) rfl
theorem q2303 : (Jvm.Cond.fieldLink "SearchHouseModel" (742 : Nat) "SearchHouseModel" "ones" "I") ∈ lw_all := lw_g (lw_at lw_m9 131 rfl) rfl
theorem q2304 : (Jvm.Cond.fieldLink "SearchHouseModel" (713 : Nat) "SearchHouseModel" "nodeCount" "I") ∈ lw_all := lw_g (lw_at lw_m9 132 rfl) rfl
theorem q2305 : (Jvm.Cond.fieldLink "SearchHouseModel" (186 : Nat) "SearchHouseModel" "nodeKinds" "[I") ∈ lw_all := lw_g (lw_at lw_m9 133 rfl) rfl
theorem q2306 : (Jvm.Cond.fieldLink "SearchHouseModel" (189 : Nat) "SearchHouseModel" "nodeFirsts" "[I") ∈ lw_all := lw_g (lw_at lw_m9 134 rfl) rfl
theorem q2307 : (Jvm.Cond.fieldLink "SearchHouseModel" (192 : Nat) "SearchHouseModel" "nodeNexts" "[I") ∈ lw_all := lw_g (lw_at lw_m9 135 rfl) rfl
theorem q2308 : (Jvm.Cond.fieldLink "SearchHouseModel" (195 : Nat) "SearchHouseModel" "signs" "[I") ∈ lw_all := lw_g (lw_at lw_m9 136 rfl) rfl
theorem q2309 : (Jvm.Cond.fieldLink "SearchHouseModel" (198 : Nat) "SearchHouseModel" "times" "[J") ∈ lw_all := lw_g (lw_at lw_m9 137 rfl) rfl
theorem q2310 : (Jvm.Cond.fieldLink "SearchHouseModel" (201 : Nat) "SearchHouseModel" "nodeFields" "[I") ∈ lw_all := lw_g (lw_at lw_m9 138 rfl) rfl
theorem q2311 : (Jvm.Cond.fieldLink "SearchHouseModel" (204 : Nat) "SearchHouseModel" "froms" "[I") ∈ lw_all := lw_g (lw_at lw_m9 139 rfl) rfl
theorem q2312 : (Jvm.Cond.fieldLink "SearchHouseModel" (207 : Nat) "SearchHouseModel" "tos" "[I") ∈ lw_all := lw_g (lw_at lw_m9 140 rfl) rfl
theorem q2313 : (Jvm.Cond.fieldLink "SearchHouseModel" (210 : Nat) "SearchHouseModel" "slops" "[I") ∈ lw_all := lw_g (lw_at lw_m9 141 rfl) rfl
theorem q2314 : (Jvm.Cond.fieldLink "SearchHouseModel" (213 : Nat) "SearchHouseModel" "lows" "[J") ∈ lw_all := lw_g (lw_at lw_m9 142 rfl) rfl
theorem q2315 : (Jvm.Cond.fieldLink "SearchHouseModel" (216 : Nat) "SearchHouseModel" "highs" "[J") ∈ lw_all := lw_g (lw_at lw_m9 143 rfl) rfl
theorem q2316 : (Jvm.Cond.fieldLink "SearchHouseModel" (219 : Nat) "SearchHouseModel" "radii" "[J") ∈ lw_all := lw_g (lw_at lw_m9 144 rfl) rfl
theorem q2317 : (Jvm.Cond.fieldLink "SearchHouseModel" (223 : Nat) "SearchHouseModel" "nodeMatches" "[Z") ∈ lw_all := lw_g (lw_at lw_m9 145 rfl) rfl
theorem q2318 : (Jvm.Cond.fieldLink "SearchHouseModel" (226 : Nat) "SearchHouseModel" "nodeScores" "[J") ∈ lw_all := lw_g (lw_at lw_m9 146 rfl) rfl
theorem q2319 : (Jvm.Cond.fieldLink "SearchHouseModel" (229 : Nat) "SearchHouseModel" "nodeCs" "[I") ∈ lw_all := lw_g (lw_at lw_m9 147 rfl) rfl
theorem q2320 : (Jvm.Cond.fieldLink "SearchHouseModel" (232 : Nat) "SearchHouseModel" "matches" "[Z") ∈ lw_all := lw_g (lw_at lw_m9 148 rfl) rfl
theorem q2321 : (Jvm.Cond.fieldLink "SearchHouseModel" (235 : Nat) "SearchHouseModel" "scores" "[J") ∈ lw_all := lw_g (lw_at lw_m9 149 rfl) rfl
theorem q2322 : (Jvm.Cond.fieldLink "SearchHouseModel" (882 : Nat) "SearchHouseModel" "formula" "I") ∈ lw_all := lw_g (lw_at lw_m9 150 rfl) rfl
theorem q2323 : (Jvm.Cond.fieldLink "SearchHouseModel" (238 : Nat) "SearchHouseModel" "pattern" "[B") ∈ lw_all := lw_g (lw_at lw_m9 151 rfl) rfl
theorem q2324 : (Jvm.Cond.fieldLink "SearchHouseModel" (848 : Nat) "SearchHouseModel" "patternSize" "I") ∈ lw_all := lw_g (lw_at lw_m9 152 rfl) rfl
theorem q2325 : (Jvm.Cond.fieldLink "SearchHouseModel" (241 : Nat) "SearchHouseModel" "grid" "[I") ∈ lw_all := lw_g (lw_at lw_m9 153 rfl) rfl
theorem q2326 : (Jvm.Cond.fieldLink "SearchHouseModel" (245 : Nat) "SearchHouseModel" "leafBytes" "[B") ∈ lw_all := lw_g (lw_at lw_m9 154 rfl) rfl
theorem q2327 : (Jvm.Cond.fieldLink "SearchHouseModel" (248 : Nat) "SearchHouseModel" "leafSizes" "[I") ∈ lw_all := lw_g (lw_at lw_m9 155 rfl) rfl
theorem q2328 : (Jvm.Cond.fieldLink "SearchHouseModel" (251 : Nat) "SearchHouseModel" "leafPlaces" "[I") ∈ lw_all := lw_g (lw_at lw_m9 156 rfl) rfl
theorem q2329 : (Jvm.Cond.fieldLink "SearchHouseModel" (797 : Nat) "SearchHouseModel" "pooled" "I") ∈ lw_all := lw_g (lw_at lw_m9 157 rfl) rfl
theorem q2330 : (Jvm.Cond.fieldLink "SearchHouseModel" (254 : Nat) "SearchHouseModel" "poolFroms" "[I") ∈ lw_all := lw_g (lw_at lw_m9 158 rfl) rfl
theorem q2331 : (Jvm.Cond.fieldLink "SearchHouseModel" (257 : Nat) "SearchHouseModel" "poolTos" "[I") ∈ lw_all := lw_g (lw_at lw_m9 159 rfl) rfl
theorem q2332 : (Jvm.Cond.fieldLink "SearchHouseModel" (891 : Nat) "SearchHouseModel" "places" "I") ∈ lw_all := lw_g (lw_at lw_m9 160 rfl) rfl
theorem q2333 : (Jvm.Cond.fieldLink "SearchHouseModel" (260 : Nat) "SearchHouseModel" "placePositions" "[I") ∈ lw_all := lw_g (lw_at lw_m9 161 rfl) rfl
theorem q2334 : (Jvm.Cond.fieldLink "SearchHouseModel" (263 : Nat) "SearchHouseModel" "stands" "[Z") ∈ lw_all := lw_g (lw_at lw_m9 162 rfl) rfl
theorem q2335 : (Jvm.Cond.fieldLink "SearchHouseModel" (266 : Nat) "SearchHouseModel" "taker" "[I") ∈ lw_all := lw_g (lw_at lw_m9 163 rfl) rfl
theorem q2336 : (Jvm.Cond.fieldLink "SearchHouseModel" (269 : Nat) "SearchHouseModel" "tried" "[Z") ∈ lw_all := lw_g (lw_at lw_m9 164 rfl) rfl
theorem q2337 : (Jvm.Cond.fieldLink "SearchHouseModel" (894 : Nat) "SearchHouseModel" "furthest" "I") ∈ lw_all := lw_g (lw_at lw_m9 165 rfl) rfl
theorem q2338 : (Jvm.Cond.fieldLink "SearchHouseModel" (945 : Nat) "SearchHouseModel" "hitSort" "I") ∈ lw_all := lw_g (lw_at lw_m9 166 rfl) rfl
theorem q2339 : (Jvm.Cond.fieldLink "SearchHouseModel" (948 : Nat) "SearchHouseModel" "hitCount" "I") ∈ lw_all := lw_g (lw_at lw_m9 167 rfl) rfl
theorem q2340 : (Jvm.Cond.fieldLink "SearchHouseModel" (272 : Nat) "SearchHouseModel" "hits" "[I") ∈ lw_all := lw_g (lw_at lw_m9 168 rfl) rfl
theorem q2341 : (Jvm.Cond.fieldLink "SearchHouseModel" (275 : Nat) "SearchHouseModel" "hitScores" "[J") ∈ lw_all := lw_g (lw_at lw_m9 169 rfl) rfl
theorem q2342 : (Jvm.Cond.fieldLink "SearchHouseModel" (278 : Nat) "SearchHouseModel" "hitSeen" "[Z") ∈ lw_all := lw_g (lw_at lw_m9 170 rfl) rfl
theorem q2343 : (Jvm.Cond.fieldLink "SearchHouseModel" (281 : Nat) "SearchHouseModel" "hitQuestion" "[B") ∈ lw_all := lw_g (lw_at lw_m9 171 rfl) rfl
theorem q2344 : (Jvm.Cond.fieldLink "SearchHouseModel" (989 : Nat) "SearchHouseModel" "hitQuestionSize" "I") ∈ lw_all := lw_g (lw_at lw_m9 172 rfl) rfl
theorem q2345 : (Jvm.Cond.fieldLink "SearchHouseModel" (284 : Nat) "SearchHouseModel" "hitMatches" "[Z") ∈ lw_all := lw_g (lw_at lw_m9 173 rfl) rfl
theorem q2346 : (Jvm.Cond.fieldLink "SearchHouseModel" (287 : Nat) "SearchHouseModel" "hitNodeScores" "[J") ∈ lw_all := lw_g (lw_at lw_m9 174 rfl) rfl
theorem q2347 : (Jvm.Cond.fieldLink "SearchHouseModel" (290 : Nat) "SearchHouseModel" "hitCs" "[I") ∈ lw_all := lw_g (lw_at lw_m9 175 rfl) rfl
theorem q2348 : (Jvm.Cond.fieldLink "SearchHouseModel" (293 : Nat) "SearchHouseModel" "hitLeafBytes" "[B") ∈ lw_all := lw_g (lw_at lw_m9 176 rfl) rfl
theorem q2349 : (Jvm.Cond.fieldLink "SearchHouseModel" (296 : Nat) "SearchHouseModel" "hitLeafSizes" "[I") ∈ lw_all := lw_g (lw_at lw_m9 177 rfl) rfl
theorem q2350 : (Jvm.Cond.fieldLink "SearchHouseModel" (299 : Nat) "SearchHouseModel" "hitLeafPlaces" "[I") ∈ lw_all := lw_g (lw_at lw_m9 178 rfl) rfl
theorem q2351 : (Jvm.Cond.fieldLink "SearchHouseModel" (302 : Nat) "SearchHouseModel" "hitPlacePositions" "[I") ∈ lw_all := lw_g (lw_at lw_m9 179 rfl) rfl
theorem q2352 : (Jvm.Cond.fieldLink "SearchHouseModel" (305 : Nat) "SearchHouseModel" "nodePlacePositions" "[I") ∈ lw_all := lw_g (lw_at lw_m9 180 rfl) rfl
theorem q2353 : (Jvm.Cond.fieldLink "SearchHouseModel" (308 : Nat) "SearchHouseModel" "hitPoolFroms" "[I") ∈ lw_all := lw_g (lw_at lw_m9 181 rfl) rfl
theorem q2354 : (Jvm.Cond.fieldLink "SearchHouseModel" (311 : Nat) "SearchHouseModel" "hitPoolTos" "[I") ∈ lw_all := lw_g (lw_at lw_m9 182 rfl) rfl
theorem q2355 : (Jvm.Cond.fieldLink "SearchHouseModel" (314 : Nat) "SearchHouseModel" "sortField" "I") ∈ lw_all := lw_g (lw_at lw_m9 183 rfl) rfl
theorem q2356 : (Jvm.Cond.fieldLink "SearchHouseModel" (960 : Nat) "SearchHouseModel" "sortDown" "I") ∈ lw_all := lw_g (lw_at lw_m9 184 rfl) rfl
theorem q2357 : (Jvm.Cond.fieldLink "SearchHouseModel" (951 : Nat) "SearchHouseModel" "lineCount" "I") ∈ lw_all := lw_g (lw_at lw_m9 185 rfl) rfl
theorem q2358 : (Jvm.Cond.fieldLink "SearchHouseModel" (954 : Nat) "SearchHouseModel" "markCount" "I") ∈ lw_all := lw_g (lw_at lw_m9 186 rfl) rfl
theorem q2359 : (Jvm.Cond.fieldLink "SearchHouseModel" (957 : Nat) "SearchHouseModel" "groupCount" "I") ∈ lw_all := lw_g (lw_at lw_m9 187 rfl) rfl
theorem q2360 : (Jvm.Cond.fieldLink "SearchHouseModel" (318 : Nat) "SearchHouseModel" "keys" "[J") ∈ lw_all := lw_g (lw_at lw_m9 188 rfl) rfl
theorem q2361 : (Jvm.Cond.fieldLink "SearchHouseModel" (321 : Nat) "SearchHouseModel" "keyed" "[Z") ∈ lw_all := lw_g (lw_at lw_m9 189 rfl) rfl
theorem q2362 : (Jvm.Cond.fieldLink "SearchHouseModel" (324 : Nat) "SearchHouseModel" "lines" "[J") ∈ lw_all := lw_g (lw_at lw_m9 190 rfl) rfl
theorem q2363 : (Jvm.Cond.fieldLink "SearchHouseModel" (327 : Nat) "SearchHouseModel" "markedTerms" "[Z") ∈ lw_all := lw_g (lw_at lw_m9 191 rfl) rfl
theorem q2364 : (Jvm.Cond.fieldLink "SearchHouseModel" (330 : Nat) "SearchHouseModel" "marks" "[I") ∈ lw_all := lw_g (lw_at lw_m9 192 rfl) rfl
theorem q2365 : (Jvm.Cond.fieldLink "SearchHouseModel" (1025 : Nat) "SearchHouseModel" "facets" "Z") ∈ lw_all := lw_g (lw_at lw_m9 193 rfl) rfl
theorem q2366 : (Jvm.Cond.fieldLink "SearchHouseModel" (333 : Nat) "SearchHouseModel" "groupHits" "[I") ∈ lw_all := lw_g (lw_at lw_m9 194 rfl) rfl
theorem q2367 : (Jvm.Cond.fieldLink "SearchHouseModel" (336 : Nat) "SearchHouseModel" "groupFirsts" "[I") ∈ lw_all := lw_g (lw_at lw_m9 195 rfl) rfl
theorem q2368 : (Jvm.Cond.fieldLink "SearchHouseModel" (339 : Nat) "SearchHouseModel" "groupTerms" "[I") ∈ lw_all := lw_g (lw_at lw_m9 196 rfl) rfl
theorem q2369 : (Jvm.Cond.fieldLink "SearchHouseModel" (342 : Nat) "SearchHouseModel" "groupNumbers" "[J") ∈ lw_all := lw_g (lw_at lw_m9 197 rfl) rfl
theorem q2370 : (Jvm.Cond.fieldLink "SearchHouseModel" (345 : Nat) "SearchHouseModel" "groupLast" "[I") ∈ lw_all := lw_g (lw_at lw_m9 198 rfl) rfl
theorem q2371 : (Jvm.Cond.fieldLink "SearchHouseModel" (349 : Nat) "SearchHouseModel" "slots" "[I") ∈ lw_all := lw_g (lw_at lw_m9 199 rfl) rfl
theorem q2372 : (Jvm.Cond.fieldLink "SearchHouseModel" (1057 : Nat) "SearchHouseModel" "listed" "I") ∈ lw_all := lw_g (lw_at lw_m9 200 rfl) rfl
theorem q2373 : (Jvm.Cond.fieldLink "SearchHouseModel" (352 : Nat) "SearchHouseModel" "listTerms" "[I") ∈ lw_all := lw_g (lw_at lw_m9 201 rfl) rfl
theorem q2374 : (Jvm.Cond.fieldLink "SearchHouseModel" (355 : Nat) "SearchHouseModel" "listCounts" "[I") ∈ lw_all := lw_g (lw_at lw_m9 202 rfl) rfl
theorem q2375 : (Jvm.Cond.fieldLink "SearchHouseModel" (358 : Nat) "SearchHouseModel" "listLast" "[I") ∈ lw_all := lw_g (lw_at lw_m9 203 rfl) rfl
theorem q2376 : (Jvm.Cond.fieldLink "SearchHouseModel" (361 : Nat) "SearchHouseModel" "listWeights" "[I") ∈ lw_all := lw_g (lw_at lw_m9 204 rfl) rfl
theorem q2377 : (Jvm.Cond.fieldLink "SearchHouseModel" (364 : Nat) "SearchHouseModel" "listFields" "[I") ∈ lw_all := lw_g (lw_at lw_m9 205 rfl) rfl
theorem q2378 : (Jvm.Cond.fieldLink "SearchHouseModel" (1066 : Nat) "SearchHouseModel" "found" "I") ∈ lw_all := lw_g (lw_at lw_m9 206 rfl) rfl
theorem q2379 : (Jvm.Cond.fieldLink "SearchHouseModel" (367 : Nat) "SearchHouseModel" "foundBytes" "[B") ∈ lw_all := lw_g (lw_at lw_m9 207 rfl) rfl
theorem q2380 : (Jvm.Cond.fieldLink "SearchHouseModel" (370 : Nat) "SearchHouseModel" "foundTold" "[I") ∈ lw_all := lw_g (lw_at lw_m9 208 rfl) rfl
theorem q2381 : (Jvm.Cond.fieldLink "SearchHouseModel" (373 : Nat) "SearchHouseModel" "foundPlaces" "[I") ∈ lw_all := lw_g (lw_at lw_m9 209 rfl) rfl
theorem q2382 : (Jvm.Cond.fieldLink "SearchHouseModel" (376 : Nat) "SearchHouseModel" "weights" "[J") ∈ lw_all := lw_g (lw_at lw_m9 210 rfl) rfl
theorem q2383 : (Jvm.Cond.fieldLink "SearchHouseModel" (379 : Nat) "SearchHouseModel" "five" "[I") ∈ lw_all := lw_g (lw_at lw_m9 211 rfl) rfl
theorem q2384 : (Jvm.Cond.fieldLink "SearchHouseModel" (1100 : Nat) "SearchHouseModel" "matchedCount" "I") ∈ lw_all := lw_g (lw_at lw_m9 212 rfl) rfl
theorem q2385 : (Jvm.Cond.fieldLink "SearchHouseModel" (382 : Nat) "SearchHouseModel" "matchedOnes" "[I") ∈ lw_all := lw_g (lw_at lw_m9 213 rfl) rfl
theorem q2386 : (Jvm.Cond.fieldLink "SearchHouseModel" (385 : Nat) "SearchHouseModel" "paper" "[B") ∈ lw_all := lw_g (lw_at lw_m9 214 rfl) rfl
theorem q2387 : (Jvm.Cond.fieldLink "SearchHouseModel" (388 : Nat) "SearchHouseModel" "draftPaper" "[B") ∈ lw_all := lw_g (lw_at lw_m9 215 rfl) rfl
theorem q2388 : (Jvm.Cond.fieldLink "SearchHouseModel" (1127 : Nat) "SearchHouseModel" "papered" "I") ∈ lw_all := lw_g (lw_at lw_m9 216 rfl) rfl
theorem q2389 : (Jvm.Cond.fieldLink "SearchHouseModel" (1103 : Nat) "SearchHouseModel" "drafted" "I") ∈ lw_all := lw_g (lw_at lw_m9 217 rfl) rfl
theorem q2390 : (Jvm.Cond.laysFinal "SearchHouseModel" "SearchHouseModel" "stopped" "Ljava/lang/IllegalStateException;") ∈ lw_all := lw_g (lw_at lw_m9 218 rfl) rfl
theorem q2391 : (Jvm.Cond.soleField "SearchHouseModel" "stopped") ∈ lw_all := lw_g (lw_at lw_m9 219 rfl) rfl
theorem q2392 : (Jvm.Cond.laysFinal "SearchHouseModel" "SearchHouseModel" "tape" "[B") ∈ lw_all := lw_g (lw_at lw_m9 220 rfl) rfl
theorem q2393 : (Jvm.Cond.soleField "SearchHouseModel" "tape") ∈ lw_all := lw_g (lw_at lw_m9 221 rfl) rfl
theorem q2394 : (Jvm.Cond.lays "SearchHouseModel" "SearchHouseModel" "taped" "I") ∈ lw_all := lw_g (lw_at lw_m9 222 rfl) rfl
theorem q2395 : (Jvm.Cond.soleField "SearchHouseModel" "taped") ∈ lw_all := lw_g (lw_at lw_m9 223 rfl) rfl
theorem q2396 : (Jvm.Cond.lays "SearchHouseModel" "SearchHouseModel" "analysers" "I") ∈ lw_all := lw_g (lw_at lw_m9 224 rfl) rfl
theorem q2397 : (Jvm.Cond.soleField "SearchHouseModel" "analysers") ∈ lw_all := lw_g (lw_at lw_m9 225 rfl) rfl
theorem q2398 : (Jvm.Cond.laysFinal "SearchHouseModel" "SearchHouseModel" "folds" "[I") ∈ lw_all := lw_g (lw_at lw_m9 226 rfl) rfl
theorem q2399 : (Jvm.Cond.soleField "SearchHouseModel" "folds") ∈ lw_all := lw_g (lw_at lw_m9 227 rfl) rfl
theorem q2400 : (Jvm.Cond.laysFinal "SearchHouseModel" "SearchHouseModel" "stems" "[I") ∈ lw_all := lw_g (lw_at lw_m9 228 rfl) rfl
theorem q2401 : (Jvm.Cond.soleField "SearchHouseModel" "stems") ∈ lw_all := lw_g (lw_at lw_m9 229 rfl) rfl
theorem q2402 : (Jvm.Cond.laysFinal "SearchHouseModel" "SearchHouseModel" "grams" "[I") ∈ lw_all := lw_g (lw_at lw_m9 230 rfl) rfl
theorem q2403 : (Jvm.Cond.soleField "SearchHouseModel" "grams") ∈ lw_all := lw_g (lw_at lw_m9 231 rfl) rfl
theorem q2404 : (Jvm.Cond.laysFinal "SearchHouseModel" "SearchHouseModel" "stopCounts" "[I") ∈ lw_all := lw_g (lw_at lw_m9 232 rfl) rfl
theorem q2405 : (Jvm.Cond.soleField "SearchHouseModel" "stopCounts") ∈ lw_all := lw_g (lw_at lw_m9 233 rfl) rfl
theorem q2406 : (Jvm.Cond.laysFinal "SearchHouseModel" "SearchHouseModel" "synonymCounts" "[I") ∈ lw_all := lw_g (lw_at lw_m9 234 rfl) rfl
theorem q2407 : (Jvm.Cond.soleField "SearchHouseModel" "synonymCounts") ∈ lw_all := lw_g (lw_at lw_m9 235 rfl) rfl
theorem q2408 : (Jvm.Cond.laysFinal "SearchHouseModel" "SearchHouseModel" "toldBytes" "[B") ∈ lw_all := lw_g (lw_at lw_m9 236 rfl) rfl
theorem q2409 : (Jvm.Cond.soleField "SearchHouseModel" "toldBytes") ∈ lw_all := lw_g (lw_at lw_m9 237 rfl) rfl
theorem q2410 : (Jvm.Cond.laysFinal "SearchHouseModel" "SearchHouseModel" "toldSizes" "[I") ∈ lw_all := lw_g (lw_at lw_m9 238 rfl) rfl
theorem q2411 : (Jvm.Cond.soleField "SearchHouseModel" "toldSizes") ∈ lw_all := lw_g (lw_at lw_m9 239 rfl) rfl
theorem q2412 : (Jvm.Cond.laysFinal "SearchHouseModel" "SearchHouseModel" "word" "[B") ∈ lw_all := lw_g (lw_at lw_m10 0 rfl) rfl
theorem q2413 : (Jvm.Cond.soleField "SearchHouseModel" "word") ∈ lw_all := lw_g (lw_at lw_m10 1 rfl) rfl
theorem q2414 : (Jvm.Cond.lays "SearchHouseModel" "SearchHouseModel" "length" "I") ∈ lw_all := lw_g (lw_at lw_m10 2 rfl) rfl
theorem q2415 : (Jvm.Cond.soleField "SearchHouseModel" "length") ∈ lw_all := lw_g (lw_at lw_m10 3 rfl) rfl
theorem q2416 : (Jvm.Cond.laysFinal "SearchHouseModel" "SearchHouseModel" "vowels" "[Z") ∈ lw_all := lw_g (lw_at lw_m10 4 rfl) rfl
theorem q2417 : (Jvm.Cond.soleField "SearchHouseModel" "vowels") ∈ lw_all := lw_g (lw_at lw_m10 5 rfl) rfl
theorem q2418 : (Jvm.Cond.laysFinal "SearchHouseModel" "SearchHouseModel" "tokenBytes" "[B") ∈ lw_all := lw_g (lw_at lw_m10 6 rfl) rfl
theorem q2419 : (Jvm.Cond.soleField "SearchHouseModel" "tokenBytes") ∈ lw_all := lw_g (lw_at lw_m10 7 rfl) rfl
theorem q2420 : (Jvm.Cond.laysFinal "SearchHouseModel" "SearchHouseModel" "tokenSizes" "[I") ∈ lw_all := lw_g (lw_at lw_m10 8 rfl) rfl
theorem q2421 : (Jvm.Cond.soleField "SearchHouseModel" "tokenSizes") ∈ lw_all := lw_g (lw_at lw_m10 9 rfl) rfl
theorem q2422 : (Jvm.Cond.laysFinal "SearchHouseModel" "SearchHouseModel" "tokenStarts" "[I") ∈ lw_all := lw_g (lw_at lw_m10 10 rfl) rfl
theorem q2423 : (Jvm.Cond.soleField "SearchHouseModel" "tokenStarts") ∈ lw_all := lw_g (lw_at lw_m10 11 rfl) rfl
theorem q2424 : (Jvm.Cond.laysFinal "SearchHouseModel" "SearchHouseModel" "tokenEnds" "[I") ∈ lw_all := lw_g (lw_at lw_m10 12 rfl) rfl
theorem q2425 : (Jvm.Cond.soleField "SearchHouseModel" "tokenEnds") ∈ lw_all := lw_g (lw_at lw_m10 13 rfl) rfl
theorem q2426 : (Jvm.Cond.laysFinal "SearchHouseModel" "SearchHouseModel" "tokenPositions" "[I") ∈ lw_all := lw_g (lw_at lw_m10 14 rfl) rfl
theorem q2427 : (Jvm.Cond.soleField "SearchHouseModel" "tokenPositions") ∈ lw_all := lw_g (lw_at lw_m10 15 rfl) rfl
theorem q2428 : (Jvm.Cond.lays "SearchHouseModel" "SearchHouseModel" "tokenCount" "I") ∈ lw_all := lw_g (lw_at lw_m10 16 rfl) rfl
theorem q2429 : (Jvm.Cond.soleField "SearchHouseModel" "tokenCount") ∈ lw_all := lw_g (lw_at lw_m10 17 rfl) rfl
theorem q2430 : (Jvm.Cond.laysFinal "SearchHouseModel" "SearchHouseModel" "wordBytes" "[B") ∈ lw_all := lw_g (lw_at lw_m10 18 rfl) rfl
theorem q2431 : (Jvm.Cond.soleField "SearchHouseModel" "wordBytes") ∈ lw_all := lw_g (lw_at lw_m10 19 rfl) rfl
theorem q2432 : (Jvm.Cond.laysFinal "SearchHouseModel" "SearchHouseModel" "wordSizes" "[I") ∈ lw_all := lw_g (lw_at lw_m10 20 rfl) rfl
theorem q2433 : (Jvm.Cond.soleField "SearchHouseModel" "wordSizes") ∈ lw_all := lw_g (lw_at lw_m10 21 rfl) rfl
theorem q2434 : (Jvm.Cond.lays "SearchHouseModel" "SearchHouseModel" "wordTokens" "I") ∈ lw_all := lw_g (lw_at lw_m10 22 rfl) rfl
theorem q2435 : (Jvm.Cond.soleField "SearchHouseModel" "wordTokens") ∈ lw_all := lw_g (lw_at lw_m10 23 rfl) rfl
theorem q2436 : (Jvm.Cond.laysFinal "SearchHouseModel" "SearchHouseModel" "plain" "[B") ∈ lw_all := lw_g (lw_at lw_m10 24 rfl) rfl
theorem q2437 : (Jvm.Cond.soleField "SearchHouseModel" "plain") ∈ lw_all := lw_g (lw_at lw_m10 25 rfl) rfl
theorem q2438 : (Jvm.Cond.lays "SearchHouseModel" "SearchHouseModel" "shownCount" "I") ∈ lw_all := lw_g (lw_at lw_m10 26 rfl) rfl
theorem q2439 : (Jvm.Cond.soleField "SearchHouseModel" "shownCount") ∈ lw_all := lw_g (lw_at lw_m10 27 rfl) rfl
theorem q2440 : (Jvm.Cond.laysFinal "SearchHouseModel" "SearchHouseModel" "shownTold" "[I") ∈ lw_all := lw_g (lw_at lw_m10 28 rfl) rfl
theorem q2441 : (Jvm.Cond.soleField "SearchHouseModel" "shownTold") ∈ lw_all := lw_g (lw_at lw_m10 29 rfl) rfl
theorem q2442 : (Jvm.Cond.laysFinal "SearchHouseModel" "SearchHouseModel" "shownBytes" "[B") ∈ lw_all := lw_g (lw_at lw_m10 30 rfl) rfl
theorem q2443 : (Jvm.Cond.soleField "SearchHouseModel" "shownBytes") ∈ lw_all := lw_g (lw_at lw_m10 31 rfl) rfl
theorem q2444 : (Jvm.Cond.lays "SearchHouseModel" "SearchHouseModel" "fields" "I") ∈ lw_all := lw_g (lw_at lw_m10 32 rfl) rfl
theorem q2445 : (Jvm.Cond.soleField "SearchHouseModel" "fields") ∈ lw_all := lw_g (lw_at lw_m10 33 rfl) rfl
theorem q2446 : (Jvm.Cond.laysFinal "SearchHouseModel" "SearchHouseModel" "fieldKinds" "[I") ∈ lw_all := lw_g (lw_at lw_m10 34 rfl) rfl
theorem q2447 : (Jvm.Cond.soleField "SearchHouseModel" "fieldKinds") ∈ lw_all := lw_g (lw_at lw_m10 35 rfl) rfl
theorem q2448 : (Jvm.Cond.laysFinal "SearchHouseModel" "SearchHouseModel" "fieldAnalysers" "[I") ∈ lw_all := lw_g (lw_at lw_m10 36 rfl) rfl
theorem q2449 : (Jvm.Cond.soleField "SearchHouseModel" "fieldAnalysers") ∈ lw_all := lw_g (lw_at lw_m10 37 rfl) rfl
theorem q2450 : (Jvm.Cond.lays "SearchHouseModel" "SearchHouseModel" "values" "I") ∈ lw_all := lw_g (lw_at lw_m10 38 rfl) rfl
theorem q2451 : (Jvm.Cond.soleField "SearchHouseModel" "values") ∈ lw_all := lw_g (lw_at lw_m10 39 rfl) rfl
theorem q2452 : (Jvm.Cond.laysFinal "SearchHouseModel" "SearchHouseModel" "valueFields" "[I") ∈ lw_all := lw_g (lw_at lw_m10 40 rfl) rfl
theorem q2453 : (Jvm.Cond.soleField "SearchHouseModel" "valueFields") ∈ lw_all := lw_g (lw_at lw_m10 41 rfl) rfl
theorem q2454 : (Jvm.Cond.laysFinal "SearchHouseModel" "SearchHouseModel" "valueBytes" "[I") ∈ lw_all := lw_g (lw_at lw_m10 42 rfl) rfl
theorem q2455 : (Jvm.Cond.soleField "SearchHouseModel" "valueBytes") ∈ lw_all := lw_g (lw_at lw_m10 43 rfl) rfl
theorem q2456 : (Jvm.Cond.laysFinal "SearchHouseModel" "SearchHouseModel" "valueSizes" "[I") ∈ lw_all := lw_g (lw_at lw_m10 44 rfl) rfl
theorem q2457 : (Jvm.Cond.soleField "SearchHouseModel" "valueSizes") ∈ lw_all := lw_g (lw_at lw_m10 45 rfl) rfl
theorem q2458 : (Jvm.Cond.laysFinal "SearchHouseModel" "SearchHouseModel" "valueTokens" "[I") ∈ lw_all := lw_g (lw_at lw_m10 46 rfl) rfl
theorem q2459 : (Jvm.Cond.soleField "SearchHouseModel" "valueTokens") ∈ lw_all := lw_g (lw_at lw_m10 47 rfl) rfl
theorem q2460 : (Jvm.Cond.laysFinal "SearchHouseModel" "SearchHouseModel" "longs" "[J") ∈ lw_all := lw_g (lw_at lw_m10 48 rfl) rfl
theorem q2461 : (Jvm.Cond.soleField "SearchHouseModel" "longs") ∈ lw_all := lw_g (lw_at lw_m10 49 rfl) rfl
theorem q2462 : (Jvm.Cond.laysFinal "SearchHouseModel" "SearchHouseModel" "numbers" "[I") ∈ lw_all := lw_g (lw_at lw_m10 50 rfl) rfl
theorem q2463 : (Jvm.Cond.soleField "SearchHouseModel" "numbers") ∈ lw_all := lw_g (lw_at lw_m10 51 rfl) rfl
theorem q2464 : (Jvm.Cond.laysFinal "SearchHouseModel" "SearchHouseModel" "bytes" "[B") ∈ lw_all := lw_g (lw_at lw_m10 52 rfl) rfl
theorem q2465 : (Jvm.Cond.soleField "SearchHouseModel" "bytes") ∈ lw_all := lw_g (lw_at lw_m10 53 rfl) rfl
theorem q2466 : (Jvm.Cond.lays "SearchHouseModel" "SearchHouseModel" "byteCount" "I") ∈ lw_all := lw_g (lw_at lw_m10 54 rfl) rfl
theorem q2467 : (Jvm.Cond.soleField "SearchHouseModel" "byteCount") ∈ lw_all := lw_g (lw_at lw_m10 55 rfl) rfl
theorem q2468 : (Jvm.Cond.laysFinal "SearchHouseModel" "SearchHouseModel" "terms" "[B") ∈ lw_all := lw_g (lw_at lw_m10 56 rfl) rfl
theorem q2469 : (Jvm.Cond.soleField "SearchHouseModel" "terms") ∈ lw_all := lw_g (lw_at lw_m10 57 rfl) rfl
theorem q2470 : (Jvm.Cond.laysFinal "SearchHouseModel" "SearchHouseModel" "termSizes" "[I") ∈ lw_all := lw_g (lw_at lw_m10 58 rfl) rfl
theorem q2471 : (Jvm.Cond.soleField "SearchHouseModel" "termSizes") ∈ lw_all := lw_g (lw_at lw_m10 59 rfl) rfl
theorem q2472 : (Jvm.Cond.laysFinal "SearchHouseModel" "SearchHouseModel" "starts" "[I") ∈ lw_all := lw_g (lw_at lw_m10 60 rfl) rfl
theorem q2473 : (Jvm.Cond.soleField "SearchHouseModel" "starts") ∈ lw_all := lw_g (lw_at lw_m10 61 rfl) rfl
theorem q2474 : (Jvm.Cond.laysFinal "SearchHouseModel" "SearchHouseModel" "ends" "[I") ∈ lw_all := lw_g (lw_at lw_m10 62 rfl) rfl
theorem q2475 : (Jvm.Cond.soleField "SearchHouseModel" "ends") ∈ lw_all := lw_g (lw_at lw_m10 63 rfl) rfl
theorem q2476 : (Jvm.Cond.laysFinal "SearchHouseModel" "SearchHouseModel" "positions" "[I") ∈ lw_all := lw_g (lw_at lw_m10 64 rfl) rfl
theorem q2477 : (Jvm.Cond.soleField "SearchHouseModel" "positions") ∈ lw_all := lw_g (lw_at lw_m10 65 rfl) rfl
theorem q2478 : (Jvm.Cond.lays "SearchHouseModel" "SearchHouseModel" "termCount" "I") ∈ lw_all := lw_g (lw_at lw_m10 66 rfl) rfl
theorem q2479 : (Jvm.Cond.soleField "SearchHouseModel" "termCount") ∈ lw_all := lw_g (lw_at lw_m10 67 rfl) rfl
theorem q2480 : (Jvm.Cond.lays "SearchHouseModel" "SearchHouseModel" "draftFrom" "I") ∈ lw_all := lw_g (lw_at lw_m10 68 rfl) rfl
theorem q2481 : (Jvm.Cond.soleField "SearchHouseModel" "draftFrom") ∈ lw_all := lw_g (lw_at lw_m10 69 rfl) rfl
theorem q2482 : (Jvm.Cond.laysFinal "SearchHouseModel" "SearchHouseModel" "parents" "[I") ∈ lw_all := lw_g (lw_at lw_m10 70 rfl) rfl
theorem q2483 : (Jvm.Cond.soleField "SearchHouseModel" "parents") ∈ lw_all := lw_g (lw_at lw_m10 71 rfl) rfl
theorem q2484 : (Jvm.Cond.laysFinal "SearchHouseModel" "SearchHouseModel" "came" "[I") ∈ lw_all := lw_g (lw_at lw_m10 72 rfl) rfl
theorem q2485 : (Jvm.Cond.soleField "SearchHouseModel" "came") ∈ lw_all := lw_g (lw_at lw_m10 73 rfl) rfl
theorem q2486 : (Jvm.Cond.laysFinal "SearchHouseModel" "SearchHouseModel" "gone" "[I") ∈ lw_all := lw_g (lw_at lw_m10 74 rfl) rfl
theorem q2487 : (Jvm.Cond.soleField "SearchHouseModel" "gone") ∈ lw_all := lw_g (lw_at lw_m10 75 rfl) rfl
theorem q2488 : (Jvm.Cond.laysFinal "SearchHouseModel" "SearchHouseModel" "held" "[Z") ∈ lw_all := lw_g (lw_at lw_m10 76 rfl) rfl
theorem q2489 : (Jvm.Cond.soleField "SearchHouseModel" "held") ∈ lw_all := lw_g (lw_at lw_m10 77 rfl) rfl
theorem q2490 : (Jvm.Cond.laysFinal "SearchHouseModel" "SearchHouseModel" "firsts" "[I") ∈ lw_all := lw_g (lw_at lw_m10 78 rfl) rfl
theorem q2491 : (Jvm.Cond.soleField "SearchHouseModel" "firsts") ∈ lw_all := lw_g (lw_at lw_m10 79 rfl) rfl
theorem q2492 : (Jvm.Cond.laysFinal "SearchHouseModel" "SearchHouseModel" "counts" "[I") ∈ lw_all := lw_g (lw_at lw_m10 80 rfl) rfl
theorem q2493 : (Jvm.Cond.soleField "SearchHouseModel" "counts") ∈ lw_all := lw_g (lw_at lw_m10 81 rfl) rfl
theorem q2494 : (Jvm.Cond.lays "SearchHouseModel" "SearchHouseModel" "nextObject" "I") ∈ lw_all := lw_g (lw_at lw_m10 82 rfl) rfl
theorem q2495 : (Jvm.Cond.soleField "SearchHouseModel" "nextObject") ∈ lw_all := lw_g (lw_at lw_m10 83 rfl) rfl
theorem q2496 : (Jvm.Cond.lays "SearchHouseModel" "SearchHouseModel" "latest" "I") ∈ lw_all := lw_g (lw_at lw_m10 84 rfl) rfl
theorem q2497 : (Jvm.Cond.soleField "SearchHouseModel" "latest") ∈ lw_all := lw_g (lw_at lw_m10 85 rfl) rfl
theorem q2498 : (Jvm.Cond.lays "SearchHouseModel" "SearchHouseModel" "greatest" "I") ∈ lw_all := lw_g (lw_at lw_m10 86 rfl) rfl
theorem q2499 : (Jvm.Cond.soleField "SearchHouseModel" "greatest") ∈ lw_all := lw_g (lw_at lw_m10 87 rfl) rfl
theorem q2500 : (Jvm.Cond.lays "SearchHouseModel" "SearchHouseModel" "committed" "I") ∈ lw_all := lw_g (lw_at lw_m10 88 rfl) rfl
theorem q2501 : (Jvm.Cond.soleField "SearchHouseModel" "committed") ∈ lw_all := lw_g (lw_at lw_m10 89 rfl) rfl
theorem q2502 : (Jvm.Cond.laysFinal "SearchHouseModel" "SearchHouseModel" "pins" "[I") ∈ lw_all := lw_g (lw_at lw_m10 90 rfl) rfl
theorem q2503 : (Jvm.Cond.soleField "SearchHouseModel" "pins") ∈ lw_all := lw_g (lw_at lw_m10 91 rfl) rfl
theorem q2504 : (Jvm.Cond.lays "SearchHouseModel" "SearchHouseModel" "shards" "I") ∈ lw_all := lw_g (lw_at lw_m10 92 rfl) rfl
theorem q2505 : (Jvm.Cond.soleField "SearchHouseModel" "shards") ∈ lw_all := lw_g (lw_at lw_m10 93 rfl) rfl
theorem q2506 : (Jvm.Cond.lays "SearchHouseModel" "SearchHouseModel" "nodes" "I") ∈ lw_all := lw_g (lw_at lw_m10 94 rfl) rfl
theorem q2507 : (Jvm.Cond.soleField "SearchHouseModel" "nodes") ∈ lw_all := lw_g (lw_at lw_m10 95 rfl) rfl
theorem q2508 : (Jvm.Cond.laysFinal "SearchHouseModel" "SearchHouseModel" "lost" "[Z") ∈ lw_all := lw_g (lw_at lw_m10 96 rfl) rfl
theorem q2509 : (Jvm.Cond.soleField "SearchHouseModel" "lost") ∈ lw_all := lw_g (lw_at lw_m10 97 rfl) rfl
theorem q2510 : (Jvm.Cond.laysFinal "SearchHouseModel" "SearchHouseModel" "asks" "[I") ∈ lw_all := lw_g (lw_at lw_m10 98 rfl) rfl
theorem q2511 : (Jvm.Cond.soleField "SearchHouseModel" "asks") ∈ lw_all := lw_g (lw_at lw_m10 99 rfl) rfl
theorem q2512 : (Jvm.Cond.lays "SearchHouseModel" "SearchHouseModel" "user" "I") ∈ lw_all := lw_g (lw_at lw_m10 100 rfl) rfl
theorem q2513 : (Jvm.Cond.soleField "SearchHouseModel" "user") ∈ lw_all := lw_g (lw_at lw_m10 101 rfl) rfl
theorem q2514 : (Jvm.Cond.laysFinal "SearchHouseModel" "SearchHouseModel" "blinds" "[Z") ∈ lw_all := lw_g (lw_at lw_m10 102 rfl) rfl
theorem q2515 : (Jvm.Cond.soleField "SearchHouseModel" "blinds") ∈ lw_all := lw_g (lw_at lw_m10 103 rfl) rfl
theorem q2516 : (Jvm.Cond.laysFinal "SearchHouseModel" "SearchHouseModel" "inWorld" "[Z") ∈ lw_all := lw_g (lw_at lw_m10 104 rfl) rfl
theorem q2517 : (Jvm.Cond.soleField "SearchHouseModel" "inWorld") ∈ lw_all := lw_g (lw_at lw_m10 105 rfl) rfl
theorem q2518 : (Jvm.Cond.laysFinal "SearchHouseModel" "SearchHouseModel" "seen" "[Z") ∈ lw_all := lw_g (lw_at lw_m10 106 rfl) rfl
theorem q2519 : (Jvm.Cond.soleField "SearchHouseModel" "seen") ∈ lw_all := lw_g (lw_at lw_m10 107 rfl) rfl
theorem q2520 : (Jvm.Cond.laysFinal "SearchHouseModel" "SearchHouseModel" "asking" "[B") ∈ lw_all := lw_g (lw_at lw_m10 108 rfl) rfl
theorem q2521 : (Jvm.Cond.soleField "SearchHouseModel" "asking") ∈ lw_all := lw_g (lw_at lw_m10 109 rfl) rfl
theorem q2522 : (Jvm.Cond.lays "SearchHouseModel" "SearchHouseModel" "askingSize" "I") ∈ lw_all := lw_g (lw_at lw_m10 110 rfl) rfl
theorem q2523 : (Jvm.Cond.soleField "SearchHouseModel" "askingSize") ∈ lw_all := lw_g (lw_at lw_m10 111 rfl) rfl
theorem q2524 : (Jvm.Cond.lays "SearchHouseModel" "SearchHouseModel" "askingOnes" "I") ∈ lw_all := lw_g (lw_at lw_m10 112 rfl) rfl
theorem q2525 : (Jvm.Cond.soleField "SearchHouseModel" "askingOnes") ∈ lw_all := lw_g (lw_at lw_m10 113 rfl) rfl
theorem q2526 : (Jvm.Cond.laysFinal "SearchHouseModel" "SearchHouseModel" "kept" "[B") ∈ lw_all := lw_g (lw_at lw_m10 114 rfl) rfl
theorem q2527 : (Jvm.Cond.soleField "SearchHouseModel" "kept") ∈ lw_all := lw_g (lw_at lw_m10 115 rfl) rfl
theorem q2528 : (Jvm.Cond.laysFinal "SearchHouseModel" "SearchHouseModel" "keptSizes" "[I") ∈ lw_all := lw_g (lw_at lw_m10 116 rfl) rfl
theorem q2529 : (Jvm.Cond.soleField "SearchHouseModel" "keptSizes") ∈ lw_all := lw_g (lw_at lw_m10 117 rfl) rfl
theorem q2530 : (Jvm.Cond.laysFinal "SearchHouseModel" "SearchHouseModel" "keptOnes" "[I") ∈ lw_all := lw_g (lw_at lw_m10 118 rfl) rfl
theorem q2531 : (Jvm.Cond.soleField "SearchHouseModel" "keptOnes") ∈ lw_all := lw_g (lw_at lw_m10 119 rfl) rfl
theorem q2532 : (Jvm.Cond.lays "SearchHouseModel" "SearchHouseModel" "keptCount" "I") ∈ lw_all := lw_g (lw_at lw_m10 120 rfl) rfl
theorem q2533 : (Jvm.Cond.soleField "SearchHouseModel" "keptCount") ∈ lw_all := lw_g (lw_at lw_m10 121 rfl) rfl
theorem q2534 : (Jvm.Cond.laysFinal "SearchHouseModel" "SearchHouseModel" "hidings" "[B") ∈ lw_all := lw_g (lw_at lw_m10 122 rfl) rfl
theorem q2535 : (Jvm.Cond.soleField "SearchHouseModel" "hidings") ∈ lw_all := lw_g (lw_at lw_m10 123 rfl) rfl
theorem q2536 : (Jvm.Cond.laysFinal "SearchHouseModel" "SearchHouseModel" "hidingSizes" "[I") ∈ lw_all := lw_g (lw_at lw_m10 124 rfl) rfl
theorem q2537 : (Jvm.Cond.soleField "SearchHouseModel" "hidingSizes") ∈ lw_all := lw_g (lw_at lw_m10 125 rfl) rfl
theorem q2538 : (Jvm.Cond.lays "SearchHouseModel" "SearchHouseModel" "source" "[B") ∈ lw_all := lw_g (lw_at lw_m10 126 rfl) rfl
theorem q2539 : (Jvm.Cond.soleField "SearchHouseModel" "source") ∈ lw_all := lw_g (lw_at lw_m10 127 rfl) rfl
theorem q2540 : (Jvm.Cond.lays "SearchHouseModel" "SearchHouseModel" "base" "I") ∈ lw_all := lw_g (lw_at lw_m10 128 rfl) rfl
theorem q2541 : (Jvm.Cond.soleField "SearchHouseModel" "base") ∈ lw_all := lw_g (lw_at lw_m10 129 rfl) rfl
theorem q2542 : (Jvm.Cond.lays "SearchHouseModel" "SearchHouseModel" "at" "I") ∈ lw_all := lw_g (lw_at lw_m10 130 rfl) rfl
theorem q2543 : (Jvm.Cond.soleField "SearchHouseModel" "at") ∈ lw_all := lw_g (lw_at lw_m10 131 rfl) rfl
theorem q2544 : (Jvm.Cond.lays "SearchHouseModel" "SearchHouseModel" "stop" "I") ∈ lw_all := lw_g (lw_at lw_m10 132 rfl) rfl
theorem q2545 : (Jvm.Cond.soleField "SearchHouseModel" "stop") ∈ lw_all := lw_g (lw_at lw_m10 133 rfl) rfl
theorem q2546 : (Jvm.Cond.lays "SearchHouseModel" "SearchHouseModel" "tooMany" "Z") ∈ lw_all := lw_g (lw_at lw_m10 134 rfl) rfl
theorem q2547 : (Jvm.Cond.soleField "SearchHouseModel" "tooMany") ∈ lw_all := lw_g (lw_at lw_m10 135 rfl) rfl
theorem q2548 : (Jvm.Cond.lays "SearchHouseModel" "SearchHouseModel" "ones" "I") ∈ lw_all := lw_g (lw_at lw_m10 136 rfl) rfl
theorem q2549 : (Jvm.Cond.soleField "SearchHouseModel" "ones") ∈ lw_all := lw_g (lw_at lw_m10 137 rfl) rfl
theorem q2550 : (Jvm.Cond.lays "SearchHouseModel" "SearchHouseModel" "nodeCount" "I") ∈ lw_all := lw_g (lw_at lw_m10 138 rfl) rfl
theorem q2551 : (Jvm.Cond.soleField "SearchHouseModel" "nodeCount") ∈ lw_all := lw_g (lw_at lw_m10 139 rfl) rfl
theorem q2552 : (Jvm.Cond.laysFinal "SearchHouseModel" "SearchHouseModel" "nodeKinds" "[I") ∈ lw_all := lw_g (lw_at lw_m10 140 rfl) rfl
theorem q2553 : (Jvm.Cond.soleField "SearchHouseModel" "nodeKinds") ∈ lw_all := lw_g (lw_at lw_m10 141 rfl) rfl
theorem q2554 : (Jvm.Cond.laysFinal "SearchHouseModel" "SearchHouseModel" "nodeFirsts" "[I") ∈ lw_all := lw_g (lw_at lw_m10 142 rfl) rfl
theorem q2555 : (Jvm.Cond.soleField "SearchHouseModel" "nodeFirsts") ∈ lw_all := lw_g (lw_at lw_m10 143 rfl) rfl
theorem q2556 : (Jvm.Cond.laysFinal "SearchHouseModel" "SearchHouseModel" "nodeNexts" "[I") ∈ lw_all := lw_g (lw_at lw_m10 144 rfl) rfl
theorem q2557 : (Jvm.Cond.soleField "SearchHouseModel" "nodeNexts") ∈ lw_all := lw_g (lw_at lw_m10 145 rfl) rfl
theorem q2558 : (Jvm.Cond.laysFinal "SearchHouseModel" "SearchHouseModel" "signs" "[I") ∈ lw_all := lw_g (lw_at lw_m10 146 rfl) rfl
theorem q2559 : (Jvm.Cond.soleField "SearchHouseModel" "signs") ∈ lw_all := lw_g (lw_at lw_m10 147 rfl) rfl
theorem q2560 : (Jvm.Cond.laysFinal "SearchHouseModel" "SearchHouseModel" "times" "[J") ∈ lw_all := lw_g (lw_at lw_m10 148 rfl) rfl
theorem q2561 : (Jvm.Cond.soleField "SearchHouseModel" "times") ∈ lw_all := lw_g (lw_at lw_m10 149 rfl) rfl
theorem q2562 : (Jvm.Cond.laysFinal "SearchHouseModel" "SearchHouseModel" "nodeFields" "[I") ∈ lw_all := lw_g (lw_at lw_m10 150 rfl) rfl
theorem q2563 : (Jvm.Cond.soleField "SearchHouseModel" "nodeFields") ∈ lw_all := lw_g (lw_at lw_m10 151 rfl) rfl
theorem q2564 : (Jvm.Cond.laysFinal "SearchHouseModel" "SearchHouseModel" "froms" "[I") ∈ lw_all := lw_g (lw_at lw_m10 152 rfl) rfl
theorem q2565 : (Jvm.Cond.soleField "SearchHouseModel" "froms") ∈ lw_all := lw_g (lw_at lw_m10 153 rfl) rfl
theorem q2566 : (Jvm.Cond.laysFinal "SearchHouseModel" "SearchHouseModel" "tos" "[I") ∈ lw_all := lw_g (lw_at lw_m10 154 rfl) rfl
theorem q2567 : (Jvm.Cond.soleField "SearchHouseModel" "tos") ∈ lw_all := lw_g (lw_at lw_m10 155 rfl) rfl
theorem q2568 : (Jvm.Cond.laysFinal "SearchHouseModel" "SearchHouseModel" "slops" "[I") ∈ lw_all := lw_g (lw_at lw_m10 156 rfl) rfl
theorem q2569 : (Jvm.Cond.soleField "SearchHouseModel" "slops") ∈ lw_all := lw_g (lw_at lw_m10 157 rfl) rfl
theorem q2570 : (Jvm.Cond.laysFinal "SearchHouseModel" "SearchHouseModel" "lows" "[J") ∈ lw_all := lw_g (lw_at lw_m10 158 rfl) rfl
theorem q2571 : (Jvm.Cond.soleField "SearchHouseModel" "lows") ∈ lw_all := lw_g (lw_at lw_m10 159 rfl) rfl
theorem q2572 : (Jvm.Cond.laysFinal "SearchHouseModel" "SearchHouseModel" "highs" "[J") ∈ lw_all := lw_g (lw_at lw_m10 160 rfl) rfl
theorem q2573 : (Jvm.Cond.soleField "SearchHouseModel" "highs") ∈ lw_all := lw_g (lw_at lw_m10 161 rfl) rfl
theorem q2574 : (Jvm.Cond.laysFinal "SearchHouseModel" "SearchHouseModel" "radii" "[J") ∈ lw_all := lw_g (lw_at lw_m10 162 rfl) rfl
theorem q2575 : (Jvm.Cond.soleField "SearchHouseModel" "radii") ∈ lw_all := lw_g (lw_at lw_m10 163 rfl) rfl
theorem q2576 : (Jvm.Cond.laysFinal "SearchHouseModel" "SearchHouseModel" "nodeMatches" "[Z") ∈ lw_all := lw_g (lw_at lw_m10 164 rfl) rfl
theorem q2577 : (Jvm.Cond.soleField "SearchHouseModel" "nodeMatches") ∈ lw_all := lw_g (lw_at lw_m10 165 rfl) rfl
theorem q2578 : (Jvm.Cond.laysFinal "SearchHouseModel" "SearchHouseModel" "nodeScores" "[J") ∈ lw_all := lw_g (lw_at lw_m10 166 rfl) rfl
theorem q2579 : (Jvm.Cond.soleField "SearchHouseModel" "nodeScores") ∈ lw_all := lw_g (lw_at lw_m10 167 rfl) rfl
theorem q2580 : (Jvm.Cond.laysFinal "SearchHouseModel" "SearchHouseModel" "nodeCs" "[I") ∈ lw_all := lw_g (lw_at lw_m10 168 rfl) rfl
theorem q2581 : (Jvm.Cond.soleField "SearchHouseModel" "nodeCs") ∈ lw_all := lw_g (lw_at lw_m10 169 rfl) rfl
theorem q2582 : (Jvm.Cond.laysFinal "SearchHouseModel" "SearchHouseModel" "matches" "[Z") ∈ lw_all := lw_g (lw_at lw_m10 170 rfl) rfl
theorem q2583 : (Jvm.Cond.soleField "SearchHouseModel" "matches") ∈ lw_all := lw_g (lw_at lw_m10 171 rfl) rfl
theorem q2584 : (Jvm.Cond.laysFinal "SearchHouseModel" "SearchHouseModel" "scores" "[J") ∈ lw_all := lw_g (lw_at lw_m10 172 rfl) rfl
theorem q2585 : (Jvm.Cond.soleField "SearchHouseModel" "scores") ∈ lw_all := lw_g (lw_at lw_m10 173 rfl) rfl
theorem q2586 : (Jvm.Cond.lays "SearchHouseModel" "SearchHouseModel" "formula" "I") ∈ lw_all := lw_g (lw_at lw_m10 174 rfl) rfl
theorem q2587 : (Jvm.Cond.soleField "SearchHouseModel" "formula") ∈ lw_all := lw_g (lw_at lw_m10 175 rfl) rfl
theorem q2588 : (Jvm.Cond.laysFinal "SearchHouseModel" "SearchHouseModel" "pattern" "[B") ∈ lw_all := lw_g (lw_at lw_m10 176 rfl) rfl
theorem q2589 : (Jvm.Cond.soleField "SearchHouseModel" "pattern") ∈ lw_all := lw_g (lw_at lw_m10 177 rfl) rfl
theorem q2590 : (Jvm.Cond.lays "SearchHouseModel" "SearchHouseModel" "patternSize" "I") ∈ lw_all := lw_g (lw_at lw_m10 178 rfl) rfl
theorem q2591 : (Jvm.Cond.soleField "SearchHouseModel" "patternSize") ∈ lw_all := lw_g (lw_at lw_m10 179 rfl) rfl
theorem q2592 : (Jvm.Cond.laysFinal "SearchHouseModel" "SearchHouseModel" "grid" "[I") ∈ lw_all := lw_g (lw_at lw_m10 180 rfl) rfl
theorem q2593 : (Jvm.Cond.soleField "SearchHouseModel" "grid") ∈ lw_all := lw_g (lw_at lw_m10 181 rfl) rfl
theorem q2594 : (Jvm.Cond.laysFinal "SearchHouseModel" "SearchHouseModel" "leafBytes" "[B") ∈ lw_all := lw_g (lw_at lw_m10 182 rfl) rfl
theorem q2595 : (Jvm.Cond.soleField "SearchHouseModel" "leafBytes") ∈ lw_all := lw_g (lw_at lw_m10 183 rfl) rfl
theorem q2596 : (Jvm.Cond.laysFinal "SearchHouseModel" "SearchHouseModel" "leafSizes" "[I") ∈ lw_all := lw_g (lw_at lw_m10 184 rfl) rfl
theorem q2597 : (Jvm.Cond.soleField "SearchHouseModel" "leafSizes") ∈ lw_all := lw_g (lw_at lw_m10 185 rfl) rfl
theorem q2598 : (Jvm.Cond.laysFinal "SearchHouseModel" "SearchHouseModel" "leafPlaces" "[I") ∈ lw_all := lw_g (lw_at lw_m10 186 rfl) rfl
theorem q2599 : (Jvm.Cond.soleField "SearchHouseModel" "leafPlaces") ∈ lw_all := lw_g (lw_at lw_m10 187 rfl) rfl
theorem q2600 : (Jvm.Cond.lays "SearchHouseModel" "SearchHouseModel" "pooled" "I") ∈ lw_all := lw_g (lw_at lw_m10 188 rfl) rfl
theorem q2601 : (Jvm.Cond.soleField "SearchHouseModel" "pooled") ∈ lw_all := lw_g (lw_at lw_m10 189 rfl) rfl
theorem q2602 : (Jvm.Cond.laysFinal "SearchHouseModel" "SearchHouseModel" "poolFroms" "[I") ∈ lw_all := lw_g (lw_at lw_m10 190 rfl) rfl
theorem q2603 : (Jvm.Cond.soleField "SearchHouseModel" "poolFroms") ∈ lw_all := lw_g (lw_at lw_m10 191 rfl) rfl
theorem q2604 : (Jvm.Cond.laysFinal "SearchHouseModel" "SearchHouseModel" "poolTos" "[I") ∈ lw_all := lw_g (lw_at lw_m10 192 rfl) rfl
theorem q2605 : (Jvm.Cond.soleField "SearchHouseModel" "poolTos") ∈ lw_all := lw_g (lw_at lw_m10 193 rfl) rfl
theorem q2606 : (Jvm.Cond.lays "SearchHouseModel" "SearchHouseModel" "places" "I") ∈ lw_all := lw_g (lw_at lw_m10 194 rfl) rfl
theorem q2607 : (Jvm.Cond.soleField "SearchHouseModel" "places") ∈ lw_all := lw_g (lw_at lw_m10 195 rfl) rfl
theorem q2608 : (Jvm.Cond.laysFinal "SearchHouseModel" "SearchHouseModel" "placePositions" "[I") ∈ lw_all := lw_g (lw_at lw_m10 196 rfl) rfl
theorem q2609 : (Jvm.Cond.soleField "SearchHouseModel" "placePositions") ∈ lw_all := lw_g (lw_at lw_m10 197 rfl) rfl
theorem q2610 : (Jvm.Cond.laysFinal "SearchHouseModel" "SearchHouseModel" "stands" "[Z") ∈ lw_all := lw_g (lw_at lw_m10 198 rfl) rfl
theorem q2611 : (Jvm.Cond.soleField "SearchHouseModel" "stands") ∈ lw_all := lw_g (lw_at lw_m10 199 rfl) rfl
theorem q2612 : (Jvm.Cond.laysFinal "SearchHouseModel" "SearchHouseModel" "taker" "[I") ∈ lw_all := lw_g (lw_at lw_m10 200 rfl) rfl
theorem q2613 : (Jvm.Cond.soleField "SearchHouseModel" "taker") ∈ lw_all := lw_g (lw_at lw_m10 201 rfl) rfl
theorem q2614 : (Jvm.Cond.laysFinal "SearchHouseModel" "SearchHouseModel" "tried" "[Z") ∈ lw_all := lw_g (lw_at lw_m10 202 rfl) rfl
theorem q2615 : (Jvm.Cond.soleField "SearchHouseModel" "tried") ∈ lw_all := lw_g (lw_at lw_m10 203 rfl) rfl
theorem q2616 : (Jvm.Cond.lays "SearchHouseModel" "SearchHouseModel" "furthest" "I") ∈ lw_all := lw_g (lw_at lw_m10 204 rfl) rfl
theorem q2617 : (Jvm.Cond.soleField "SearchHouseModel" "furthest") ∈ lw_all := lw_g (lw_at lw_m10 205 rfl) rfl
theorem q2618 : (Jvm.Cond.lays "SearchHouseModel" "SearchHouseModel" "hitSort" "I") ∈ lw_all := lw_g (lw_at lw_m10 206 rfl) rfl
theorem q2619 : (Jvm.Cond.soleField "SearchHouseModel" "hitSort") ∈ lw_all := lw_g (lw_at lw_m10 207 rfl) rfl
theorem q2620 : (Jvm.Cond.lays "SearchHouseModel" "SearchHouseModel" "hitCount" "I") ∈ lw_all := lw_g (lw_at lw_m10 208 rfl) rfl
theorem q2621 : (Jvm.Cond.soleField "SearchHouseModel" "hitCount") ∈ lw_all := lw_g (lw_at lw_m10 209 rfl) rfl
theorem q2622 : (Jvm.Cond.laysFinal "SearchHouseModel" "SearchHouseModel" "hits" "[I") ∈ lw_all := lw_g (lw_at lw_m10 210 rfl) rfl
theorem q2623 : (Jvm.Cond.soleField "SearchHouseModel" "hits") ∈ lw_all := lw_g (lw_at lw_m10 211 rfl) rfl
theorem q2624 : (Jvm.Cond.laysFinal "SearchHouseModel" "SearchHouseModel" "hitScores" "[J") ∈ lw_all := lw_g (lw_at lw_m10 212 rfl) rfl
theorem q2625 : (Jvm.Cond.soleField "SearchHouseModel" "hitScores") ∈ lw_all := lw_g (lw_at lw_m10 213 rfl) rfl
theorem q2626 : (Jvm.Cond.laysFinal "SearchHouseModel" "SearchHouseModel" "hitSeen" "[Z") ∈ lw_all := lw_g (lw_at lw_m10 214 rfl) rfl
theorem q2627 : (Jvm.Cond.soleField "SearchHouseModel" "hitSeen") ∈ lw_all := lw_g (lw_at lw_m10 215 rfl) rfl
theorem q2628 : (Jvm.Cond.laysFinal "SearchHouseModel" "SearchHouseModel" "hitQuestion" "[B") ∈ lw_all := lw_g (lw_at lw_m10 216 rfl) rfl
theorem q2629 : (Jvm.Cond.soleField "SearchHouseModel" "hitQuestion") ∈ lw_all := lw_g (lw_at lw_m10 217 rfl) rfl
theorem q2630 : (Jvm.Cond.lays "SearchHouseModel" "SearchHouseModel" "hitQuestionSize" "I") ∈ lw_all := lw_g (lw_at lw_m10 218 rfl) rfl
theorem q2631 : (Jvm.Cond.soleField "SearchHouseModel" "hitQuestionSize") ∈ lw_all := lw_g (lw_at lw_m10 219 rfl) rfl
theorem q2632 : (Jvm.Cond.laysFinal "SearchHouseModel" "SearchHouseModel" "hitMatches" "[Z") ∈ lw_all := lw_g (lw_at lw_m10 220 rfl) rfl
theorem q2633 : (Jvm.Cond.soleField "SearchHouseModel" "hitMatches") ∈ lw_all := lw_g (lw_at lw_m10 221 rfl) rfl
theorem q2634 : (Jvm.Cond.laysFinal "SearchHouseModel" "SearchHouseModel" "hitNodeScores" "[J") ∈ lw_all := lw_g (lw_at lw_m10 222 rfl) rfl
theorem q2635 : (Jvm.Cond.soleField "SearchHouseModel" "hitNodeScores") ∈ lw_all := lw_g (lw_at lw_m10 223 rfl) rfl
theorem q2636 : (Jvm.Cond.laysFinal "SearchHouseModel" "SearchHouseModel" "hitCs" "[I") ∈ lw_all := lw_g (lw_at lw_m10 224 rfl) rfl
theorem q2637 : (Jvm.Cond.soleField "SearchHouseModel" "hitCs") ∈ lw_all := lw_g (lw_at lw_m10 225 rfl) rfl
theorem q2638 : (Jvm.Cond.laysFinal "SearchHouseModel" "SearchHouseModel" "hitLeafBytes" "[B") ∈ lw_all := lw_g (lw_at lw_m10 226 rfl) rfl
theorem q2639 : (Jvm.Cond.soleField "SearchHouseModel" "hitLeafBytes") ∈ lw_all := lw_g (lw_at lw_m10 227 rfl) rfl
theorem q2640 : (Jvm.Cond.laysFinal "SearchHouseModel" "SearchHouseModel" "hitLeafSizes" "[I") ∈ lw_all := lw_g (lw_at lw_m10 228 rfl) rfl
theorem q2641 : (Jvm.Cond.soleField "SearchHouseModel" "hitLeafSizes") ∈ lw_all := lw_g (lw_at lw_m10 229 rfl) rfl
theorem q2642 : (Jvm.Cond.laysFinal "SearchHouseModel" "SearchHouseModel" "hitLeafPlaces" "[I") ∈ lw_all := lw_g (lw_at lw_m10 230 rfl) rfl
theorem q2643 : (Jvm.Cond.soleField "SearchHouseModel" "hitLeafPlaces") ∈ lw_all := lw_g (lw_at lw_m10 231 rfl) rfl
theorem q2644 : (Jvm.Cond.laysFinal "SearchHouseModel" "SearchHouseModel" "hitPlacePositions" "[I") ∈ lw_all := lw_g (lw_at lw_m10 232 rfl) rfl
theorem q2645 : (Jvm.Cond.soleField "SearchHouseModel" "hitPlacePositions") ∈ lw_all := lw_g (lw_at lw_m10 233 rfl) rfl
theorem q2646 : (Jvm.Cond.laysFinal "SearchHouseModel" "SearchHouseModel" "nodePlacePositions" "[I") ∈ lw_all := lw_g (lw_at lw_m10 234 rfl) rfl
theorem q2647 : (Jvm.Cond.soleField "SearchHouseModel" "nodePlacePositions") ∈ lw_all := lw_g (lw_at lw_m10 235 rfl) rfl
theorem q2648 : (Jvm.Cond.laysFinal "SearchHouseModel" "SearchHouseModel" "hitPoolFroms" "[I") ∈ lw_all := lw_g (lw_at lw_m10 236 rfl) rfl
theorem q2649 : (Jvm.Cond.soleField "SearchHouseModel" "hitPoolFroms") ∈ lw_all := lw_g (lw_at lw_m10 237 rfl) rfl
theorem q2650 : (Jvm.Cond.laysFinal "SearchHouseModel" "SearchHouseModel" "hitPoolTos" "[I") ∈ lw_all := lw_g (lw_at lw_m10 238 rfl) rfl
theorem q2651 : (Jvm.Cond.soleField "SearchHouseModel" "hitPoolTos") ∈ lw_all := lw_g (lw_at lw_m10 239 rfl) rfl
theorem q2652 : (Jvm.Cond.lays "SearchHouseModel" "SearchHouseModel" "sortField" "I") ∈ lw_all := lw_g (lw_at lw_m11 0 rfl) rfl
theorem q2653 : (Jvm.Cond.soleField "SearchHouseModel" "sortField") ∈ lw_all := lw_g (lw_at lw_m11 1 rfl) rfl
theorem q2654 : (Jvm.Cond.lays "SearchHouseModel" "SearchHouseModel" "sortDown" "I") ∈ lw_all := lw_g (lw_at lw_m11 2 rfl) rfl
theorem q2655 : (Jvm.Cond.soleField "SearchHouseModel" "sortDown") ∈ lw_all := lw_g (lw_at lw_m11 3 rfl) rfl
theorem q2656 : (Jvm.Cond.lays "SearchHouseModel" "SearchHouseModel" "lineCount" "I") ∈ lw_all := lw_g (lw_at lw_m11 4 rfl) rfl
theorem q2657 : (Jvm.Cond.soleField "SearchHouseModel" "lineCount") ∈ lw_all := lw_g (lw_at lw_m11 5 rfl) rfl
theorem q2658 : (Jvm.Cond.lays "SearchHouseModel" "SearchHouseModel" "markCount" "I") ∈ lw_all := lw_g (lw_at lw_m11 6 rfl) rfl
theorem q2659 : (Jvm.Cond.soleField "SearchHouseModel" "markCount") ∈ lw_all := lw_g (lw_at lw_m11 7 rfl) rfl
theorem q2660 : (Jvm.Cond.lays "SearchHouseModel" "SearchHouseModel" "groupCount" "I") ∈ lw_all := lw_g (lw_at lw_m11 8 rfl) rfl
theorem q2661 : (Jvm.Cond.soleField "SearchHouseModel" "groupCount") ∈ lw_all := lw_g (lw_at lw_m11 9 rfl) rfl
theorem q2662 : (Jvm.Cond.laysFinal "SearchHouseModel" "SearchHouseModel" "keys" "[J") ∈ lw_all := lw_g (lw_at lw_m11 10 rfl) rfl
theorem q2663 : (Jvm.Cond.soleField "SearchHouseModel" "keys") ∈ lw_all := lw_g (lw_at lw_m11 11 rfl) rfl
theorem q2664 : (Jvm.Cond.laysFinal "SearchHouseModel" "SearchHouseModel" "keyed" "[Z") ∈ lw_all := lw_g (lw_at lw_m11 12 rfl) rfl
theorem q2665 : (Jvm.Cond.soleField "SearchHouseModel" "keyed") ∈ lw_all := lw_g (lw_at lw_m11 13 rfl) rfl
theorem q2666 : (Jvm.Cond.laysFinal "SearchHouseModel" "SearchHouseModel" "lines" "[J") ∈ lw_all := lw_g (lw_at lw_m11 14 rfl) rfl
theorem q2667 : (Jvm.Cond.soleField "SearchHouseModel" "lines") ∈ lw_all := lw_g (lw_at lw_m11 15 rfl) rfl
theorem q2668 : (Jvm.Cond.laysFinal "SearchHouseModel" "SearchHouseModel" "markedTerms" "[Z") ∈ lw_all := lw_g (lw_at lw_m11 16 rfl) rfl
theorem q2669 : (Jvm.Cond.soleField "SearchHouseModel" "markedTerms") ∈ lw_all := lw_g (lw_at lw_m11 17 rfl) rfl
theorem q2670 : (Jvm.Cond.laysFinal "SearchHouseModel" "SearchHouseModel" "marks" "[I") ∈ lw_all := lw_g (lw_at lw_m11 18 rfl) rfl
theorem q2671 : (Jvm.Cond.soleField "SearchHouseModel" "marks") ∈ lw_all := lw_g (lw_at lw_m11 19 rfl) rfl
theorem q2672 : (Jvm.Cond.lays "SearchHouseModel" "SearchHouseModel" "facets" "Z") ∈ lw_all := lw_g (lw_at lw_m11 20 rfl) rfl
theorem q2673 : (Jvm.Cond.soleField "SearchHouseModel" "facets") ∈ lw_all := lw_g (lw_at lw_m11 21 rfl) rfl
theorem q2674 : (Jvm.Cond.laysFinal "SearchHouseModel" "SearchHouseModel" "groupHits" "[I") ∈ lw_all := lw_g (lw_at lw_m11 22 rfl) rfl
theorem q2675 : (Jvm.Cond.soleField "SearchHouseModel" "groupHits") ∈ lw_all := lw_g (lw_at lw_m11 23 rfl) rfl
theorem q2676 : (Jvm.Cond.laysFinal "SearchHouseModel" "SearchHouseModel" "groupFirsts" "[I") ∈ lw_all := lw_g (lw_at lw_m11 24 rfl) rfl
theorem q2677 : (Jvm.Cond.soleField "SearchHouseModel" "groupFirsts") ∈ lw_all := lw_g (lw_at lw_m11 25 rfl) rfl
theorem q2678 : (Jvm.Cond.laysFinal "SearchHouseModel" "SearchHouseModel" "groupTerms" "[I") ∈ lw_all := lw_g (lw_at lw_m11 26 rfl) rfl
theorem q2679 : (Jvm.Cond.soleField "SearchHouseModel" "groupTerms") ∈ lw_all := lw_g (lw_at lw_m11 27 rfl) rfl
theorem q2680 : (Jvm.Cond.laysFinal "SearchHouseModel" "SearchHouseModel" "groupNumbers" "[J") ∈ lw_all := lw_g (lw_at lw_m11 28 rfl) rfl
theorem q2681 : (Jvm.Cond.soleField "SearchHouseModel" "groupNumbers") ∈ lw_all := lw_g (lw_at lw_m11 29 rfl) rfl
theorem q2682 : (Jvm.Cond.laysFinal "SearchHouseModel" "SearchHouseModel" "groupLast" "[I") ∈ lw_all := lw_g (lw_at lw_m11 30 rfl) rfl
theorem q2683 : (Jvm.Cond.soleField "SearchHouseModel" "groupLast") ∈ lw_all := lw_g (lw_at lw_m11 31 rfl) rfl
theorem q2684 : (Jvm.Cond.laysFinal "SearchHouseModel" "SearchHouseModel" "slots" "[I") ∈ lw_all := lw_g (lw_at lw_m11 32 rfl) rfl
theorem q2685 : (Jvm.Cond.soleField "SearchHouseModel" "slots") ∈ lw_all := lw_g (lw_at lw_m11 33 rfl) rfl
theorem q2686 : (Jvm.Cond.lays "SearchHouseModel" "SearchHouseModel" "listed" "I") ∈ lw_all := lw_g (lw_at lw_m11 34 rfl) rfl
theorem q2687 : (Jvm.Cond.soleField "SearchHouseModel" "listed") ∈ lw_all := lw_g (lw_at lw_m11 35 rfl) rfl
theorem q2688 : (Jvm.Cond.laysFinal "SearchHouseModel" "SearchHouseModel" "listTerms" "[I") ∈ lw_all := lw_g (lw_at lw_m11 36 rfl) rfl
theorem q2689 : (Jvm.Cond.soleField "SearchHouseModel" "listTerms") ∈ lw_all := lw_g (lw_at lw_m11 37 rfl) rfl
theorem q2690 : (Jvm.Cond.laysFinal "SearchHouseModel" "SearchHouseModel" "listCounts" "[I") ∈ lw_all := lw_g (lw_at lw_m11 38 rfl) rfl
theorem q2691 : (Jvm.Cond.soleField "SearchHouseModel" "listCounts") ∈ lw_all := lw_g (lw_at lw_m11 39 rfl) rfl
theorem q2692 : (Jvm.Cond.laysFinal "SearchHouseModel" "SearchHouseModel" "listLast" "[I") ∈ lw_all := lw_g (lw_at lw_m11 40 rfl) rfl
theorem q2693 : (Jvm.Cond.soleField "SearchHouseModel" "listLast") ∈ lw_all := lw_g (lw_at lw_m11 41 rfl) rfl
theorem q2694 : (Jvm.Cond.laysFinal "SearchHouseModel" "SearchHouseModel" "listWeights" "[I") ∈ lw_all := lw_g (lw_at lw_m11 42 rfl) rfl
theorem q2695 : (Jvm.Cond.soleField "SearchHouseModel" "listWeights") ∈ lw_all := lw_g (lw_at lw_m11 43 rfl) rfl
theorem q2696 : (Jvm.Cond.laysFinal "SearchHouseModel" "SearchHouseModel" "listFields" "[I") ∈ lw_all := lw_g (lw_at lw_m11 44 rfl) rfl
theorem q2697 : (Jvm.Cond.soleField "SearchHouseModel" "listFields") ∈ lw_all := lw_g (lw_at lw_m11 45 rfl) rfl
theorem q2698 : (Jvm.Cond.lays "SearchHouseModel" "SearchHouseModel" "found" "I") ∈ lw_all := lw_g (lw_at lw_m11 46 rfl) rfl
theorem q2699 : (Jvm.Cond.soleField "SearchHouseModel" "found") ∈ lw_all := lw_g (lw_at lw_m11 47 rfl) rfl
theorem q2700 : (Jvm.Cond.laysFinal "SearchHouseModel" "SearchHouseModel" "foundBytes" "[B") ∈ lw_all := lw_g (lw_at lw_m11 48 rfl) rfl
theorem q2701 : (Jvm.Cond.soleField "SearchHouseModel" "foundBytes") ∈ lw_all := lw_g (lw_at lw_m11 49 rfl) rfl
theorem q2702 : (Jvm.Cond.laysFinal "SearchHouseModel" "SearchHouseModel" "foundTold" "[I") ∈ lw_all := lw_g (lw_at lw_m11 50 rfl) rfl
theorem q2703 : (Jvm.Cond.soleField "SearchHouseModel" "foundTold") ∈ lw_all := lw_g (lw_at lw_m11 51 rfl) rfl
theorem q2704 : (Jvm.Cond.laysFinal "SearchHouseModel" "SearchHouseModel" "foundPlaces" "[I") ∈ lw_all := lw_g (lw_at lw_m11 52 rfl) rfl
theorem q2705 : (Jvm.Cond.soleField "SearchHouseModel" "foundPlaces") ∈ lw_all := lw_g (lw_at lw_m11 53 rfl) rfl
theorem q2706 : (Jvm.Cond.laysFinal "SearchHouseModel" "SearchHouseModel" "weights" "[J") ∈ lw_all := lw_g (lw_at lw_m11 54 rfl) rfl
theorem q2707 : (Jvm.Cond.soleField "SearchHouseModel" "weights") ∈ lw_all := lw_g (lw_at lw_m11 55 rfl) rfl
theorem q2708 : (Jvm.Cond.laysFinal "SearchHouseModel" "SearchHouseModel" "five" "[I") ∈ lw_all := lw_g (lw_at lw_m11 56 rfl) rfl
theorem q2709 : (Jvm.Cond.soleField "SearchHouseModel" "five") ∈ lw_all := lw_g (lw_at lw_m11 57 rfl) rfl
theorem q2710 : (Jvm.Cond.lays "SearchHouseModel" "SearchHouseModel" "matchedCount" "I") ∈ lw_all := lw_g (lw_at lw_m11 58 rfl) rfl
theorem q2711 : (Jvm.Cond.soleField "SearchHouseModel" "matchedCount") ∈ lw_all := lw_g (lw_at lw_m11 59 rfl) rfl
theorem q2712 : (Jvm.Cond.laysFinal "SearchHouseModel" "SearchHouseModel" "matchedOnes" "[I") ∈ lw_all := lw_g (lw_at lw_m11 60 rfl) rfl
theorem q2713 : (Jvm.Cond.soleField "SearchHouseModel" "matchedOnes") ∈ lw_all := lw_g (lw_at lw_m11 61 rfl) rfl
theorem q2714 : (Jvm.Cond.lays "SearchHouseModel" "SearchHouseModel" "paper" "[B") ∈ lw_all := lw_g (lw_at lw_m11 62 rfl) rfl
theorem q2715 : (Jvm.Cond.soleField "SearchHouseModel" "paper") ∈ lw_all := lw_g (lw_at lw_m11 63 rfl) rfl
theorem q2716 : (Jvm.Cond.lays "SearchHouseModel" "SearchHouseModel" "draftPaper" "[B") ∈ lw_all := lw_g (lw_at lw_m11 64 rfl) rfl
theorem q2717 : (Jvm.Cond.soleField "SearchHouseModel" "draftPaper") ∈ lw_all := lw_g (lw_at lw_m11 65 rfl) rfl
theorem q2718 : (Jvm.Cond.lays "SearchHouseModel" "SearchHouseModel" "papered" "I") ∈ lw_all := lw_g (lw_at lw_m11 66 rfl) rfl
theorem q2719 : (Jvm.Cond.soleField "SearchHouseModel" "papered") ∈ lw_all := lw_g (lw_at lw_m11 67 rfl) rfl
theorem q2720 : (Jvm.Cond.lays "SearchHouseModel" "SearchHouseModel" "drafted" "I") ∈ lw_all := lw_g (lw_at lw_m11 68 rfl) rfl
theorem q2721 : (Jvm.Cond.soleField "SearchHouseModel" "drafted") ∈ lw_all := lw_g (lw_at lw_m11 69 rfl) rfl
theorem q2722 : (Jvm.Cond.superclass "SearchHouseModel" "java/lang/Object") ∈ lw_all := lw_g (lw_at lw_m11 70 rfl) rfl
theorem q2723 : (Jvm.Cond.methodLink "SearchHouseLaw" (17 : Nat) ({ cls := "SearchHouseModel", name := "feed", desc := "(IIIII)I" } : Jvm.MethodName)) ∈ lw_all := lw_g (lw_at lw_m11 71 rfl) rfl
theorem q2724 : (Jvm.Cond.instanceMethod ({ cls := "SearchHouseModel", name := "feed", desc := "(IIIII)I" } : Jvm.MethodName)) ∈ lw_all := lw_g (lw_at lw_m11 72 rfl) rfl
theorem q2725 : (Jvm.Cond.selects "SearchHouseModel" ({ cls := "SearchHouseModel", name := "feed", desc := "(IIIII)I" } : Jvm.MethodName) ({ cls := "SearchHouseModel", name := "feed", desc := "(IIIII)I" } : Jvm.MethodName)) ∈ lw_all := lw_g (lw_at lw_m11 73 rfl) rfl
theorem q2726 : (Jvm.Cond.code ({ cls := "SearchHouseModel", name := "feed", desc := "(IIIII)I" } : Jvm.MethodName) prog_14_method_2_code (9 : Nat) (Option.some Jvm.ClassFile.FieldType.int)) ∈ lw_all := lw_g (lw_at lw_m11 74 rfl) rfl
theorem q2727 : (Jvm.Cond.methodLink "SearchHouseLaw" (22 : Nat) ({ cls := "SearchHouseModel", name := "cut", desc := "(I)I" } : Jvm.MethodName)) ∈ lw_all := lw_g (lw_at lw_m11 75 rfl) rfl
theorem q2728 : (Jvm.Cond.instanceMethod ({ cls := "SearchHouseModel", name := "cut", desc := "(I)I" } : Jvm.MethodName)) ∈ lw_all := lw_g (lw_at lw_m11 76 rfl) rfl
theorem q2729 : (Jvm.Cond.selects "SearchHouseModel" ({ cls := "SearchHouseModel", name := "cut", desc := "(I)I" } : Jvm.MethodName) ({ cls := "SearchHouseModel", name := "cut", desc := "(I)I" } : Jvm.MethodName)) ∈ lw_all := lw_g (lw_at lw_m11 77 rfl) rfl
theorem q2730 : (Jvm.Cond.code ({ cls := "SearchHouseModel", name := "cut", desc := "(I)I" } : Jvm.MethodName) prog_14_method_3_code (2 : Nat) (Option.some Jvm.ClassFile.FieldType.int)) ∈ lw_all := lw_g (lw_at lw_m11 78 rfl) rfl
theorem q2731 : (Jvm.Cond.methodLink "SearchHouseLaw" (27 : Nat) ({ cls := "SearchHouseModel", name := "analyser", desc := "(III)I" } : Jvm.MethodName)) ∈ lw_all := lw_g (lw_at lw_m11 79 rfl) rfl
theorem q2732 : (Jvm.Cond.instanceMethod ({ cls := "SearchHouseModel", name := "analyser", desc := "(III)I" } : Jvm.MethodName)) ∈ lw_all := lw_g (lw_at lw_m11 80 rfl) rfl
theorem q2733 : (Jvm.Cond.selects "SearchHouseModel" ({ cls := "SearchHouseModel", name := "analyser", desc := "(III)I" } : Jvm.MethodName) ({ cls := "SearchHouseModel", name := "analyser", desc := "(III)I" } : Jvm.MethodName)) ∈ lw_all := lw_g (lw_at lw_m11 81 rfl) rfl
theorem q2734 : (Jvm.Cond.code ({ cls := "SearchHouseModel", name := "analyser", desc := "(III)I" } : Jvm.MethodName) prog_14_method_9_code (4 : Nat) (Option.some Jvm.ClassFile.FieldType.int)) ∈ lw_all := lw_g (lw_at lw_m11 82 rfl) rfl
theorem q2735 : (Jvm.Cond.methodLink "SearchHouseLaw" (31 : Nat) ({ cls := "SearchHouseModel", name := "stop", desc := "(I)I" } : Jvm.MethodName)) ∈ lw_all := lw_g (lw_at lw_m11 83 rfl) rfl
theorem q2736 : (Jvm.Cond.instanceMethod ({ cls := "SearchHouseModel", name := "stop", desc := "(I)I" } : Jvm.MethodName)) ∈ lw_all := lw_g (lw_at lw_m11 84 rfl) rfl
theorem q2737 : (Jvm.Cond.selects "SearchHouseModel" ({ cls := "SearchHouseModel", name := "stop", desc := "(I)I" } : Jvm.MethodName) ({ cls := "SearchHouseModel", name := "stop", desc := "(I)I" } : Jvm.MethodName)) ∈ lw_all := lw_g (lw_at lw_m11 85 rfl) rfl
theorem q2738 : (Jvm.Cond.code ({ cls := "SearchHouseModel", name := "stop", desc := "(I)I" } : Jvm.MethodName) prog_14_method_14_code (3 : Nat) (Option.some Jvm.ClassFile.FieldType.int)) ∈ lw_all := lw_g (lw_at lw_m11 86 rfl) rfl
theorem q2739 : (Jvm.Cond.methodLink "SearchHouseModel" (412 : Nat) ({ cls := "SearchHouseModel", name := "taken", desc := "()I" } : Jvm.MethodName)) ∈ lw_all := lw_g (lw_at lw_m11 87 rfl) rfl
theorem q2740 : (Jvm.Cond.privateMethod ({ cls := "SearchHouseModel", name := "taken", desc := "()I" } : Jvm.MethodName)) ∈ lw_tbl := lw_at lw_m11 88 rfl
theorem q2741 : (Jvm.Cond.instanceMethod ({ cls := "SearchHouseModel", name := "taken", desc := "()I" } : Jvm.MethodName)) ∈ lw_all := lw_g (lw_at lw_m11 89 rfl) rfl
theorem q2742 : (Jvm.Cond.code ({ cls := "SearchHouseModel", name := "taken", desc := "()I" } : Jvm.MethodName) prog_14_method_4_code (2 : Nat) (Option.some Jvm.ClassFile.FieldType.int)) ∈ lw_all := lw_g (lw_at lw_m11 90 rfl) rfl
theorem q2743 : (Jvm.Cond.methodLink "SearchHouseModel" (416 : Nat) ({ cls := "SearchHouseModel", name := "isAnalyser", desc := "(I)Z" } : Jvm.MethodName)) ∈ lw_all := lw_g (lw_at lw_m11 91 rfl) rfl
theorem q2744 : (Jvm.Cond.privateMethod ({ cls := "SearchHouseModel", name := "isAnalyser", desc := "(I)Z" } : Jvm.MethodName)) ∈ lw_tbl := lw_at lw_m11 92 rfl
theorem q2745 : (Jvm.Cond.instanceMethod ({ cls := "SearchHouseModel", name := "isAnalyser", desc := "(I)Z" } : Jvm.MethodName)) ∈ lw_all := lw_g (lw_at lw_m11 93 rfl) rfl
theorem q2746 : (Jvm.Cond.code ({ cls := "SearchHouseModel", name := "isAnalyser", desc := "(I)Z" } : Jvm.MethodName) prog_14_method_8_code (2 : Nat) (Option.some Jvm.ClassFile.FieldType.boolean)) ∈ lw_all := lw_g (lw_at lw_m11 94 rfl) rfl
theorem q2747 : (Jvm.Cond.methodLink "SearchHouseModel" (419 : Nat) ({ cls := "SearchHouseModel", name := "areLetters", desc := "([BII)Z" } : Jvm.MethodName)) ∈ lw_all := lw_g (lw_at lw_m11 95 rfl) rfl
theorem q2748 : (Jvm.Cond.static ({ cls := "SearchHouseModel", name := "areLetters", desc := "([BII)Z" } : Jvm.MethodName)) ∈ lw_all := lw_g (lw_at lw_m11 96 rfl) rfl
theorem q2749 : (Jvm.Cond.code ({ cls := "SearchHouseModel", name := "areLetters", desc := "([BII)Z" } : Jvm.MethodName) prog_14_method_10_code (5 : Nat) (Option.some Jvm.ClassFile.FieldType.boolean)) ∈ lw_all := lw_g (lw_at lw_m11 97 rfl) rfl
theorem q2750 : (Jvm.Cond.methodLink "SearchHouseModel" (401 : Nat) ({ cls := "SearchHouseModel", name := "isLetter", desc := "(I)Z" } : Jvm.MethodName)) ∈ lw_all := lw_g (lw_at lw_m11 98 rfl) rfl
theorem q2751 : (Jvm.Cond.static ({ cls := "SearchHouseModel", name := "isLetter", desc := "(I)Z" } : Jvm.MethodName)) ∈ lw_all := lw_g (lw_at lw_m11 99 rfl) rfl
theorem q2752 : (Jvm.Cond.code ({ cls := "SearchHouseModel", name := "isLetter", desc := "(I)Z" } : Jvm.MethodName) prog_14_method_5_code (2 : Nat) (Option.some Jvm.ClassFile.FieldType.boolean)) ∈ lw_all := lw_g (lw_at lw_m11 100 rfl) rfl
theorem q2753 : (Jvm.Cond.methodLink "SearchHouseModel" (423 : Nat) ({ cls := "SearchHouseModel", name := "findStop", desc := "(I[BII)I" } : Jvm.MethodName)) ∈ lw_all := lw_g (lw_at lw_m11 101 rfl) rfl
theorem q2754 : (Jvm.Cond.privateMethod ({ cls := "SearchHouseModel", name := "findStop", desc := "(I[BII)I" } : Jvm.MethodName)) ∈ lw_tbl := lw_at lw_m11 102 rfl
theorem q2755 : (Jvm.Cond.instanceMethod ({ cls := "SearchHouseModel", name := "findStop", desc := "(I[BII)I" } : Jvm.MethodName)) ∈ lw_all := lw_g (lw_at lw_m11 103 rfl) rfl
theorem q2756 : (Jvm.Cond.code ({ cls := "SearchHouseModel", name := "findStop", desc := "(I[BII)I" } : Jvm.MethodName) prog_14_method_13_code (6 : Nat) (Option.some Jvm.ClassFile.FieldType.int)) ∈ lw_all := lw_g (lw_at lw_m11 104 rfl) rfl
theorem q2757 : (Jvm.Cond.methodLink "SearchHouseModel" (405 : Nat) ({ cls := "SearchHouseModel", name := "stopAt", desc := "(II)I" } : Jvm.MethodName)) ∈ lw_all := lw_g (lw_at lw_m11 105 rfl) rfl
theorem q2758 : (Jvm.Cond.static ({ cls := "SearchHouseModel", name := "stopAt", desc := "(II)I" } : Jvm.MethodName)) ∈ lw_all := lw_g (lw_at lw_m11 106 rfl) rfl
theorem q2759 : (Jvm.Cond.code ({ cls := "SearchHouseModel", name := "stopAt", desc := "(II)I" } : Jvm.MethodName) prog_14_method_6_code (2 : Nat) (Option.some Jvm.ClassFile.FieldType.int)) ∈ lw_all := lw_g (lw_at lw_m11 107 rfl) rfl
theorem q2760 : (Jvm.Cond.methodLink "SearchHouseModel" (408 : Nat) ({ cls := "SearchHouseModel", name := "isTold", desc := "(I[BII)Z" } : Jvm.MethodName)) ∈ lw_all := lw_g (lw_at lw_m11 108 rfl) rfl
theorem q2761 : (Jvm.Cond.privateMethod ({ cls := "SearchHouseModel", name := "isTold", desc := "(I[BII)Z" } : Jvm.MethodName)) ∈ lw_tbl := lw_at lw_m11 109 rfl
theorem q2762 : (Jvm.Cond.instanceMethod ({ cls := "SearchHouseModel", name := "isTold", desc := "(I[BII)Z" } : Jvm.MethodName)) ∈ lw_all := lw_g (lw_at lw_m11 110 rfl) rfl
theorem q2763 : (Jvm.Cond.code ({ cls := "SearchHouseModel", name := "isTold", desc := "(I[BII)Z" } : Jvm.MethodName) prog_14_method_12_code (7 : Nat) (Option.some Jvm.ClassFile.FieldType.boolean)) ∈ lw_all := lw_g (lw_at lw_m11 111 rfl) rfl
theorem q2764 : (Jvm.Cond.methodLink "SearchHouseModel" (427 : Nat) ({ cls := "SearchHouseModel", name := "tell", desc := "(I[BII)V" } : Jvm.MethodName)) ∈ lw_all := lw_g (lw_at lw_m11 112 rfl) rfl
theorem q2765 : (Jvm.Cond.privateMethod ({ cls := "SearchHouseModel", name := "tell", desc := "(I[BII)V" } : Jvm.MethodName)) ∈ lw_tbl := lw_at lw_m11 113 rfl
theorem q2766 : (Jvm.Cond.instanceMethod ({ cls := "SearchHouseModel", name := "tell", desc := "(I[BII)V" } : Jvm.MethodName)) ∈ lw_all := lw_g (lw_at lw_m11 114 rfl) rfl
theorem q2767 : (Jvm.Cond.code ({ cls := "SearchHouseModel", name := "tell", desc := "(I[BII)V" } : Jvm.MethodName) prog_14_method_11_code (6 : Nat) (Option.none : Option Jvm.ClassFile.FieldType)) ∈ lw_all := lw_g (lw_at lw_m11 115 rfl) rfl
theorem q2768 : (Jvm.Cond.methodLink "SearchHouseLaw" (35 : Nat) ({ cls := "SearchHouseModel", name := "synonym", desc := "(I)I" } : Jvm.MethodName)) ∈ lw_all := lw_g (lw_at lw_m11 116 rfl) rfl
theorem q2769 : (Jvm.Cond.instanceMethod ({ cls := "SearchHouseModel", name := "synonym", desc := "(I)I" } : Jvm.MethodName)) ∈ lw_all := lw_g (lw_at lw_m11 117 rfl) rfl
theorem q2770 : (Jvm.Cond.selects "SearchHouseModel" ({ cls := "SearchHouseModel", name := "synonym", desc := "(I)I" } : Jvm.MethodName) ({ cls := "SearchHouseModel", name := "synonym", desc := "(I)I" } : Jvm.MethodName)) ∈ lw_all := lw_g (lw_at lw_m11 118 rfl) rfl
theorem q2771 : (Jvm.Cond.code ({ cls := "SearchHouseModel", name := "synonym", desc := "(I)I" } : Jvm.MethodName) prog_14_method_15_code (5 : Nat) (Option.some Jvm.ClassFile.FieldType.int)) ∈ lw_all := lw_g (lw_at lw_m11 119 rfl) rfl
theorem q2772 : (Jvm.Cond.methodLink "SearchHouseModel" (431 : Nat) ({ cls := "SearchHouseModel", name := "synonymAt", desc := "(II)I" } : Jvm.MethodName)) ∈ lw_all := lw_g (lw_at lw_m11 120 rfl) rfl
theorem q2773 : (Jvm.Cond.static ({ cls := "SearchHouseModel", name := "synonymAt", desc := "(II)I" } : Jvm.MethodName)) ∈ lw_all := lw_g (lw_at lw_m11 121 rfl) rfl
theorem q2774 : (Jvm.Cond.code ({ cls := "SearchHouseModel", name := "synonymAt", desc := "(II)I" } : Jvm.MethodName) prog_14_method_7_code (2 : Nat) (Option.some Jvm.ClassFile.FieldType.int)) ∈ lw_all := lw_g (lw_at lw_m11 122 rfl) rfl
theorem q2775 : (Jvm.Cond.methodLink "SearchHouseLaw" (39 : Nat) ({ cls := "SearchHouseModel", name := "analyse", desc := "(I)I" } : Jvm.MethodName)) ∈ lw_all := lw_g (lw_at lw_m11 123 rfl) rfl
theorem q2776 : (Jvm.Cond.instanceMethod ({ cls := "SearchHouseModel", name := "analyse", desc := "(I)I" } : Jvm.MethodName)) ∈ lw_all := lw_g (lw_at lw_m11 124 rfl) rfl
theorem q2777 : (Jvm.Cond.selects "SearchHouseModel" ({ cls := "SearchHouseModel", name := "analyse", desc := "(I)I" } : Jvm.MethodName) ({ cls := "SearchHouseModel", name := "analyse", desc := "(I)I" } : Jvm.MethodName)) ∈ lw_all := lw_g (lw_at lw_m11 125 rfl) rfl
theorem q2778 : (Jvm.Cond.code ({ cls := "SearchHouseModel", name := "analyse", desc := "(I)I" } : Jvm.MethodName) prog_14_method_33_code (5 : Nat) (Option.some Jvm.ClassFile.FieldType.int)) ∈ lw_all := lw_g (lw_at lw_m11 126 rfl) rfl
theorem q2779 : (Jvm.Cond.methodLink "SearchHouseModel" (559 : Nat) ({ cls := "SearchHouseModel", name := "analyseRow", desc := "(I[BII)V" } : Jvm.MethodName)) ∈ lw_all := lw_g (lw_at lw_m11 127 rfl) rfl
theorem q2780 : (Jvm.Cond.privateMethod ({ cls := "SearchHouseModel", name := "analyseRow", desc := "(I[BII)V" } : Jvm.MethodName)) ∈ lw_tbl := lw_at lw_m11 128 rfl
theorem q2781 : (Jvm.Cond.instanceMethod ({ cls := "SearchHouseModel", name := "analyseRow", desc := "(I[BII)V" } : Jvm.MethodName)) ∈ lw_all := lw_g (lw_at lw_m11 129 rfl) rfl
theorem q2782 : (Jvm.Cond.code ({ cls := "SearchHouseModel", name := "analyseRow", desc := "(I[BII)V" } : Jvm.MethodName) prog_14_method_31_code (10 : Nat) (Option.none : Option Jvm.ClassFile.FieldType)) ∈ lw_all := lw_g (lw_at lw_m11 130 rfl) rfl
theorem q2783 : (Jvm.Cond.methodLink "SearchHouseModel" (552 : Nat) ({ cls := "SearchHouseModel", name := "analyseWord", desc := "(I[BII)Z" } : Jvm.MethodName)) ∈ lw_all := lw_g (lw_at lw_m11 131 rfl) rfl
theorem q2784 : (Jvm.Cond.privateMethod ({ cls := "SearchHouseModel", name := "analyseWord", desc := "(I[BII)Z" } : Jvm.MethodName)) ∈ lw_tbl := lw_at lw_m11 132 rfl
theorem q2785 : (Jvm.Cond.instanceMethod ({ cls := "SearchHouseModel", name := "analyseWord", desc := "(I[BII)Z" } : Jvm.MethodName)) ∈ lw_all := lw_g (lw_at lw_m11 133 rfl) rfl
theorem q2786 : (Jvm.Cond.code ({ cls := "SearchHouseModel", name := "analyseWord", desc := "(I[BII)Z" } : Jvm.MethodName) prog_14_method_30_code (9 : Nat) (Option.some Jvm.ClassFile.FieldType.boolean)) ∈ lw_all := lw_g (lw_at lw_m11 134 rfl) rfl
theorem q2787 : (Jvm.Cond.methodLink "SearchHouseModel" (536 : Nat) ({ cls := "SearchHouseModel", name := "folded", desc := "(I)I" } : Jvm.MethodName)) ∈ lw_all := lw_g (lw_at lw_m11 135 rfl) rfl
theorem q2788 : (Jvm.Cond.static ({ cls := "SearchHouseModel", name := "folded", desc := "(I)I" } : Jvm.MethodName)) ∈ lw_all := lw_g (lw_at lw_m11 136 rfl) rfl
theorem q2789 : (Jvm.Cond.code ({ cls := "SearchHouseModel", name := "folded", desc := "(I)I" } : Jvm.MethodName) prog_14_method_27_code (1 : Nat) (Option.some Jvm.ClassFile.FieldType.int)) ∈ lw_all := lw_g (lw_at lw_m11 137 rfl) rfl
theorem q2790 : (Jvm.Cond.methodLink "SearchHouseModel" (539 : Nat) ({ cls := "SearchHouseModel", name := "stemShort", desc := "()V" } : Jvm.MethodName)) ∈ lw_all := lw_g (lw_at lw_m11 138 rfl) rfl
theorem q2791 : (Jvm.Cond.privateMethod ({ cls := "SearchHouseModel", name := "stemShort", desc := "()V" } : Jvm.MethodName)) ∈ lw_tbl := lw_at lw_m11 139 rfl
theorem q2792 : (Jvm.Cond.instanceMethod ({ cls := "SearchHouseModel", name := "stemShort", desc := "()V" } : Jvm.MethodName)) ∈ lw_all := lw_g (lw_at lw_m11 140 rfl) rfl
theorem q2793 : (Jvm.Cond.code ({ cls := "SearchHouseModel", name := "stemShort", desc := "()V" } : Jvm.MethodName) prog_14_method_21_code (1 : Nat) (Option.none : Option Jvm.ClassFile.FieldType)) ∈ lw_all := lw_g (lw_at lw_m11 141 rfl) rfl
theorem q2794 : (Jvm.Cond.stringRef "SearchHouseModel" (448 : Nat) "ies") ∈ lw_tbl := lw_at lw_m11 142 rfl
theorem q2795 : (Jvm.Cond.methodLink "SearchHouseModel" (450 : Nat) ({ cls := "SearchHouseModel", name := "endsWith", desc := "(Ljava/lang/String;)Z" } : Jvm.MethodName)) ∈ lw_all := lw_g (lw_at lw_m11 143 rfl) rfl
theorem q2796 : (Jvm.Cond.privateMethod ({ cls := "SearchHouseModel", name := "endsWith", desc := "(Ljava/lang/String;)Z" } : Jvm.MethodName)) ∈ lw_tbl := lw_at lw_m11 144 rfl
theorem q2797 : (Jvm.Cond.instanceMethod ({ cls := "SearchHouseModel", name := "endsWith", desc := "(Ljava/lang/String;)Z" } : Jvm.MethodName)) ∈ lw_all := lw_g (lw_at lw_m11 145 rfl) rfl
theorem q2798 : (Jvm.Cond.code ({ cls := "SearchHouseModel", name := "endsWith", desc := "(Ljava/lang/String;)Z" } : Jvm.MethodName) prog_14_method_16_code (4 : Nat) (Option.some Jvm.ClassFile.FieldType.boolean)) ∈ lw_all := lw_g (lw_at lw_m11 146 rfl) rfl
theorem q2799 : (Jvm.Cond.methodLink "SearchHouseModel" (434 : Nat) ({ cls := "java/lang/String", name := "length", desc := "()I" } : Jvm.MethodName)) ∈ lw_all := lw_g (lw_at lw_m11 147 rfl) rfl
theorem q2800 : (Jvm.Cond.methodLink "SearchHouseModel" (441 : Nat) ({ cls := "java/lang/String", name := "charAt", desc := "(I)C" } : Jvm.MethodName)) ∈ lw_all := lw_g (lw_at lw_m11 148 rfl) rfl
theorem q2801 : (Jvm.Cond.stringRef "SearchHouseModel" (454 : Nat) "aies") ∈ lw_tbl := lw_at lw_m11 149 rfl
theorem q2802 : (Jvm.Cond.stringRef "SearchHouseModel" (456 : Nat) "eies") ∈ lw_tbl := lw_at lw_m11 150 rfl
theorem q2803 : (Jvm.Cond.stringRef "SearchHouseModel" (458 : Nat) "y") ∈ lw_tbl := lw_at lw_m11 151 rfl
theorem q2804 : (Jvm.Cond.methodLink "SearchHouseModel" (460 : Nat) ({ cls := "SearchHouseModel", name := "change", desc := "(ILjava/lang/String;)V" } : Jvm.MethodName)) ∈ lw_all := lw_g (lw_at lw_m11 152 rfl) rfl
theorem q2805 : (Jvm.Cond.privateMethod ({ cls := "SearchHouseModel", name := "change", desc := "(ILjava/lang/String;)V" } : Jvm.MethodName)) ∈ lw_tbl := lw_at lw_m11 153 rfl
theorem q2806 : (Jvm.Cond.instanceMethod ({ cls := "SearchHouseModel", name := "change", desc := "(ILjava/lang/String;)V" } : Jvm.MethodName)) ∈ lw_all := lw_g (lw_at lw_m11 154 rfl) rfl
theorem q2807 : (Jvm.Cond.code ({ cls := "SearchHouseModel", name := "change", desc := "(ILjava/lang/String;)V" } : Jvm.MethodName) prog_14_method_17_code (4 : Nat) (Option.none : Option Jvm.ClassFile.FieldType)) ∈ lw_all := lw_g (lw_at lw_m11 155 rfl) rfl
theorem q2808 : (Jvm.Cond.stringRef "SearchHouseModel" (464 : Nat) "es") ∈ lw_tbl := lw_at lw_m11 156 rfl
theorem q2809 : (Jvm.Cond.stringRef "SearchHouseModel" (466 : Nat) "aes") ∈ lw_tbl := lw_at lw_m11 157 rfl
theorem q2810 : (Jvm.Cond.stringRef "SearchHouseModel" (468 : Nat) "ees") ∈ lw_tbl := lw_at lw_m11 158 rfl
theorem q2811 : (Jvm.Cond.stringRef "SearchHouseModel" (470 : Nat) "oes") ∈ lw_tbl := lw_at lw_m11 159 rfl
theorem q2812 : (Jvm.Cond.stringRef "SearchHouseModel" (472 : Nat) "e") ∈ lw_tbl := lw_at lw_m11 160 rfl
theorem q2813 : (Jvm.Cond.stringRef "SearchHouseModel" (474 : Nat) "s") ∈ lw_tbl := lw_at lw_m11 161 rfl
theorem q2814 : (Jvm.Cond.stringRef "SearchHouseModel" (476 : Nat) "us") ∈ lw_tbl := lw_at lw_m11 162 rfl
theorem q2815 : (Jvm.Cond.stringRef "SearchHouseModel" (478 : Nat) "ss") ∈ lw_tbl := lw_at lw_m11 163 rfl
theorem q2816 : (Jvm.Cond.stringRef "SearchHouseModel" (480 : Nat) "") ∈ lw_tbl := lw_at lw_m11 164 rfl
theorem q2817 : (Jvm.Cond.methodLink "SearchHouseModel" (542 : Nat) ({ cls := "SearchHouseModel", name := "stemLong", desc := "()V" } : Jvm.MethodName)) ∈ lw_all := lw_g (lw_at lw_m11 165 rfl) rfl
theorem q2818 : (Jvm.Cond.privateMethod ({ cls := "SearchHouseModel", name := "stemLong", desc := "()V" } : Jvm.MethodName)) ∈ lw_tbl := lw_at lw_m11 166 rfl
theorem q2819 : (Jvm.Cond.instanceMethod ({ cls := "SearchHouseModel", name := "stemLong", desc := "()V" } : Jvm.MethodName)) ∈ lw_all := lw_g (lw_at lw_m11 167 rfl) rfl
theorem q2820 : (Jvm.Cond.code ({ cls := "SearchHouseModel", name := "stemLong", desc := "()V" } : Jvm.MethodName) prog_14_method_23_code (1 : Nat) (Option.none : Option Jvm.ClassFile.FieldType)) ∈ lw_all := lw_g (lw_at lw_m11 168 rfl) rfl
theorem q2821 : (Jvm.Cond.methodLink "SearchHouseModel" (482 : Nat) ({ cls := "SearchHouseModel", name := "isSmall", desc := "()Z" } : Jvm.MethodName)) ∈ lw_all := lw_g (lw_at lw_m11 169 rfl) rfl
theorem q2822 : (Jvm.Cond.privateMethod ({ cls := "SearchHouseModel", name := "isSmall", desc := "()Z" } : Jvm.MethodName)) ∈ lw_tbl := lw_at lw_m11 170 rfl
theorem q2823 : (Jvm.Cond.instanceMethod ({ cls := "SearchHouseModel", name := "isSmall", desc := "()Z" } : Jvm.MethodName)) ∈ lw_all := lw_g (lw_at lw_m11 171 rfl) rfl
theorem q2824 : (Jvm.Cond.code ({ cls := "SearchHouseModel", name := "isSmall", desc := "()Z" } : Jvm.MethodName) prog_14_method_22_code (3 : Nat) (Option.some Jvm.ClassFile.FieldType.boolean)) ∈ lw_all := lw_g (lw_at lw_m11 172 rfl) rfl
theorem q2825 : (Jvm.Cond.stringRef "SearchHouseModel" (486 : Nat) "sses") ∈ lw_tbl := lw_at lw_m11 173 rfl
theorem q2826 : (Jvm.Cond.methodLink "SearchHouseModel" (488 : Nat) ({ cls := "SearchHouseModel", name := "stemEd", desc := "()V" } : Jvm.MethodName)) ∈ lw_all := lw_g (lw_at lw_m11 174 rfl) rfl
theorem q2827 : (Jvm.Cond.privateMethod ({ cls := "SearchHouseModel", name := "stemEd", desc := "()V" } : Jvm.MethodName)) ∈ lw_tbl := lw_at lw_m11 175 rfl
theorem q2828 : (Jvm.Cond.instanceMethod ({ cls := "SearchHouseModel", name := "stemEd", desc := "()V" } : Jvm.MethodName)) ∈ lw_all := lw_g (lw_at lw_m11 176 rfl) rfl
theorem q2829 : (Jvm.Cond.code ({ cls := "SearchHouseModel", name := "stemEd", desc := "()V" } : Jvm.MethodName) prog_14_method_24_code (4 : Nat) (Option.none : Option Jvm.ClassFile.FieldType)) ∈ lw_all := lw_g (lw_at lw_m11 177 rfl) rfl
theorem q2830 : (Jvm.Cond.stringRef "SearchHouseModel" (499 : Nat) "eed") ∈ lw_tbl := lw_at lw_m11 178 rfl
theorem q2831 : (Jvm.Cond.methodLink "SearchHouseModel" (501 : Nat) ({ cls := "SearchHouseModel", name := "measure", desc := "(I)I" } : Jvm.MethodName)) ∈ lw_all := lw_g (lw_at lw_m11 179 rfl) rfl
theorem q2832 : (Jvm.Cond.privateMethod ({ cls := "SearchHouseModel", name := "measure", desc := "(I)I" } : Jvm.MethodName)) ∈ lw_tbl := lw_at lw_m11 180 rfl
theorem q2833 : (Jvm.Cond.instanceMethod ({ cls := "SearchHouseModel", name := "measure", desc := "(I)I" } : Jvm.MethodName)) ∈ lw_all := lw_g (lw_at lw_m11 181 rfl) rfl
theorem q2834 : (Jvm.Cond.code ({ cls := "SearchHouseModel", name := "measure", desc := "(I)I" } : Jvm.MethodName) prog_14_method_19_code (4 : Nat) (Option.some Jvm.ClassFile.FieldType.int)) ∈ lw_all := lw_g (lw_at lw_m11 182 rfl) rfl
theorem q2835 : (Jvm.Cond.methodLink "SearchHouseModel" (445 : Nat) ({ cls := "SearchHouseModel", name := "seeVowels", desc := "()V" } : Jvm.MethodName)) ∈ lw_all := lw_g (lw_at lw_m11 183 rfl) rfl
theorem q2836 : (Jvm.Cond.privateMethod ({ cls := "SearchHouseModel", name := "seeVowels", desc := "()V" } : Jvm.MethodName)) ∈ lw_tbl := lw_at lw_m11 184 rfl
theorem q2837 : (Jvm.Cond.instanceMethod ({ cls := "SearchHouseModel", name := "seeVowels", desc := "()V" } : Jvm.MethodName)) ∈ lw_all := lw_g (lw_at lw_m11 185 rfl) rfl
theorem q2838 : (Jvm.Cond.code ({ cls := "SearchHouseModel", name := "seeVowels", desc := "()V" } : Jvm.MethodName) prog_14_method_18_code (3 : Nat) (Option.none : Option Jvm.ClassFile.FieldType)) ∈ lw_all := lw_g (lw_at lw_m11 186 rfl) rfl
theorem q2839 : (Jvm.Cond.stringRef "SearchHouseModel" (505 : Nat) "ed") ∈ lw_tbl := lw_at lw_m11 187 rfl
theorem q2840 : (Jvm.Cond.stringRef "SearchHouseModel" (507 : Nat) "ing") ∈ lw_tbl := lw_at lw_m11 188 rfl
theorem q2841 : (Jvm.Cond.methodLink "SearchHouseModel" (491 : Nat) ({ cls := "SearchHouseModel", name := "hasVowel", desc := "(I)Z" } : Jvm.MethodName)) ∈ lw_all := lw_g (lw_at lw_m11 189 rfl) rfl
theorem q2842 : (Jvm.Cond.privateMethod ({ cls := "SearchHouseModel", name := "hasVowel", desc := "(I)Z" } : Jvm.MethodName)) ∈ lw_tbl := lw_at lw_m11 190 rfl
theorem q2843 : (Jvm.Cond.instanceMethod ({ cls := "SearchHouseModel", name := "hasVowel", desc := "(I)Z" } : Jvm.MethodName)) ∈ lw_all := lw_g (lw_at lw_m11 191 rfl) rfl
theorem q2844 : (Jvm.Cond.code ({ cls := "SearchHouseModel", name := "hasVowel", desc := "(I)Z" } : Jvm.MethodName) prog_14_method_20_code (4 : Nat) (Option.some Jvm.ClassFile.FieldType.boolean)) ∈ lw_all := lw_g (lw_at lw_m11 192 rfl) rfl
theorem q2845 : (Jvm.Cond.stringRef "SearchHouseModel" (509 : Nat) "at") ∈ lw_tbl := lw_at lw_m11 193 rfl
theorem q2846 : (Jvm.Cond.stringRef "SearchHouseModel" (511 : Nat) "bl") ∈ lw_tbl := lw_at lw_m11 194 rfl
theorem q2847 : (Jvm.Cond.stringRef "SearchHouseModel" (513 : Nat) "iz") ∈ lw_tbl := lw_at lw_m11 195 rfl
theorem q2848 : (Jvm.Cond.stringRef "SearchHouseModel" (494 : Nat) "i") ∈ lw_tbl := lw_at lw_m11 196 rfl
theorem q2849 : (Jvm.Cond.methodLink "SearchHouseModel" (496 : Nat) ({ cls := "SearchHouseModel", name := "stemEnds", desc := "()V" } : Jvm.MethodName)) ∈ lw_all := lw_g (lw_at lw_m11 197 rfl) rfl
theorem q2850 : (Jvm.Cond.privateMethod ({ cls := "SearchHouseModel", name := "stemEnds", desc := "()V" } : Jvm.MethodName)) ∈ lw_tbl := lw_at lw_m11 198 rfl
theorem q2851 : (Jvm.Cond.instanceMethod ({ cls := "SearchHouseModel", name := "stemEnds", desc := "()V" } : Jvm.MethodName)) ∈ lw_all := lw_g (lw_at lw_m11 199 rfl) rfl
theorem q2852 : (Jvm.Cond.code ({ cls := "SearchHouseModel", name := "stemEnds", desc := "()V" } : Jvm.MethodName) prog_14_method_25_code (5 : Nat) (Option.none : Option Jvm.ClassFile.FieldType)) ∈ lw_all := lw_g (lw_at lw_m11 200 rfl) rfl
theorem q2853 : (Jvm.Cond.stringRef "SearchHouseModel" (515 : Nat) "ational ate,tional tion,enci ence,anci ance,izer ize,alli al,ization ize,ation ate,ator ate,alism al,iveness ive,fulness ful,ousness ous,aliti al,iviti ive,biliti ble,icate ic,ative ,alize al,iciti ic,ical ic,ful ,ness ,") ∈ lw_tbl := lw_at lw_m11 201 rfl
theorem q2854 : (Jvm.Cond.methodLink "SearchHouseModel" (517 : Nat) ({ cls := "java/lang/String", name := "indexOf", desc := "(II)I" } : Jvm.MethodName)) ∈ lw_all := lw_g (lw_at lw_m11 202 rfl) rfl
theorem q2855 : (Jvm.Cond.methodLink "SearchHouseModel" (520 : Nat) ({ cls := "SearchHouseModel", name := "endsWithPart", desc := "(II)Z" } : Jvm.MethodName)) ∈ lw_all := lw_g (lw_at lw_m11 203 rfl) rfl
theorem q2856 : (Jvm.Cond.privateMethod ({ cls := "SearchHouseModel", name := "endsWithPart", desc := "(II)Z" } : Jvm.MethodName)) ∈ lw_tbl := lw_at lw_m11 204 rfl
theorem q2857 : (Jvm.Cond.instanceMethod ({ cls := "SearchHouseModel", name := "endsWithPart", desc := "(II)Z" } : Jvm.MethodName)) ∈ lw_all := lw_g (lw_at lw_m11 205 rfl) rfl
theorem q2858 : (Jvm.Cond.code ({ cls := "SearchHouseModel", name := "endsWithPart", desc := "(II)Z" } : Jvm.MethodName) prog_14_method_26_code (5 : Nat) (Option.some Jvm.ClassFile.FieldType.boolean)) ∈ lw_all := lw_g (lw_at lw_m11 206 rfl) rfl
theorem q2859 : (Jvm.Cond.methodLink "SearchHouseModel" (545 : Nat) ({ cls := "SearchHouseModel", name := "addWordToken", desc := "([BII)V" } : Jvm.MethodName)) ∈ lw_all := lw_g (lw_at lw_m11 207 rfl) rfl
theorem q2860 : (Jvm.Cond.privateMethod ({ cls := "SearchHouseModel", name := "addWordToken", desc := "([BII)V" } : Jvm.MethodName)) ∈ lw_tbl := lw_at lw_m11 208 rfl
theorem q2861 : (Jvm.Cond.instanceMethod ({ cls := "SearchHouseModel", name := "addWordToken", desc := "([BII)V" } : Jvm.MethodName)) ∈ lw_all := lw_g (lw_at lw_m11 209 rfl) rfl
theorem q2862 : (Jvm.Cond.code ({ cls := "SearchHouseModel", name := "addWordToken", desc := "([BII)V" } : Jvm.MethodName) prog_14_method_28_code (6 : Nat) (Option.none : Option Jvm.ClassFile.FieldType)) ∈ lw_all := lw_g (lw_at lw_m11 210 rfl) rfl
theorem q2863 : (Jvm.Cond.methodLink "SearchHouseModel" (524 : Nat) ({ cls := "java/lang/Math", name := "min", desc := "(II)I" } : Jvm.MethodName)) ∈ lw_all := lw_g (lw_at lw_m11 211 rfl) rfl
theorem q2864 : (Jvm.Cond.methodLink "SearchHouseModel" (532 : Nat) ({ cls := "SearchHouseModel", name := "isSameRow", desc := "([BII[BII)Z" } : Jvm.MethodName)) ∈ lw_all := lw_g (lw_at lw_m11 212 rfl) rfl
theorem q2865 : (Jvm.Cond.static ({ cls := "SearchHouseModel", name := "isSameRow", desc := "([BII[BII)Z" } : Jvm.MethodName)) ∈ lw_all := lw_g (lw_at lw_m11 213 rfl) rfl
theorem q2866 : (Jvm.Cond.code ({ cls := "SearchHouseModel", name := "isSameRow", desc := "([BII[BII)Z" } : Jvm.MethodName) prog_14_method_29_code (8 : Nat) (Option.some Jvm.ClassFile.FieldType.boolean)) ∈ lw_all := lw_g (lw_at lw_m11 214 rfl) rfl
theorem q2867 : (Jvm.Cond.methodLink "SearchHouseModel" (555 : Nat) ({ cls := "SearchHouseModel", name := "takeToken", desc := "(IIII)V" } : Jvm.MethodName)) ∈ lw_all := lw_g (lw_at lw_m11 215 rfl) rfl
theorem q2868 : (Jvm.Cond.privateMethod ({ cls := "SearchHouseModel", name := "takeToken", desc := "(IIII)V" } : Jvm.MethodName)) ∈ lw_tbl := lw_at lw_m11 216 rfl
theorem q2869 : (Jvm.Cond.instanceMethod ({ cls := "SearchHouseModel", name := "takeToken", desc := "(IIII)V" } : Jvm.MethodName)) ∈ lw_all := lw_g (lw_at lw_m11 217 rfl) rfl
theorem q2870 : (Jvm.Cond.code ({ cls := "SearchHouseModel", name := "takeToken", desc := "(IIII)V" } : Jvm.MethodName) prog_14_method_32_code (6 : Nat) (Option.none : Option Jvm.ClassFile.FieldType)) ∈ lw_all := lw_g (lw_at lw_m11 218 rfl) rfl
theorem q2871 : (Jvm.Cond.methodLink "SearchHouseLaw" (44 : Nat) ({ cls := "SearchHouseModel", name := "token", desc := "(II)I" } : Jvm.MethodName)) ∈ lw_all := lw_g (lw_at lw_m11 219 rfl) rfl
theorem q2872 : (Jvm.Cond.instanceMethod ({ cls := "SearchHouseModel", name := "token", desc := "(II)I" } : Jvm.MethodName)) ∈ lw_all := lw_g (lw_at lw_m11 220 rfl) rfl
theorem q2873 : (Jvm.Cond.selects "SearchHouseModel" ({ cls := "SearchHouseModel", name := "token", desc := "(II)I" } : Jvm.MethodName) ({ cls := "SearchHouseModel", name := "token", desc := "(II)I" } : Jvm.MethodName)) ∈ lw_all := lw_g (lw_at lw_m11 221 rfl) rfl
theorem q2874 : (Jvm.Cond.code ({ cls := "SearchHouseModel", name := "token", desc := "(II)I" } : Jvm.MethodName) prog_14_method_34_code (3 : Nat) (Option.some Jvm.ClassFile.FieldType.int)) ∈ lw_all := lw_g (lw_at lw_m11 222 rfl) rfl
theorem q2875 : (Jvm.Cond.methodLink "SearchHouseLaw" (48 : Nat) ({ cls := "SearchHouseModel", name := "letter", desc := "(II)I" } : Jvm.MethodName)) ∈ lw_all := lw_g (lw_at lw_m11 223 rfl) rfl
theorem q2876 : (Jvm.Cond.instanceMethod ({ cls := "SearchHouseModel", name := "letter", desc := "(II)I" } : Jvm.MethodName)) ∈ lw_all := lw_g (lw_at lw_m11 224 rfl) rfl
theorem q2877 : (Jvm.Cond.selects "SearchHouseModel" ({ cls := "SearchHouseModel", name := "letter", desc := "(II)I" } : Jvm.MethodName) ({ cls := "SearchHouseModel", name := "letter", desc := "(II)I" } : Jvm.MethodName)) ∈ lw_all := lw_g (lw_at lw_m11 225 rfl) rfl
theorem q2878 : (Jvm.Cond.code ({ cls := "SearchHouseModel", name := "letter", desc := "(II)I" } : Jvm.MethodName) prog_14_method_35_code (3 : Nat) (Option.some Jvm.ClassFile.FieldType.int)) ∈ lw_all := lw_g (lw_at lw_m11 226 rfl) rfl
theorem q2879 : (Jvm.Cond.methodLink "SearchHouseLaw" (52 : Nat) ({ cls := "SearchHouseModel", name := "field", desc := "(II)I" } : Jvm.MethodName)) ∈ lw_all := lw_g (lw_at lw_m11 227 rfl) rfl
theorem q2880 : (Jvm.Cond.instanceMethod ({ cls := "SearchHouseModel", name := "field", desc := "(II)I" } : Jvm.MethodName)) ∈ lw_all := lw_g (lw_at lw_m11 228 rfl) rfl
theorem q2881 : (Jvm.Cond.selects "SearchHouseModel" ({ cls := "SearchHouseModel", name := "field", desc := "(II)I" } : Jvm.MethodName) ({ cls := "SearchHouseModel", name := "field", desc := "(II)I" } : Jvm.MethodName)) ∈ lw_all := lw_g (lw_at lw_m11 229 rfl) rfl
theorem q2882 : (Jvm.Cond.code ({ cls := "SearchHouseModel", name := "field", desc := "(II)I" } : Jvm.MethodName) prog_14_method_38_code (3 : Nat) (Option.some Jvm.ClassFile.FieldType.int)) ∈ lw_all := lw_g (lw_at lw_m11 230 rfl) rfl
theorem q2883 : (Jvm.Cond.methodLink "SearchHouseLaw" (56 : Nat) ({ cls := "SearchHouseModel", name := "text", desc := "(I)I" } : Jvm.MethodName)) ∈ lw_all := lw_g (lw_at lw_m11 231 rfl) rfl
theorem q2884 : (Jvm.Cond.instanceMethod ({ cls := "SearchHouseModel", name := "text", desc := "(I)I" } : Jvm.MethodName)) ∈ lw_all := lw_g (lw_at lw_m11 232 rfl) rfl
theorem q2885 : (Jvm.Cond.selects "SearchHouseModel" ({ cls := "SearchHouseModel", name := "text", desc := "(I)I" } : Jvm.MethodName) ({ cls := "SearchHouseModel", name := "text", desc := "(I)I" } : Jvm.MethodName)) ∈ lw_all := lw_g (lw_at lw_m11 233 rfl) rfl
theorem q2886 : (Jvm.Cond.code ({ cls := "SearchHouseModel", name := "text", desc := "(I)I" } : Jvm.MethodName) prog_14_method_44_code (2 : Nat) (Option.some Jvm.ClassFile.FieldType.int)) ∈ lw_all := lw_g (lw_at lw_m11 234 rfl) rfl
theorem q2887 : (Jvm.Cond.methodLink "SearchHouseModel" (600 : Nat) ({ cls := "SearchHouseModel", name := "textOf", desc := "(I[BII)I" } : Jvm.MethodName)) ∈ lw_all := lw_g (lw_at lw_m11 235 rfl) rfl
theorem q2888 : (Jvm.Cond.privateMethod ({ cls := "SearchHouseModel", name := "textOf", desc := "(I[BII)I" } : Jvm.MethodName)) ∈ lw_tbl := lw_at lw_m11 236 rfl
theorem q2889 : (Jvm.Cond.instanceMethod ({ cls := "SearchHouseModel", name := "textOf", desc := "(I[BII)I" } : Jvm.MethodName)) ∈ lw_all := lw_g (lw_at lw_m11 237 rfl) rfl
theorem q2890 : (Jvm.Cond.code ({ cls := "SearchHouseModel", name := "textOf", desc := "(I[BII)I" } : Jvm.MethodName) prog_14_method_43_code (7 : Nat) (Option.some Jvm.ClassFile.FieldType.int)) ∈ lw_all := lw_g (lw_at lw_m11 238 rfl) rfl
theorem q2891 : (Jvm.Cond.methodLink "SearchHouseModel" (583 : Nat) ({ cls := "SearchHouseModel", name := "isOf", desc := "(II)Z" } : Jvm.MethodName)) ∈ lw_all := lw_g (lw_at lw_m11 239 rfl) rfl
theorem q2892 : (Jvm.Cond.privateMethod ({ cls := "SearchHouseModel", name := "isOf", desc := "(II)Z" } : Jvm.MethodName)) ∈ lw_tbl := lw_at lw_m12 0 rfl
theorem q2893 : (Jvm.Cond.instanceMethod ({ cls := "SearchHouseModel", name := "isOf", desc := "(II)Z" } : Jvm.MethodName)) ∈ lw_all := lw_g (lw_at lw_m12 1 rfl) rfl
theorem q2894 : (Jvm.Cond.code ({ cls := "SearchHouseModel", name := "isOf", desc := "(II)Z" } : Jvm.MethodName) prog_14_method_37_code (3 : Nat) (Option.some Jvm.ClassFile.FieldType.boolean)) ∈ lw_all := lw_g (lw_at lw_m12 2 rfl) rfl
theorem q2895 : (Jvm.Cond.methodLink "SearchHouseModel" (568 : Nat) ({ cls := "SearchHouseModel", name := "isField", desc := "(I)Z" } : Jvm.MethodName)) ∈ lw_all := lw_g (lw_at lw_m12 3 rfl) rfl
theorem q2896 : (Jvm.Cond.privateMethod ({ cls := "SearchHouseModel", name := "isField", desc := "(I)Z" } : Jvm.MethodName)) ∈ lw_tbl := lw_at lw_m12 4 rfl
theorem q2897 : (Jvm.Cond.instanceMethod ({ cls := "SearchHouseModel", name := "isField", desc := "(I)Z" } : Jvm.MethodName)) ∈ lw_all := lw_g (lw_at lw_m12 5 rfl) rfl
theorem q2898 : (Jvm.Cond.code ({ cls := "SearchHouseModel", name := "isField", desc := "(I)Z" } : Jvm.MethodName) prog_14_method_36_code (2 : Nat) (Option.some Jvm.ClassFile.FieldType.boolean)) ∈ lw_all := lw_g (lw_at lw_m12 6 rfl) rfl
theorem q2899 : (Jvm.Cond.methodLink "SearchHouseModel" (586 : Nat) ({ cls := "SearchHouseModel", name := "isFull", desc := "(II)Z" } : Jvm.MethodName)) ∈ lw_all := lw_g (lw_at lw_m12 7 rfl) rfl
theorem q2900 : (Jvm.Cond.privateMethod ({ cls := "SearchHouseModel", name := "isFull", desc := "(II)Z" } : Jvm.MethodName)) ∈ lw_tbl := lw_at lw_m12 8 rfl
theorem q2901 : (Jvm.Cond.instanceMethod ({ cls := "SearchHouseModel", name := "isFull", desc := "(II)Z" } : Jvm.MethodName)) ∈ lw_all := lw_g (lw_at lw_m12 9 rfl) rfl
theorem q2902 : (Jvm.Cond.code ({ cls := "SearchHouseModel", name := "isFull", desc := "(II)Z" } : Jvm.MethodName) prog_14_method_39_code (3 : Nat) (Option.some Jvm.ClassFile.FieldType.boolean)) ∈ lw_all := lw_g (lw_at lw_m12 10 rfl) rfl
theorem q2903 : (Jvm.Cond.methodLink "SearchHouseModel" (589 : Nat) ({ cls := "SearchHouseModel", name := "begin", desc := "(I)V" } : Jvm.MethodName)) ∈ lw_all := lw_g (lw_at lw_m12 11 rfl) rfl
theorem q2904 : (Jvm.Cond.privateMethod ({ cls := "SearchHouseModel", name := "begin", desc := "(I)V" } : Jvm.MethodName)) ∈ lw_tbl := lw_at lw_m12 12 rfl
theorem q2905 : (Jvm.Cond.instanceMethod ({ cls := "SearchHouseModel", name := "begin", desc := "(I)V" } : Jvm.MethodName)) ∈ lw_all := lw_g (lw_at lw_m12 13 rfl) rfl
theorem q2906 : (Jvm.Cond.code ({ cls := "SearchHouseModel", name := "begin", desc := "(I)V" } : Jvm.MethodName) prog_14_method_40_code (2 : Nat) (Option.none : Option Jvm.ClassFile.FieldType)) ∈ lw_all := lw_g (lw_at lw_m12 14 rfl) rfl
theorem q2907 : (Jvm.Cond.methodLink "SearchHouseModel" (593 : Nat) ({ cls := "SearchHouseModel", name := "layTerm", desc := "([BIIIII)V" } : Jvm.MethodName)) ∈ lw_all := lw_g (lw_at lw_m12 15 rfl) rfl
theorem q2908 : (Jvm.Cond.privateMethod ({ cls := "SearchHouseModel", name := "layTerm", desc := "([BIIIII)V" } : Jvm.MethodName)) ∈ lw_tbl := lw_at lw_m12 16 rfl
theorem q2909 : (Jvm.Cond.instanceMethod ({ cls := "SearchHouseModel", name := "layTerm", desc := "([BIIIII)V" } : Jvm.MethodName)) ∈ lw_all := lw_g (lw_at lw_m12 17 rfl) rfl
theorem q2910 : (Jvm.Cond.code ({ cls := "SearchHouseModel", name := "layTerm", desc := "([BIIIII)V" } : Jvm.MethodName) prog_14_method_42_code (8 : Nat) (Option.none : Option Jvm.ClassFile.FieldType)) ∈ lw_all := lw_g (lw_at lw_m12 18 rfl) rfl
theorem q2911 : (Jvm.Cond.methodLink "SearchHouseModel" (597 : Nat) ({ cls := "SearchHouseModel", name := "end", desc := "()I" } : Jvm.MethodName)) ∈ lw_all := lw_g (lw_at lw_m12 19 rfl) rfl
theorem q2912 : (Jvm.Cond.privateMethod ({ cls := "SearchHouseModel", name := "end", desc := "()I" } : Jvm.MethodName)) ∈ lw_tbl := lw_at lw_m12 20 rfl
theorem q2913 : (Jvm.Cond.instanceMethod ({ cls := "SearchHouseModel", name := "end", desc := "()I" } : Jvm.MethodName)) ∈ lw_all := lw_g (lw_at lw_m12 21 rfl) rfl
theorem q2914 : (Jvm.Cond.code ({ cls := "SearchHouseModel", name := "end", desc := "()I" } : Jvm.MethodName) prog_14_method_41_code (1 : Nat) (Option.some Jvm.ClassFile.FieldType.int)) ∈ lw_all := lw_g (lw_at lw_m12 22 rfl) rfl
theorem q2915 : (Jvm.Cond.methodLink "SearchHouseLaw" (63 : Nat) ({ cls := "SearchHouseModel", name := "number", desc := "(IJ)I" } : Jvm.MethodName)) ∈ lw_all := lw_g (lw_at lw_m12 23 rfl) rfl
theorem q2916 : (Jvm.Cond.instanceMethod ({ cls := "SearchHouseModel", name := "number", desc := "(IJ)I" } : Jvm.MethodName)) ∈ lw_all := lw_g (lw_at lw_m12 24 rfl) rfl
theorem q2917 : (Jvm.Cond.selects "SearchHouseModel" ({ cls := "SearchHouseModel", name := "number", desc := "(IJ)I" } : Jvm.MethodName) ({ cls := "SearchHouseModel", name := "number", desc := "(IJ)I" } : Jvm.MethodName)) ∈ lw_all := lw_g (lw_at lw_m12 25 rfl) rfl
theorem q2918 : (Jvm.Cond.code ({ cls := "SearchHouseModel", name := "number", desc := "(IJ)I" } : Jvm.MethodName) prog_14_method_45_code (4 : Nat) (Option.some Jvm.ClassFile.FieldType.int)) ∈ lw_all := lw_g (lw_at lw_m12 26 rfl) rfl
theorem q2919 : (Jvm.Cond.methodLink "SearchHouseLaw" (67 : Nat) ({ cls := "SearchHouseModel", name := "place", desc := "(III)I" } : Jvm.MethodName)) ∈ lw_all := lw_g (lw_at lw_m12 27 rfl) rfl
theorem q2920 : (Jvm.Cond.instanceMethod ({ cls := "SearchHouseModel", name := "place", desc := "(III)I" } : Jvm.MethodName)) ∈ lw_all := lw_g (lw_at lw_m12 28 rfl) rfl
theorem q2921 : (Jvm.Cond.selects "SearchHouseModel" ({ cls := "SearchHouseModel", name := "place", desc := "(III)I" } : Jvm.MethodName) ({ cls := "SearchHouseModel", name := "place", desc := "(III)I" } : Jvm.MethodName)) ∈ lw_all := lw_g (lw_at lw_m12 29 rfl) rfl
theorem q2922 : (Jvm.Cond.code ({ cls := "SearchHouseModel", name := "place", desc := "(III)I" } : Jvm.MethodName) prog_14_method_47_code (4 : Nat) (Option.some Jvm.ClassFile.FieldType.int)) ∈ lw_all := lw_g (lw_at lw_m12 30 rfl) rfl
theorem q2923 : (Jvm.Cond.constant "SearchHouseModel" (603 : Nat) (1000000 : Int32)) ∈ lw_all := lw_g (lw_at lw_m12 31 rfl) rfl
theorem q2924 : (Jvm.Cond.methodLink "SearchHouseModel" (604 : Nat) ({ cls := "SearchHouseModel", name := "isWithin", desc := "(II)Z" } : Jvm.MethodName)) ∈ lw_all := lw_g (lw_at lw_m12 32 rfl) rfl
theorem q2925 : (Jvm.Cond.static ({ cls := "SearchHouseModel", name := "isWithin", desc := "(II)Z" } : Jvm.MethodName)) ∈ lw_all := lw_g (lw_at lw_m12 33 rfl) rfl
theorem q2926 : (Jvm.Cond.code ({ cls := "SearchHouseModel", name := "isWithin", desc := "(II)Z" } : Jvm.MethodName) prog_14_method_46_code (2 : Nat) (Option.some Jvm.ClassFile.FieldType.boolean)) ∈ lw_all := lw_g (lw_at lw_m12 34 rfl) rfl
theorem q2927 : (Jvm.Cond.methodLink "SearchHouseModel" (607 : Nat) ({ cls := "SearchHouseModel", name := "fourOf", desc := "(IIIII)I" } : Jvm.MethodName)) ∈ lw_all := lw_g (lw_at lw_m12 35 rfl) rfl
theorem q2928 : (Jvm.Cond.privateMethod ({ cls := "SearchHouseModel", name := "fourOf", desc := "(IIIII)I" } : Jvm.MethodName)) ∈ lw_tbl := lw_at lw_m12 36 rfl
theorem q2929 : (Jvm.Cond.instanceMethod ({ cls := "SearchHouseModel", name := "fourOf", desc := "(IIIII)I" } : Jvm.MethodName)) ∈ lw_all := lw_g (lw_at lw_m12 37 rfl) rfl
theorem q2930 : (Jvm.Cond.code ({ cls := "SearchHouseModel", name := "fourOf", desc := "(IIIII)I" } : Jvm.MethodName) prog_14_method_48_code (6 : Nat) (Option.some Jvm.ClassFile.FieldType.int)) ∈ lw_all := lw_g (lw_at lw_m12 38 rfl) rfl
theorem q2931 : (Jvm.Cond.methodLink "SearchHouseLaw" (71 : Nat) ({ cls := "SearchHouseModel", name := "row", desc := "(IIIII)I" } : Jvm.MethodName)) ∈ lw_all := lw_g (lw_at lw_m12 39 rfl) rfl
theorem q2932 : (Jvm.Cond.instanceMethod ({ cls := "SearchHouseModel", name := "row", desc := "(IIIII)I" } : Jvm.MethodName)) ∈ lw_all := lw_g (lw_at lw_m12 40 rfl) rfl
theorem q2933 : (Jvm.Cond.selects "SearchHouseModel" ({ cls := "SearchHouseModel", name := "row", desc := "(IIIII)I" } : Jvm.MethodName) ({ cls := "SearchHouseModel", name := "row", desc := "(IIIII)I" } : Jvm.MethodName)) ∈ lw_all := lw_g (lw_at lw_m12 41 rfl) rfl
theorem q2934 : (Jvm.Cond.code ({ cls := "SearchHouseModel", name := "row", desc := "(IIIII)I" } : Jvm.MethodName) prog_14_method_50_code (6 : Nat) (Option.some Jvm.ClassFile.FieldType.int)) ∈ lw_all := lw_g (lw_at lw_m12 42 rfl) rfl
theorem q2935 : (Jvm.Cond.methodLink "SearchHouseModel" (611 : Nat) ({ cls := "SearchHouseModel", name := "isRow", desc := "(IIII)Z" } : Jvm.MethodName)) ∈ lw_all := lw_g (lw_at lw_m12 43 rfl) rfl
theorem q2936 : (Jvm.Cond.static ({ cls := "SearchHouseModel", name := "isRow", desc := "(IIII)Z" } : Jvm.MethodName)) ∈ lw_all := lw_g (lw_at lw_m12 44 rfl) rfl
theorem q2937 : (Jvm.Cond.code ({ cls := "SearchHouseModel", name := "isRow", desc := "(IIII)Z" } : Jvm.MethodName) prog_14_method_49_code (4 : Nat) (Option.some Jvm.ClassFile.FieldType.boolean)) ∈ lw_all := lw_g (lw_at lw_m12 45 rfl) rfl
theorem q2938 : (Jvm.Cond.methodLink "SearchHouseLaw" (76 : Nat) ({ cls := "SearchHouseModel", name := "discard", desc := "()I" } : Jvm.MethodName)) ∈ lw_all := lw_g (lw_at lw_m12 46 rfl) rfl
theorem q2939 : (Jvm.Cond.instanceMethod ({ cls := "SearchHouseModel", name := "discard", desc := "()I" } : Jvm.MethodName)) ∈ lw_all := lw_g (lw_at lw_m12 47 rfl) rfl
theorem q2940 : (Jvm.Cond.selects "SearchHouseModel" ({ cls := "SearchHouseModel", name := "discard", desc := "()I" } : Jvm.MethodName) ({ cls := "SearchHouseModel", name := "discard", desc := "()I" } : Jvm.MethodName)) ∈ lw_all := lw_g (lw_at lw_m12 48 rfl) rfl
theorem q2941 : (Jvm.Cond.code ({ cls := "SearchHouseModel", name := "discard", desc := "()I" } : Jvm.MethodName) prog_14_method_52_code (2 : Nat) (Option.some Jvm.ClassFile.FieldType.int)) ∈ lw_all := lw_g (lw_at lw_m12 49 rfl) rfl
theorem q2942 : (Jvm.Cond.methodLink "SearchHouseModel" (615 : Nat) ({ cls := "SearchHouseModel", name := "truncate", desc := "(I)V" } : Jvm.MethodName)) ∈ lw_all := lw_g (lw_at lw_m12 50 rfl) rfl
theorem q2943 : (Jvm.Cond.privateMethod ({ cls := "SearchHouseModel", name := "truncate", desc := "(I)V" } : Jvm.MethodName)) ∈ lw_tbl := lw_at lw_m12 51 rfl
theorem q2944 : (Jvm.Cond.instanceMethod ({ cls := "SearchHouseModel", name := "truncate", desc := "(I)V" } : Jvm.MethodName)) ∈ lw_all := lw_g (lw_at lw_m12 52 rfl) rfl
theorem q2945 : (Jvm.Cond.code ({ cls := "SearchHouseModel", name := "truncate", desc := "(I)V" } : Jvm.MethodName) prog_14_method_51_code (2 : Nat) (Option.none : Option Jvm.ClassFile.FieldType)) ∈ lw_all := lw_g (lw_at lw_m12 53 rfl) rfl
theorem q2946 : (Jvm.Cond.methodLink "SearchHouseLaw" (80 : Nat) ({ cls := "SearchHouseModel", name := "add", desc := "(I)I" } : Jvm.MethodName)) ∈ lw_all := lw_g (lw_at lw_m12 54 rfl) rfl
theorem q2947 : (Jvm.Cond.instanceMethod ({ cls := "SearchHouseModel", name := "add", desc := "(I)I" } : Jvm.MethodName)) ∈ lw_all := lw_g (lw_at lw_m12 55 rfl) rfl
theorem q2948 : (Jvm.Cond.selects "SearchHouseModel" ({ cls := "SearchHouseModel", name := "add", desc := "(I)I" } : Jvm.MethodName) ({ cls := "SearchHouseModel", name := "add", desc := "(I)I" } : Jvm.MethodName)) ∈ lw_all := lw_g (lw_at lw_m12 56 rfl) rfl
theorem q2949 : (Jvm.Cond.code ({ cls := "SearchHouseModel", name := "add", desc := "(I)I" } : Jvm.MethodName) prog_14_method_55_code (2 : Nat) (Option.some Jvm.ClassFile.FieldType.int)) ∈ lw_all := lw_g (lw_at lw_m12 57 rfl) rfl
theorem q2950 : (Jvm.Cond.methodLink "SearchHouseModel" (622 : Nat) ({ cls := "SearchHouseModel", name := "isThere", desc := "(I)Z" } : Jvm.MethodName)) ∈ lw_all := lw_g (lw_at lw_m12 58 rfl) rfl
theorem q2951 : (Jvm.Cond.privateMethod ({ cls := "SearchHouseModel", name := "isThere", desc := "(I)Z" } : Jvm.MethodName)) ∈ lw_tbl := lw_at lw_m12 59 rfl
theorem q2952 : (Jvm.Cond.instanceMethod ({ cls := "SearchHouseModel", name := "isThere", desc := "(I)Z" } : Jvm.MethodName)) ∈ lw_all := lw_g (lw_at lw_m12 60 rfl) rfl
theorem q2953 : (Jvm.Cond.code ({ cls := "SearchHouseModel", name := "isThere", desc := "(I)Z" } : Jvm.MethodName) prog_14_method_53_code (2 : Nat) (Option.some Jvm.ClassFile.FieldType.boolean)) ∈ lw_all := lw_g (lw_at lw_m12 61 rfl) rfl
theorem q2954 : (Jvm.Cond.constant "SearchHouseModel" (621 : Nat) (2147483647 : Int32)) ∈ lw_all := lw_g (lw_at lw_m12 62 rfl) rfl
theorem q2955 : (Jvm.Cond.methodLink "SearchHouseModel" (625 : Nat) ({ cls := "SearchHouseModel", name := "depth", desc := "(I)I" } : Jvm.MethodName)) ∈ lw_all := lw_g (lw_at lw_m12 63 rfl) rfl
theorem q2956 : (Jvm.Cond.privateMethod ({ cls := "SearchHouseModel", name := "depth", desc := "(I)I" } : Jvm.MethodName)) ∈ lw_tbl := lw_at lw_m12 64 rfl
theorem q2957 : (Jvm.Cond.instanceMethod ({ cls := "SearchHouseModel", name := "depth", desc := "(I)I" } : Jvm.MethodName)) ∈ lw_all := lw_g (lw_at lw_m12 65 rfl) rfl
theorem q2958 : (Jvm.Cond.code ({ cls := "SearchHouseModel", name := "depth", desc := "(I)I" } : Jvm.MethodName) prog_14_method_54_code (4 : Nat) (Option.some Jvm.ClassFile.FieldType.int)) ∈ lw_all := lw_g (lw_at lw_m12 66 rfl) rfl
theorem q2959 : (Jvm.Cond.methodLink "SearchHouseModel" (631 : Nat) ({ cls := "SearchHouseModel", name := "layObject", desc := "(III)V" } : Jvm.MethodName)) ∈ lw_all := lw_g (lw_at lw_m12 67 rfl) rfl
theorem q2960 : (Jvm.Cond.privateMethod ({ cls := "SearchHouseModel", name := "layObject", desc := "(III)V" } : Jvm.MethodName)) ∈ lw_tbl := lw_at lw_m12 68 rfl
theorem q2961 : (Jvm.Cond.instanceMethod ({ cls := "SearchHouseModel", name := "layObject", desc := "(III)V" } : Jvm.MethodName)) ∈ lw_all := lw_g (lw_at lw_m12 69 rfl) rfl
theorem q2962 : (Jvm.Cond.code ({ cls := "SearchHouseModel", name := "layObject", desc := "(III)V" } : Jvm.MethodName) prog_14_method_56_code (4 : Nat) (Option.none : Option Jvm.ClassFile.FieldType)) ∈ lw_all := lw_g (lw_at lw_m12 70 rfl) rfl
theorem q2963 : (Jvm.Cond.methodLink "SearchHouseLaw" (84 : Nat) ({ cls := "SearchHouseModel", name := "remove", desc := "(I)I" } : Jvm.MethodName)) ∈ lw_all := lw_g (lw_at lw_m12 71 rfl) rfl
theorem q2964 : (Jvm.Cond.instanceMethod ({ cls := "SearchHouseModel", name := "remove", desc := "(I)I" } : Jvm.MethodName)) ∈ lw_all := lw_g (lw_at lw_m12 72 rfl) rfl
theorem q2965 : (Jvm.Cond.selects "SearchHouseModel" ({ cls := "SearchHouseModel", name := "remove", desc := "(I)I" } : Jvm.MethodName) ({ cls := "SearchHouseModel", name := "remove", desc := "(I)I" } : Jvm.MethodName)) ∈ lw_all := lw_g (lw_at lw_m12 73 rfl) rfl
theorem q2966 : (Jvm.Cond.code ({ cls := "SearchHouseModel", name := "remove", desc := "(I)I" } : Jvm.MethodName) prog_14_method_57_code (4 : Nat) (Option.some Jvm.ClassFile.FieldType.int)) ∈ lw_all := lw_g (lw_at lw_m12 74 rfl) rfl
theorem q2967 : (Jvm.Cond.methodLink "SearchHouseModel" (635 : Nat) ({ cls := "SearchHouseModel", name := "isBelow", desc := "(II)Z" } : Jvm.MethodName)) ∈ lw_all := lw_g (lw_at lw_m12 75 rfl) rfl
theorem q2968 : (Jvm.Cond.privateMethod ({ cls := "SearchHouseModel", name := "isBelow", desc := "(II)Z" } : Jvm.MethodName)) ∈ lw_tbl := lw_at lw_m12 76 rfl
theorem q2969 : (Jvm.Cond.instanceMethod ({ cls := "SearchHouseModel", name := "isBelow", desc := "(II)Z" } : Jvm.MethodName)) ∈ lw_all := lw_g (lw_at lw_m12 77 rfl) rfl
theorem q2970 : (Jvm.Cond.code ({ cls := "SearchHouseModel", name := "isBelow", desc := "(II)Z" } : Jvm.MethodName) prog_14_method_58_code (4 : Nat) (Option.some Jvm.ClassFile.FieldType.boolean)) ∈ lw_all := lw_g (lw_at lw_m12 78 rfl) rfl
theorem q2971 : (Jvm.Cond.methodLink "SearchHouseLaw" (88 : Nat) ({ cls := "SearchHouseModel", name := "refresh", desc := "()I" } : Jvm.MethodName)) ∈ lw_all := lw_g (lw_at lw_m12 79 rfl) rfl
theorem q2972 : (Jvm.Cond.instanceMethod ({ cls := "SearchHouseModel", name := "refresh", desc := "()I" } : Jvm.MethodName)) ∈ lw_all := lw_g (lw_at lw_m12 80 rfl) rfl
theorem q2973 : (Jvm.Cond.selects "SearchHouseModel" ({ cls := "SearchHouseModel", name := "refresh", desc := "()I" } : Jvm.MethodName) ({ cls := "SearchHouseModel", name := "refresh", desc := "()I" } : Jvm.MethodName)) ∈ lw_all := lw_g (lw_at lw_m12 81 rfl) rfl
theorem q2974 : (Jvm.Cond.code ({ cls := "SearchHouseModel", name := "refresh", desc := "()I" } : Jvm.MethodName) prog_14_method_61_code (1 : Nat) (Option.some Jvm.ClassFile.FieldType.int)) ∈ lw_all := lw_g (lw_at lw_m12 82 rfl) rfl
theorem q2975 : (Jvm.Cond.methodLink "SearchHouseModel" (641 : Nat) ({ cls := "SearchHouseModel", name := "noHits", desc := "()V" } : Jvm.MethodName)) ∈ lw_all := lw_g (lw_at lw_m12 83 rfl) rfl
theorem q2976 : (Jvm.Cond.privateMethod ({ cls := "SearchHouseModel", name := "noHits", desc := "()V" } : Jvm.MethodName)) ∈ lw_tbl := lw_at lw_m12 84 rfl
theorem q2977 : (Jvm.Cond.instanceMethod ({ cls := "SearchHouseModel", name := "noHits", desc := "()V" } : Jvm.MethodName)) ∈ lw_all := lw_g (lw_at lw_m12 85 rfl) rfl
theorem q2978 : (Jvm.Cond.code ({ cls := "SearchHouseModel", name := "noHits", desc := "()V" } : Jvm.MethodName) prog_14_method_147_code (1 : Nat) (Option.none : Option Jvm.ClassFile.FieldType)) ∈ lw_all := lw_g (lw_at lw_m12 86 rfl) rfl
theorem q2979 : (Jvm.Cond.methodLink "SearchHouseModel" (644 : Nat) ({ cls := "SearchHouseModel", name := "next", desc := "()I" } : Jvm.MethodName)) ∈ lw_all := lw_g (lw_at lw_m12 87 rfl) rfl
theorem q2980 : (Jvm.Cond.privateMethod ({ cls := "SearchHouseModel", name := "next", desc := "()I" } : Jvm.MethodName)) ∈ lw_tbl := lw_at lw_m12 88 rfl
theorem q2981 : (Jvm.Cond.instanceMethod ({ cls := "SearchHouseModel", name := "next", desc := "()I" } : Jvm.MethodName)) ∈ lw_all := lw_g (lw_at lw_m12 89 rfl) rfl
theorem q2982 : (Jvm.Cond.code ({ cls := "SearchHouseModel", name := "next", desc := "()I" } : Jvm.MethodName) prog_14_method_60_code (1 : Nat) (Option.some Jvm.ClassFile.FieldType.int)) ∈ lw_all := lw_g (lw_at lw_m12 90 rfl) rfl
theorem q2983 : (Jvm.Cond.methodLink "SearchHouseLaw" (92 : Nat) ({ cls := "SearchHouseModel", name := "pin", desc := "()I" } : Jvm.MethodName)) ∈ lw_all := lw_g (lw_at lw_m12 91 rfl) rfl
theorem q2984 : (Jvm.Cond.instanceMethod ({ cls := "SearchHouseModel", name := "pin", desc := "()I" } : Jvm.MethodName)) ∈ lw_all := lw_g (lw_at lw_m12 92 rfl) rfl
theorem q2985 : (Jvm.Cond.selects "SearchHouseModel" ({ cls := "SearchHouseModel", name := "pin", desc := "()I" } : Jvm.MethodName) ({ cls := "SearchHouseModel", name := "pin", desc := "()I" } : Jvm.MethodName)) ∈ lw_all := lw_g (lw_at lw_m12 93 rfl) rfl
theorem q2986 : (Jvm.Cond.code ({ cls := "SearchHouseModel", name := "pin", desc := "()I" } : Jvm.MethodName) prog_14_method_62_code (2 : Nat) (Option.some Jvm.ClassFile.FieldType.int)) ∈ lw_all := lw_g (lw_at lw_m12 94 rfl) rfl
theorem q2987 : (Jvm.Cond.methodLink "SearchHouseLaw" (96 : Nat) ({ cls := "SearchHouseModel", name := "unpin", desc := "(I)I" } : Jvm.MethodName)) ∈ lw_all := lw_g (lw_at lw_m12 95 rfl) rfl
theorem q2988 : (Jvm.Cond.instanceMethod ({ cls := "SearchHouseModel", name := "unpin", desc := "(I)I" } : Jvm.MethodName)) ∈ lw_all := lw_g (lw_at lw_m12 96 rfl) rfl
theorem q2989 : (Jvm.Cond.selects "SearchHouseModel" ({ cls := "SearchHouseModel", name := "unpin", desc := "(I)I" } : Jvm.MethodName) ({ cls := "SearchHouseModel", name := "unpin", desc := "(I)I" } : Jvm.MethodName)) ∈ lw_all := lw_g (lw_at lw_m12 97 rfl) rfl
theorem q2990 : (Jvm.Cond.code ({ cls := "SearchHouseModel", name := "unpin", desc := "(I)I" } : Jvm.MethodName) prog_14_method_63_code (3 : Nat) (Option.some Jvm.ClassFile.FieldType.int)) ∈ lw_all := lw_g (lw_at lw_m12 98 rfl) rfl
theorem q2991 : (Jvm.Cond.methodLink "SearchHouseLaw" (100 : Nat) ({ cls := "SearchHouseModel", name := "sweep", desc := "()I" } : Jvm.MethodName)) ∈ lw_all := lw_g (lw_at lw_m12 99 rfl) rfl
theorem q2992 : (Jvm.Cond.instanceMethod ({ cls := "SearchHouseModel", name := "sweep", desc := "()I" } : Jvm.MethodName)) ∈ lw_all := lw_g (lw_at lw_m12 100 rfl) rfl
theorem q2993 : (Jvm.Cond.selects "SearchHouseModel" ({ cls := "SearchHouseModel", name := "sweep", desc := "()I" } : Jvm.MethodName) ({ cls := "SearchHouseModel", name := "sweep", desc := "()I" } : Jvm.MethodName)) ∈ lw_all := lw_g (lw_at lw_m12 101 rfl) rfl
theorem q2994 : (Jvm.Cond.code ({ cls := "SearchHouseModel", name := "sweep", desc := "()I" } : Jvm.MethodName) prog_14_method_65_code (3 : Nat) (Option.some Jvm.ClassFile.FieldType.int)) ∈ lw_all := lw_g (lw_at lw_m12 102 rfl) rfl
theorem q2995 : (Jvm.Cond.methodLink "SearchHouseModel" (653 : Nat) ({ cls := "SearchHouseModel", name := "isKept", desc := "(I)Z" } : Jvm.MethodName)) ∈ lw_all := lw_g (lw_at lw_m12 103 rfl) rfl
theorem q2996 : (Jvm.Cond.privateMethod ({ cls := "SearchHouseModel", name := "isKept", desc := "(I)Z" } : Jvm.MethodName)) ∈ lw_tbl := lw_at lw_m12 104 rfl
theorem q2997 : (Jvm.Cond.instanceMethod ({ cls := "SearchHouseModel", name := "isKept", desc := "(I)Z" } : Jvm.MethodName)) ∈ lw_all := lw_g (lw_at lw_m12 105 rfl) rfl
theorem q2998 : (Jvm.Cond.code ({ cls := "SearchHouseModel", name := "isKept", desc := "(I)Z" } : Jvm.MethodName) prog_14_method_64_code (4 : Nat) (Option.some Jvm.ClassFile.FieldType.boolean)) ∈ lw_all := lw_g (lw_at lw_m12 106 rfl) rfl
theorem q2999 : (Jvm.Cond.methodLink "SearchHouseModel" (647 : Nat) ({ cls := "SearchHouseModel", name := "isIn", desc := "(II)Z" } : Jvm.MethodName)) ∈ lw_all := lw_g (lw_at lw_m12 107 rfl) rfl
theorem q3000 : (Jvm.Cond.privateMethod ({ cls := "SearchHouseModel", name := "isIn", desc := "(II)Z" } : Jvm.MethodName)) ∈ lw_tbl := lw_at lw_m12 108 rfl
theorem q3001 : (Jvm.Cond.instanceMethod ({ cls := "SearchHouseModel", name := "isIn", desc := "(II)Z" } : Jvm.MethodName)) ∈ lw_all := lw_g (lw_at lw_m12 109 rfl) rfl
theorem q3002 : (Jvm.Cond.code ({ cls := "SearchHouseModel", name := "isIn", desc := "(II)Z" } : Jvm.MethodName) prog_14_method_59_code (3 : Nat) (Option.some Jvm.ClassFile.FieldType.boolean)) ∈ lw_all := lw_g (lw_at lw_m12 110 rfl) rfl
theorem q3003 : (Jvm.Cond.methodLink "SearchHouseModel" (656 : Nat) ({ cls := "SearchHouseModel", name := "pack", desc := "()V" } : Jvm.MethodName)) ∈ lw_all := lw_g (lw_at lw_m12 111 rfl) rfl
theorem q3004 : (Jvm.Cond.privateMethod ({ cls := "SearchHouseModel", name := "pack", desc := "()V" } : Jvm.MethodName)) ∈ lw_tbl := lw_at lw_m12 112 rfl
theorem q3005 : (Jvm.Cond.instanceMethod ({ cls := "SearchHouseModel", name := "pack", desc := "()V" } : Jvm.MethodName)) ∈ lw_all := lw_g (lw_at lw_m12 113 rfl) rfl
theorem q3006 : (Jvm.Cond.code ({ cls := "SearchHouseModel", name := "pack", desc := "()V" } : Jvm.MethodName) prog_14_method_66_code (14 : Nat) (Option.none : Option Jvm.ClassFile.FieldType)) ∈ lw_all := lw_g (lw_at lw_m12 114 rfl) rfl
theorem q3007 : (Jvm.Cond.methodLink "SearchHouseModel" (659 : Nat) ({ cls := "SearchHouseModel", name := "moveValue", desc := "(III)V" } : Jvm.MethodName)) ∈ lw_all := lw_g (lw_at lw_m12 115 rfl) rfl
theorem q3008 : (Jvm.Cond.privateMethod ({ cls := "SearchHouseModel", name := "moveValue", desc := "(III)V" } : Jvm.MethodName)) ∈ lw_tbl := lw_at lw_m12 116 rfl
theorem q3009 : (Jvm.Cond.instanceMethod ({ cls := "SearchHouseModel", name := "moveValue", desc := "(III)V" } : Jvm.MethodName)) ∈ lw_all := lw_g (lw_at lw_m12 117 rfl) rfl
theorem q3010 : (Jvm.Cond.code ({ cls := "SearchHouseModel", name := "moveValue", desc := "(III)V" } : Jvm.MethodName) prog_14_method_67_code (5 : Nat) (Option.none : Option Jvm.ClassFile.FieldType)) ∈ lw_all := lw_g (lw_at lw_m12 118 rfl) rfl
theorem q3011 : (Jvm.Cond.methodLink "SearchHouseModel" (662 : Nat) ({ cls := "SearchHouseModel", name := "moveTerm", desc := "(II)V" } : Jvm.MethodName)) ∈ lw_all := lw_g (lw_at lw_m12 119 rfl) rfl
theorem q3012 : (Jvm.Cond.privateMethod ({ cls := "SearchHouseModel", name := "moveTerm", desc := "(II)V" } : Jvm.MethodName)) ∈ lw_tbl := lw_at lw_m12 120 rfl
theorem q3013 : (Jvm.Cond.instanceMethod ({ cls := "SearchHouseModel", name := "moveTerm", desc := "(II)V" } : Jvm.MethodName)) ∈ lw_all := lw_g (lw_at lw_m12 121 rfl) rfl
theorem q3014 : (Jvm.Cond.code ({ cls := "SearchHouseModel", name := "moveTerm", desc := "(II)V" } : Jvm.MethodName) prog_14_method_68_code (4 : Nat) (Option.none : Option Jvm.ClassFile.FieldType)) ∈ lw_all := lw_g (lw_at lw_m12 122 rfl) rfl
theorem q3015 : (Jvm.Cond.methodLink "SearchHouseLaw" (104 : Nat) ({ cls := "SearchHouseModel", name := "commit", desc := "()I" } : Jvm.MethodName)) ∈ lw_all := lw_g (lw_at lw_m12 123 rfl) rfl
theorem q3016 : (Jvm.Cond.instanceMethod ({ cls := "SearchHouseModel", name := "commit", desc := "()I" } : Jvm.MethodName)) ∈ lw_all := lw_g (lw_at lw_m12 124 rfl) rfl
theorem q3017 : (Jvm.Cond.selects "SearchHouseModel" ({ cls := "SearchHouseModel", name := "commit", desc := "()I" } : Jvm.MethodName) ({ cls := "SearchHouseModel", name := "commit", desc := "()I" } : Jvm.MethodName)) ∈ lw_all := lw_g (lw_at lw_m12 125 rfl) rfl
theorem q3018 : (Jvm.Cond.code ({ cls := "SearchHouseModel", name := "commit", desc := "()I" } : Jvm.MethodName) prog_14_method_69_code (1 : Nat) (Option.some Jvm.ClassFile.FieldType.int)) ∈ lw_all := lw_g (lw_at lw_m12 126 rfl) rfl
theorem q3019 : (Jvm.Cond.methodLink "SearchHouseLaw" (108 : Nat) ({ cls := "SearchHouseModel", name := "crash", desc := "()I" } : Jvm.MethodName)) ∈ lw_all := lw_g (lw_at lw_m12 127 rfl) rfl
theorem q3020 : (Jvm.Cond.instanceMethod ({ cls := "SearchHouseModel", name := "crash", desc := "()I" } : Jvm.MethodName)) ∈ lw_all := lw_g (lw_at lw_m12 128 rfl) rfl
theorem q3021 : (Jvm.Cond.selects "SearchHouseModel" ({ cls := "SearchHouseModel", name := "crash", desc := "()I" } : Jvm.MethodName) ({ cls := "SearchHouseModel", name := "crash", desc := "()I" } : Jvm.MethodName)) ∈ lw_all := lw_g (lw_at lw_m12 129 rfl) rfl
theorem q3022 : (Jvm.Cond.code ({ cls := "SearchHouseModel", name := "crash", desc := "()I" } : Jvm.MethodName) prog_14_method_70_code (3 : Nat) (Option.some Jvm.ClassFile.FieldType.int)) ∈ lw_all := lw_g (lw_at lw_m12 130 rfl) rfl
theorem q3023 : (Jvm.Cond.methodLink "SearchHouseLaw" (112 : Nat) ({ cls := "SearchHouseModel", name := "told", desc := "(I)I" } : Jvm.MethodName)) ∈ lw_all := lw_g (lw_at lw_m12 131 rfl) rfl
theorem q3024 : (Jvm.Cond.instanceMethod ({ cls := "SearchHouseModel", name := "told", desc := "(I)I" } : Jvm.MethodName)) ∈ lw_all := lw_g (lw_at lw_m12 132 rfl) rfl
theorem q3025 : (Jvm.Cond.selects "SearchHouseModel" ({ cls := "SearchHouseModel", name := "told", desc := "(I)I" } : Jvm.MethodName) ({ cls := "SearchHouseModel", name := "told", desc := "(I)I" } : Jvm.MethodName)) ∈ lw_all := lw_g (lw_at lw_m12 133 rfl) rfl
theorem q3026 : (Jvm.Cond.code ({ cls := "SearchHouseModel", name := "told", desc := "(I)I" } : Jvm.MethodName) prog_14_method_71_code (4 : Nat) (Option.some Jvm.ClassFile.FieldType.int)) ∈ lw_all := lw_g (lw_at lw_m12 134 rfl) rfl
theorem q3027 : (Jvm.Cond.methodLink "SearchHouseLaw" (231 : Nat) ({ cls := "SearchHouseModel", name := "spread", desc := "(II)I" } : Jvm.MethodName)) ∈ lw_all := lw_g (lw_at lw_m12 135 rfl) rfl
theorem q3028 : (Jvm.Cond.methodLink "SearchHouseLaw" (235 : Nat) ({ cls := "SearchHouseModel", name := "lose", desc := "(II)I" } : Jvm.MethodName)) ∈ lw_all := lw_g (lw_at lw_m12 136 rfl) rfl
theorem q3029 : (Jvm.Cond.instanceMethod ({ cls := "SearchHouseModel", name := "lose", desc := "(II)I" } : Jvm.MethodName)) ∈ lw_all := lw_g (lw_at lw_m12 137 rfl) rfl
theorem q3030 : (Jvm.Cond.selects "SearchHouseModel" ({ cls := "SearchHouseModel", name := "lose", desc := "(II)I" } : Jvm.MethodName) ({ cls := "SearchHouseModel", name := "lose", desc := "(II)I" } : Jvm.MethodName)) ∈ lw_all := lw_g (lw_at lw_m12 138 rfl) rfl
theorem q3031 : (Jvm.Cond.code ({ cls := "SearchHouseModel", name := "lose", desc := "(II)I" } : Jvm.MethodName) prog_14_method_74_code (5 : Nat) (Option.some Jvm.ClassFile.FieldType.int)) ∈ lw_all := lw_g (lw_at lw_m12 139 rfl) rfl
theorem q3032 : (Jvm.Cond.methodLink "SearchHouseModel" (672 : Nat) ({ cls := "SearchHouseModel", name := "isNode", desc := "(I)Z" } : Jvm.MethodName)) ∈ lw_all := lw_g (lw_at lw_m12 140 rfl) rfl
theorem q3033 : (Jvm.Cond.privateMethod ({ cls := "SearchHouseModel", name := "isNode", desc := "(I)Z" } : Jvm.MethodName)) ∈ lw_tbl := lw_at lw_m12 141 rfl
theorem q3034 : (Jvm.Cond.instanceMethod ({ cls := "SearchHouseModel", name := "isNode", desc := "(I)Z" } : Jvm.MethodName)) ∈ lw_all := lw_g (lw_at lw_m12 142 rfl) rfl
theorem q3035 : (Jvm.Cond.code ({ cls := "SearchHouseModel", name := "isNode", desc := "(I)Z" } : Jvm.MethodName) prog_14_method_73_code (2 : Nat) (Option.some Jvm.ClassFile.FieldType.boolean)) ∈ lw_all := lw_g (lw_at lw_m12 143 rfl) rfl
theorem q3036 : (Jvm.Cond.methodLink "SearchHouseLaw" (239 : Nat) ({ cls := "SearchHouseModel", name := "route", desc := "(I)I" } : Jvm.MethodName)) ∈ lw_all := lw_g (lw_at lw_m12 144 rfl) rfl
theorem q3037 : (Jvm.Cond.instanceMethod ({ cls := "SearchHouseModel", name := "route", desc := "(I)I" } : Jvm.MethodName)) ∈ lw_all := lw_g (lw_at lw_m12 145 rfl) rfl
theorem q3038 : (Jvm.Cond.selects "SearchHouseModel" ({ cls := "SearchHouseModel", name := "route", desc := "(I)I" } : Jvm.MethodName) ({ cls := "SearchHouseModel", name := "route", desc := "(I)I" } : Jvm.MethodName)) ∈ lw_all := lw_g (lw_at lw_m12 146 rfl) rfl
theorem q3039 : (Jvm.Cond.code ({ cls := "SearchHouseModel", name := "route", desc := "(I)I" } : Jvm.MethodName) prog_14_method_76_code (2 : Nat) (Option.some Jvm.ClassFile.FieldType.int)) ∈ lw_all := lw_g (lw_at lw_m12 147 rfl) rfl
theorem q3040 : (Jvm.Cond.methodLink "SearchHouseModel" (675 : Nat) ({ cls := "SearchHouseModel", name := "nodeOf", desc := "(I)I" } : Jvm.MethodName)) ∈ lw_all := lw_g (lw_at lw_m12 148 rfl) rfl
theorem q3041 : (Jvm.Cond.privateMethod ({ cls := "SearchHouseModel", name := "nodeOf", desc := "(I)I" } : Jvm.MethodName)) ∈ lw_tbl := lw_at lw_m12 149 rfl
theorem q3042 : (Jvm.Cond.instanceMethod ({ cls := "SearchHouseModel", name := "nodeOf", desc := "(I)I" } : Jvm.MethodName)) ∈ lw_all := lw_g (lw_at lw_m12 150 rfl) rfl
theorem q3043 : (Jvm.Cond.code ({ cls := "SearchHouseModel", name := "nodeOf", desc := "(I)I" } : Jvm.MethodName) prog_14_method_75_code (4 : Nat) (Option.some Jvm.ClassFile.FieldType.int)) ∈ lw_all := lw_g (lw_at lw_m12 151 rfl) rfl
theorem q3044 : (Jvm.Cond.methodLink "SearchHouseLaw" (243 : Nat) ({ cls := "SearchHouseModel", name := "asked", desc := "(I)I" } : Jvm.MethodName)) ∈ lw_all := lw_g (lw_at lw_m12 152 rfl) rfl
theorem q3045 : (Jvm.Cond.instanceMethod ({ cls := "SearchHouseModel", name := "asked", desc := "(I)I" } : Jvm.MethodName)) ∈ lw_all := lw_g (lw_at lw_m12 153 rfl) rfl
theorem q3046 : (Jvm.Cond.selects "SearchHouseModel" ({ cls := "SearchHouseModel", name := "asked", desc := "(I)I" } : Jvm.MethodName) ({ cls := "SearchHouseModel", name := "asked", desc := "(I)I" } : Jvm.MethodName)) ∈ lw_all := lw_g (lw_at lw_m12 154 rfl) rfl
theorem q3047 : (Jvm.Cond.code ({ cls := "SearchHouseModel", name := "asked", desc := "(I)I" } : Jvm.MethodName) prog_14_method_77_code (2 : Nat) (Option.some Jvm.ClassFile.FieldType.int)) ∈ lw_all := lw_g (lw_at lw_m12 155 rfl) rfl
theorem q3048 : (Jvm.Cond.methodLink "SearchHouseLaw" (128 : Nat) ({ cls := "SearchHouseModel", name := "user", desc := "(I)I" } : Jvm.MethodName)) ∈ lw_all := lw_g (lw_at lw_m12 156 rfl) rfl
theorem q3049 : (Jvm.Cond.instanceMethod ({ cls := "SearchHouseModel", name := "user", desc := "(I)I" } : Jvm.MethodName)) ∈ lw_all := lw_g (lw_at lw_m12 157 rfl) rfl
theorem q3050 : (Jvm.Cond.selects "SearchHouseModel" ({ cls := "SearchHouseModel", name := "user", desc := "(I)I" } : Jvm.MethodName) ({ cls := "SearchHouseModel", name := "user", desc := "(I)I" } : Jvm.MethodName)) ∈ lw_all := lw_g (lw_at lw_m12 158 rfl) rfl
theorem q3051 : (Jvm.Cond.code ({ cls := "SearchHouseModel", name := "user", desc := "(I)I" } : Jvm.MethodName) prog_14_method_82_code (3 : Nat) (Option.some Jvm.ClassFile.FieldType.int)) ∈ lw_all := lw_g (lw_at lw_m12 159 rfl) rfl
theorem q3052 : (Jvm.Cond.methodLink "SearchHouseLaw" (140 : Nat) ({ cls := "SearchHouseModel", name := "blind", desc := "(III)I" } : Jvm.MethodName)) ∈ lw_all := lw_g (lw_at lw_m12 160 rfl) rfl
theorem q3053 : (Jvm.Cond.instanceMethod ({ cls := "SearchHouseModel", name := "blind", desc := "(III)I" } : Jvm.MethodName)) ∈ lw_all := lw_g (lw_at lw_m12 161 rfl) rfl
theorem q3054 : (Jvm.Cond.selects "SearchHouseModel" ({ cls := "SearchHouseModel", name := "blind", desc := "(III)I" } : Jvm.MethodName) ({ cls := "SearchHouseModel", name := "blind", desc := "(III)I" } : Jvm.MethodName)) ∈ lw_all := lw_g (lw_at lw_m12 162 rfl) rfl
theorem q3055 : (Jvm.Cond.code ({ cls := "SearchHouseModel", name := "blind", desc := "(III)I" } : Jvm.MethodName) prog_14_method_83_code (6 : Nat) (Option.some Jvm.ClassFile.FieldType.int)) ∈ lw_all := lw_g (lw_at lw_m12 163 rfl) rfl
theorem q3056 : (Jvm.Cond.methodLink "SearchHouseLaw" (120 : Nat) ({ cls := "SearchHouseModel", name := "keep", desc := "()I" } : Jvm.MethodName)) ∈ lw_all := lw_g (lw_at lw_m12 164 rfl) rfl
theorem q3057 : (Jvm.Cond.instanceMethod ({ cls := "SearchHouseModel", name := "keep", desc := "()I" } : Jvm.MethodName)) ∈ lw_all := lw_g (lw_at lw_m12 165 rfl) rfl
theorem q3058 : (Jvm.Cond.selects "SearchHouseModel" ({ cls := "SearchHouseModel", name := "keep", desc := "()I" } : Jvm.MethodName) ({ cls := "SearchHouseModel", name := "keep", desc := "()I" } : Jvm.MethodName)) ∈ lw_all := lw_g (lw_at lw_m12 166 rfl) rfl
theorem q3059 : (Jvm.Cond.code ({ cls := "SearchHouseModel", name := "keep", desc := "()I" } : Jvm.MethodName) prog_14_method_84_code (2 : Nat) (Option.some Jvm.ClassFile.FieldType.int)) ∈ lw_all := lw_g (lw_at lw_m12 167 rfl) rfl
theorem q3060 : (Jvm.Cond.methodLink "SearchHouseLaw" (124 : Nat) ({ cls := "SearchHouseModel", name := "use", desc := "(I)I" } : Jvm.MethodName)) ∈ lw_all := lw_g (lw_at lw_m12 168 rfl) rfl
theorem q3061 : (Jvm.Cond.instanceMethod ({ cls := "SearchHouseModel", name := "use", desc := "(I)I" } : Jvm.MethodName)) ∈ lw_all := lw_g (lw_at lw_m12 169 rfl) rfl
theorem q3062 : (Jvm.Cond.selects "SearchHouseModel" ({ cls := "SearchHouseModel", name := "use", desc := "(I)I" } : Jvm.MethodName) ({ cls := "SearchHouseModel", name := "use", desc := "(I)I" } : Jvm.MethodName)) ∈ lw_all := lw_g (lw_at lw_m12 170 rfl) rfl
theorem q3063 : (Jvm.Cond.code ({ cls := "SearchHouseModel", name := "use", desc := "(I)I" } : Jvm.MethodName) prog_14_method_85_code (3 : Nat) (Option.some Jvm.ClassFile.FieldType.int)) ∈ lw_all := lw_g (lw_at lw_m12 171 rfl) rfl
theorem q3064 : (Jvm.Cond.methodLink "SearchHouseLaw" (132 : Nat) ({ cls := "SearchHouseModel", name := "hide", desc := "(I)I" } : Jvm.MethodName)) ∈ lw_all := lw_g (lw_at lw_m12 172 rfl) rfl
theorem q3065 : (Jvm.Cond.instanceMethod ({ cls := "SearchHouseModel", name := "hide", desc := "(I)I" } : Jvm.MethodName)) ∈ lw_all := lw_g (lw_at lw_m12 173 rfl) rfl
theorem q3066 : (Jvm.Cond.selects "SearchHouseModel" ({ cls := "SearchHouseModel", name := "hide", desc := "(I)I" } : Jvm.MethodName) ({ cls := "SearchHouseModel", name := "hide", desc := "(I)I" } : Jvm.MethodName)) ∈ lw_all := lw_g (lw_at lw_m12 174 rfl) rfl
theorem q3067 : (Jvm.Cond.code ({ cls := "SearchHouseModel", name := "hide", desc := "(I)I" } : Jvm.MethodName) prog_14_method_86_code (3 : Nat) (Option.some Jvm.ClassFile.FieldType.int)) ∈ lw_all := lw_g (lw_at lw_m12 175 rfl) rfl
theorem q3068 : (Jvm.Cond.methodLink "SearchHouseLaw" (136 : Nat) ({ cls := "SearchHouseModel", name := "unhide", desc := "(I)I" } : Jvm.MethodName)) ∈ lw_all := lw_g (lw_at lw_m12 176 rfl) rfl
theorem q3069 : (Jvm.Cond.instanceMethod ({ cls := "SearchHouseModel", name := "unhide", desc := "(I)I" } : Jvm.MethodName)) ∈ lw_all := lw_g (lw_at lw_m12 177 rfl) rfl
theorem q3070 : (Jvm.Cond.selects "SearchHouseModel" ({ cls := "SearchHouseModel", name := "unhide", desc := "(I)I" } : Jvm.MethodName) ({ cls := "SearchHouseModel", name := "unhide", desc := "(I)I" } : Jvm.MethodName)) ∈ lw_all := lw_g (lw_at lw_m12 178 rfl) rfl
theorem q3071 : (Jvm.Cond.code ({ cls := "SearchHouseModel", name := "unhide", desc := "(I)I" } : Jvm.MethodName) prog_14_method_87_code (3 : Nat) (Option.some Jvm.ClassFile.FieldType.int)) ∈ lw_all := lw_g (lw_at lw_m12 179 rfl) rfl
theorem q3072 : (Jvm.Cond.methodLink "SearchHouseLaw" (116 : Nat) ({ cls := "SearchHouseModel", name := "question", desc := "()I" } : Jvm.MethodName)) ∈ lw_all := lw_g (lw_at lw_m12 180 rfl) rfl
theorem q3073 : (Jvm.Cond.instanceMethod ({ cls := "SearchHouseModel", name := "question", desc := "()I" } : Jvm.MethodName)) ∈ lw_all := lw_g (lw_at lw_m12 181 rfl) rfl
theorem q3074 : (Jvm.Cond.selects "SearchHouseModel" ({ cls := "SearchHouseModel", name := "question", desc := "()I" } : Jvm.MethodName) ({ cls := "SearchHouseModel", name := "question", desc := "()I" } : Jvm.MethodName)) ∈ lw_all := lw_g (lw_at lw_m12 182 rfl) rfl
theorem q3075 : (Jvm.Cond.code ({ cls := "SearchHouseModel", name := "question", desc := "()I" } : Jvm.MethodName) prog_14_method_111_code (3 : Nat) (Option.some Jvm.ClassFile.FieldType.int)) ∈ lw_all := lw_g (lw_at lw_m12 183 rfl) rfl
theorem q3076 : (Jvm.Cond.methodLink "SearchHouseModel" (792 : Nat) ({ cls := "SearchHouseModel", name := "isQuestion", desc := "([BII)Z" } : Jvm.MethodName)) ∈ lw_all := lw_g (lw_at lw_m12 184 rfl) rfl
theorem q3077 : (Jvm.Cond.privateMethod ({ cls := "SearchHouseModel", name := "isQuestion", desc := "([BII)Z" } : Jvm.MethodName)) ∈ lw_tbl := lw_at lw_m12 185 rfl
theorem q3078 : (Jvm.Cond.instanceMethod ({ cls := "SearchHouseModel", name := "isQuestion", desc := "([BII)Z" } : Jvm.MethodName)) ∈ lw_all := lw_g (lw_at lw_m12 186 rfl) rfl
theorem q3079 : (Jvm.Cond.codeWith ({ cls := "SearchHouseModel", name := "isQuestion", desc := "([BII)Z" } : Jvm.MethodName) prog_14_method_109_code (5 : Nat) (Option.some Jvm.ClassFile.FieldType.boolean) [((35 : Nat), (56 : Nat), (59 : Nat), (11 : Nat))]) ∈ lw_all := lw_g (lw_at lw_m12 187 rfl) rfl
theorem q3080 : (Jvm.Cond.methodLink "SearchHouseModel" (749 : Nat) ({ cls := "SearchHouseModel", name := "any", desc := "(I)I" } : Jvm.MethodName)) ∈ lw_all := lw_g (lw_at lw_m12 188 rfl) rfl
theorem q3081 : (Jvm.Cond.privateMethod ({ cls := "SearchHouseModel", name := "any", desc := "(I)I" } : Jvm.MethodName)) ∈ lw_tbl := lw_at lw_m12 189 rfl
theorem q3082 : (Jvm.Cond.instanceMethod ({ cls := "SearchHouseModel", name := "any", desc := "(I)I" } : Jvm.MethodName)) ∈ lw_all := lw_g (lw_at lw_m12 190 rfl) rfl
theorem q3083 : (Jvm.Cond.code ({ cls := "SearchHouseModel", name := "any", desc := "(I)I" } : Jvm.MethodName) prog_14_method_96_code (5 : Nat) (Option.some Jvm.ClassFile.FieldType.int)) ∈ lw_all := lw_g (lw_at lw_m12 191 rfl) rfl
theorem q3084 : (Jvm.Cond.methodLink "SearchHouseModel" (719 : Nat) ({ cls := "SearchHouseModel", name := "best", desc := "(I)I" } : Jvm.MethodName)) ∈ lw_all := lw_g (lw_at lw_m12 192 rfl) rfl
theorem q3085 : (Jvm.Cond.privateMethod ({ cls := "SearchHouseModel", name := "best", desc := "(I)I" } : Jvm.MethodName)) ∈ lw_tbl := lw_at lw_m12 193 rfl
theorem q3086 : (Jvm.Cond.instanceMethod ({ cls := "SearchHouseModel", name := "best", desc := "(I)I" } : Jvm.MethodName)) ∈ lw_all := lw_g (lw_at lw_m12 194 rfl) rfl
theorem q3087 : (Jvm.Cond.code ({ cls := "SearchHouseModel", name := "best", desc := "(I)I" } : Jvm.MethodName) prog_14_method_97_code (5 : Nat) (Option.some Jvm.ClassFile.FieldType.int)) ∈ lw_all := lw_g (lw_at lw_m12 195 rfl) rfl
theorem q3088 : (Jvm.Cond.methodLink "SearchHouseModel" (726 : Nat) ({ cls := "SearchHouseModel", name := "all", desc := "(I)I" } : Jvm.MethodName)) ∈ lw_all := lw_g (lw_at lw_m12 196 rfl) rfl
theorem q3089 : (Jvm.Cond.privateMethod ({ cls := "SearchHouseModel", name := "all", desc := "(I)I" } : Jvm.MethodName)) ∈ lw_tbl := lw_at lw_m12 197 rfl
theorem q3090 : (Jvm.Cond.instanceMethod ({ cls := "SearchHouseModel", name := "all", desc := "(I)I" } : Jvm.MethodName)) ∈ lw_all := lw_g (lw_at lw_m12 198 rfl) rfl
theorem q3091 : (Jvm.Cond.code ({ cls := "SearchHouseModel", name := "all", desc := "(I)I" } : Jvm.MethodName) prog_14_method_98_code (6 : Nat) (Option.some Jvm.ClassFile.FieldType.int)) ∈ lw_all := lw_g (lw_at lw_m12 199 rfl) rfl
theorem q3092 : (Jvm.Cond.methodLink "SearchHouseModel" (729 : Nat) ({ cls := "SearchHouseModel", name := "part", desc := "(IZ)I" } : Jvm.MethodName)) ∈ lw_all := lw_g (lw_at lw_m12 200 rfl) rfl
theorem q3093 : (Jvm.Cond.privateMethod ({ cls := "SearchHouseModel", name := "part", desc := "(IZ)I" } : Jvm.MethodName)) ∈ lw_tbl := lw_at lw_m12 201 rfl
theorem q3094 : (Jvm.Cond.instanceMethod ({ cls := "SearchHouseModel", name := "part", desc := "(IZ)I" } : Jvm.MethodName)) ∈ lw_all := lw_g (lw_at lw_m12 202 rfl) rfl
theorem q3095 : (Jvm.Cond.code ({ cls := "SearchHouseModel", name := "part", desc := "(IZ)I" } : Jvm.MethodName) prog_14_method_99_code (5 : Nat) (Option.some Jvm.ClassFile.FieldType.int)) ∈ lw_all := lw_g (lw_at lw_m12 203 rfl) rfl
theorem q3096 : (Jvm.Cond.methodLink "SearchHouseModel" (707 : Nat) ({ cls := "SearchHouseModel", name := "here", desc := "()I" } : Jvm.MethodName)) ∈ lw_all := lw_g (lw_at lw_m12 204 rfl) rfl
theorem q3097 : (Jvm.Cond.privateMethod ({ cls := "SearchHouseModel", name := "here", desc := "()I" } : Jvm.MethodName)) ∈ lw_tbl := lw_at lw_m12 205 rfl
theorem q3098 : (Jvm.Cond.instanceMethod ({ cls := "SearchHouseModel", name := "here", desc := "()I" } : Jvm.MethodName)) ∈ lw_all := lw_g (lw_at lw_m12 206 rfl) rfl
theorem q3099 : (Jvm.Cond.code ({ cls := "SearchHouseModel", name := "here", desc := "()I" } : Jvm.MethodName) prog_14_method_88_code (1 : Nat) (Option.some Jvm.ClassFile.FieldType.int)) ∈ lw_all := lw_g (lw_at lw_m12 207 rfl) rfl
theorem q3100 : (Jvm.Cond.methodLink "SearchHouseModel" (733 : Nat) ({ cls := "SearchHouseModel", name := "one", desc := "(I)I" } : Jvm.MethodName)) ∈ lw_all := lw_g (lw_at lw_m12 208 rfl) rfl
theorem q3101 : (Jvm.Cond.privateMethod ({ cls := "SearchHouseModel", name := "one", desc := "(I)I" } : Jvm.MethodName)) ∈ lw_tbl := lw_at lw_m12 209 rfl
theorem q3102 : (Jvm.Cond.instanceMethod ({ cls := "SearchHouseModel", name := "one", desc := "(I)I" } : Jvm.MethodName)) ∈ lw_all := lw_g (lw_at lw_m12 210 rfl) rfl
theorem q3103 : (Jvm.Cond.code ({ cls := "SearchHouseModel", name := "one", desc := "(I)I" } : Jvm.MethodName) prog_14_method_100_code (6 : Nat) (Option.some Jvm.ClassFile.FieldType.int)) ∈ lw_all := lw_g (lw_at lw_m12 211 rfl) rfl
theorem q3104 : (Jvm.Cond.methodLink "SearchHouseModel" (739 : Nat) ({ cls := "SearchHouseModel", name := "isPatternByte", desc := "(I)Z" } : Jvm.MethodName)) ∈ lw_all := lw_g (lw_at lw_m12 212 rfl) rfl
theorem q3105 : (Jvm.Cond.static ({ cls := "SearchHouseModel", name := "isPatternByte", desc := "(I)Z" } : Jvm.MethodName)) ∈ lw_all := lw_g (lw_at lw_m12 213 rfl) rfl
theorem q3106 : (Jvm.Cond.code ({ cls := "SearchHouseModel", name := "isPatternByte", desc := "(I)Z" } : Jvm.MethodName) prog_14_method_93_code (1 : Nat) (Option.some Jvm.ClassFile.FieldType.boolean)) ∈ lw_all := lw_g (lw_at lw_m12 214 rfl) rfl
theorem q3107 : (Jvm.Cond.methodLink "SearchHouseModel" (710 : Nat) ({ cls := "SearchHouseModel", name := "never", desc := "()V" } : Jvm.MethodName)) ∈ lw_all := lw_g (lw_at lw_m12 215 rfl) rfl
theorem q3108 : (Jvm.Cond.privateMethod ({ cls := "SearchHouseModel", name := "never", desc := "()V" } : Jvm.MethodName)) ∈ lw_tbl := lw_at lw_m12 216 rfl
theorem q3109 : (Jvm.Cond.instanceMethod ({ cls := "SearchHouseModel", name := "never", desc := "()V" } : Jvm.MethodName)) ∈ lw_all := lw_g (lw_at lw_m12 217 rfl) rfl
theorem q3110 : (Jvm.Cond.code ({ cls := "SearchHouseModel", name := "never", desc := "()V" } : Jvm.MethodName) prog_14_method_90_code (1 : Nat) (Option.none : Option Jvm.ClassFile.FieldType)) ∈ lw_all := lw_g (lw_at lw_m12 218 rfl) rfl
theorem q3111 : (Jvm.Cond.methodLink "SearchHouseModel" (752 : Nat) ({ cls := "SearchHouseModel", name := "need", desc := "(I)V" } : Jvm.MethodName)) ∈ lw_all := lw_g (lw_at lw_m12 219 rfl) rfl
theorem q3112 : (Jvm.Cond.privateMethod ({ cls := "SearchHouseModel", name := "need", desc := "(I)V" } : Jvm.MethodName)) ∈ lw_tbl := lw_at lw_m12 220 rfl
theorem q3113 : (Jvm.Cond.instanceMethod ({ cls := "SearchHouseModel", name := "need", desc := "(I)V" } : Jvm.MethodName)) ∈ lw_all := lw_g (lw_at lw_m12 221 rfl) rfl
theorem q3114 : (Jvm.Cond.code ({ cls := "SearchHouseModel", name := "need", desc := "(I)V" } : Jvm.MethodName) prog_14_method_91_code (2 : Nat) (Option.none : Option Jvm.ClassFile.FieldType)) ∈ lw_all := lw_g (lw_at lw_m12 222 rfl) rfl
theorem q3115 : (Jvm.Cond.methodLink "SearchHouseModel" (755 : Nat) ({ cls := "SearchHouseModel", name := "some", desc := "(I)I" } : Jvm.MethodName)) ∈ lw_all := lw_g (lw_at lw_m12 223 rfl) rfl
theorem q3116 : (Jvm.Cond.privateMethod ({ cls := "SearchHouseModel", name := "some", desc := "(I)I" } : Jvm.MethodName)) ∈ lw_tbl := lw_at lw_m12 224 rfl
theorem q3117 : (Jvm.Cond.instanceMethod ({ cls := "SearchHouseModel", name := "some", desc := "(I)I" } : Jvm.MethodName)) ∈ lw_all := lw_g (lw_at lw_m12 225 rfl) rfl
theorem q3118 : (Jvm.Cond.code ({ cls := "SearchHouseModel", name := "some", desc := "(I)I" } : Jvm.MethodName) prog_14_method_101_code (6 : Nat) (Option.some Jvm.ClassFile.FieldType.int)) ∈ lw_all := lw_g (lw_at lw_m12 226 rfl) rfl
theorem q3119 : (Jvm.Cond.methodLink "SearchHouseModel" (736 : Nat) ({ cls := "SearchHouseModel", name := "isDigit", desc := "(I)Z" } : Jvm.MethodName)) ∈ lw_all := lw_g (lw_at lw_m12 227 rfl) rfl
theorem q3120 : (Jvm.Cond.static ({ cls := "SearchHouseModel", name := "isDigit", desc := "(I)Z" } : Jvm.MethodName)) ∈ lw_all := lw_g (lw_at lw_m12 228 rfl) rfl
theorem q3121 : (Jvm.Cond.code ({ cls := "SearchHouseModel", name := "isDigit", desc := "(I)Z" } : Jvm.MethodName) prog_14_method_92_code (1 : Nat) (Option.some Jvm.ClassFile.FieldType.boolean)) ∈ lw_all := lw_g (lw_at lw_m12 229 rfl) rfl
theorem q3122 : (Jvm.Cond.methodLink "SearchHouseModel" (716 : Nat) ({ cls := "SearchHouseModel", name := "node", desc := "(I)I" } : Jvm.MethodName)) ∈ lw_all := lw_g (lw_at lw_m12 230 rfl) rfl
theorem q3123 : (Jvm.Cond.privateMethod ({ cls := "SearchHouseModel", name := "node", desc := "(I)I" } : Jvm.MethodName)) ∈ lw_tbl := lw_at lw_m12 231 rfl
theorem q3124 : (Jvm.Cond.instanceMethod ({ cls := "SearchHouseModel", name := "node", desc := "(I)I" } : Jvm.MethodName)) ∈ lw_all := lw_g (lw_at lw_m12 232 rfl) rfl
theorem q3125 : (Jvm.Cond.code ({ cls := "SearchHouseModel", name := "node", desc := "(I)I" } : Jvm.MethodName) prog_14_method_94_code (3 : Nat) (Option.some Jvm.ClassFile.FieldType.int)) ∈ lw_all := lw_g (lw_at lw_m12 233 rfl) rfl
theorem q3126 : (Jvm.Cond.methodLink "SearchHouseModel" (758 : Nat) ({ cls := "SearchHouseModel", name := "after", desc := "()I" } : Jvm.MethodName)) ∈ lw_all := lw_g (lw_at lw_m12 234 rfl) rfl
theorem q3127 : (Jvm.Cond.privateMethod ({ cls := "SearchHouseModel", name := "after", desc := "()I" } : Jvm.MethodName)) ∈ lw_tbl := lw_at lw_m12 235 rfl
theorem q3128 : (Jvm.Cond.instanceMethod ({ cls := "SearchHouseModel", name := "after", desc := "()I" } : Jvm.MethodName)) ∈ lw_all := lw_g (lw_at lw_m12 236 rfl) rfl
theorem q3129 : (Jvm.Cond.code ({ cls := "SearchHouseModel", name := "after", desc := "()I" } : Jvm.MethodName) prog_14_method_89_code (1 : Nat) (Option.some Jvm.ClassFile.FieldType.int)) ∈ lw_all := lw_g (lw_at lw_m12 237 rfl) rfl
theorem q3130 : (Jvm.Cond.methodLink "SearchHouseModel" (761 : Nat) ({ cls := "SearchHouseModel", name := "fieldHere", desc := "()I" } : Jvm.MethodName)) ∈ lw_all := lw_g (lw_at lw_m12 238 rfl) rfl
theorem q3131 : (Jvm.Cond.privateMethod ({ cls := "SearchHouseModel", name := "fieldHere", desc := "()I" } : Jvm.MethodName)) ∈ lw_tbl := lw_at lw_m12 239 rfl
theorem q3132 : (Jvm.Cond.instanceMethod ({ cls := "SearchHouseModel", name := "fieldHere", desc := "()I" } : Jvm.MethodName)) ∈ lw_all := lw_g (lw_at lw_m13 0 rfl) rfl
theorem q3133 : (Jvm.Cond.code ({ cls := "SearchHouseModel", name := "fieldHere", desc := "()I" } : Jvm.MethodName) prog_14_method_102_code (3 : Nat) (Option.some Jvm.ClassFile.FieldType.int)) ∈ lw_all := lw_g (lw_at lw_m13 1 rfl) rfl
theorem q3134 : (Jvm.Cond.methodLink "SearchHouseModel" (764 : Nat) ({ cls := "SearchHouseModel", name := "leaf", desc := "(I)I" } : Jvm.MethodName)) ∈ lw_all := lw_g (lw_at lw_m13 2 rfl) rfl
theorem q3135 : (Jvm.Cond.privateMethod ({ cls := "SearchHouseModel", name := "leaf", desc := "(I)I" } : Jvm.MethodName)) ∈ lw_tbl := lw_at lw_m13 3 rfl
theorem q3136 : (Jvm.Cond.instanceMethod ({ cls := "SearchHouseModel", name := "leaf", desc := "(I)I" } : Jvm.MethodName)) ∈ lw_all := lw_g (lw_at lw_m13 4 rfl) rfl
theorem q3137 : (Jvm.Cond.code ({ cls := "SearchHouseModel", name := "leaf", desc := "(I)I" } : Jvm.MethodName) prog_14_method_103_code (6 : Nat) (Option.some Jvm.ClassFile.FieldType.int)) ∈ lw_all := lw_g (lw_at lw_m13 5 rfl) rfl
theorem q3138 : (Jvm.Cond.methodLink "SearchHouseModel" (767 : Nat) ({ cls := "SearchHouseModel", name := "quoted", desc := "(I)I" } : Jvm.MethodName)) ∈ lw_all := lw_g (lw_at lw_m13 6 rfl) rfl
theorem q3139 : (Jvm.Cond.privateMethod ({ cls := "SearchHouseModel", name := "quoted", desc := "(I)I" } : Jvm.MethodName)) ∈ lw_tbl := lw_at lw_m13 7 rfl
theorem q3140 : (Jvm.Cond.instanceMethod ({ cls := "SearchHouseModel", name := "quoted", desc := "(I)I" } : Jvm.MethodName)) ∈ lw_all := lw_g (lw_at lw_m13 8 rfl) rfl
theorem q3141 : (Jvm.Cond.code ({ cls := "SearchHouseModel", name := "quoted", desc := "(I)I" } : Jvm.MethodName) prog_14_method_104_code (4 : Nat) (Option.some Jvm.ClassFile.FieldType.int)) ∈ lw_all := lw_g (lw_at lw_m13 9 rfl) rfl
theorem q3142 : (Jvm.Cond.methodLink "SearchHouseModel" (770 : Nat) ({ cls := "SearchHouseModel", name := "range", desc := "()I" } : Jvm.MethodName)) ∈ lw_all := lw_g (lw_at lw_m13 10 rfl) rfl
theorem q3143 : (Jvm.Cond.privateMethod ({ cls := "SearchHouseModel", name := "range", desc := "()I" } : Jvm.MethodName)) ∈ lw_tbl := lw_at lw_m13 11 rfl
theorem q3144 : (Jvm.Cond.instanceMethod ({ cls := "SearchHouseModel", name := "range", desc := "()I" } : Jvm.MethodName)) ∈ lw_all := lw_g (lw_at lw_m13 12 rfl) rfl
theorem q3145 : (Jvm.Cond.code ({ cls := "SearchHouseModel", name := "range", desc := "()I" } : Jvm.MethodName) prog_14_method_106_code (6 : Nat) (Option.some Jvm.ClassFile.FieldType.int)) ∈ lw_all := lw_g (lw_at lw_m13 13 rfl) rfl
theorem q3146 : (Jvm.Cond.constantLong "SearchHouseModel" (784 : Nat) (-9223372036854775808 : Int64)) ∈ lw_all := lw_g (lw_at lw_m13 14 rfl) rfl
theorem q3147 : (Jvm.Cond.constantLong "SearchHouseModel" (786 : Nat) (9223372036854775807 : Int64)) ∈ lw_all := lw_g (lw_at lw_m13 15 rfl) rfl
theorem q3148 : (Jvm.Cond.methodLink "SearchHouseModel" (788 : Nat) ({ cls := "SearchHouseModel", name := "valueHere", desc := "(I)J" } : Jvm.MethodName)) ∈ lw_all := lw_g (lw_at lw_m13 16 rfl) rfl
theorem q3149 : (Jvm.Cond.privateMethod ({ cls := "SearchHouseModel", name := "valueHere", desc := "(I)J" } : Jvm.MethodName)) ∈ lw_tbl := lw_at lw_m13 17 rfl
theorem q3150 : (Jvm.Cond.instanceMethod ({ cls := "SearchHouseModel", name := "valueHere", desc := "(I)J" } : Jvm.MethodName)) ∈ lw_all := lw_g (lw_at lw_m13 18 rfl) rfl
theorem q3151 : (Jvm.Cond.code ({ cls := "SearchHouseModel", name := "valueHere", desc := "(I)J" } : Jvm.MethodName) prog_14_method_105_code (6 : Nat) (Option.some Jvm.ClassFile.FieldType.long)) ∈ lw_all := lw_g (lw_at lw_m13 19 rfl) rfl
theorem q3152 : (Jvm.Cond.constantLong "SearchHouseModel" (778 : Nat) (10 : Int64)) ∈ lw_all := lw_g (lw_at lw_m13 20 rfl) rfl
theorem q3153 : (Jvm.Cond.constantLong "SearchHouseModel" (780 : Nat) (48 : Int64)) ∈ lw_all := lw_g (lw_at lw_m13 21 rfl) rfl
theorem q3154 : (Jvm.Cond.methodLink "SearchHouseModel" (773 : Nat) ({ cls := "SearchHouseModel", name := "nearHere", desc := "()I" } : Jvm.MethodName)) ∈ lw_all := lw_g (lw_at lw_m13 22 rfl) rfl
theorem q3155 : (Jvm.Cond.privateMethod ({ cls := "SearchHouseModel", name := "nearHere", desc := "()I" } : Jvm.MethodName)) ∈ lw_tbl := lw_at lw_m13 23 rfl
theorem q3156 : (Jvm.Cond.instanceMethod ({ cls := "SearchHouseModel", name := "nearHere", desc := "()I" } : Jvm.MethodName)) ∈ lw_all := lw_g (lw_at lw_m13 24 rfl) rfl
theorem q3157 : (Jvm.Cond.code ({ cls := "SearchHouseModel", name := "nearHere", desc := "()I" } : Jvm.MethodName) prog_14_method_107_code (8 : Nat) (Option.some Jvm.ClassFile.FieldType.int)) ∈ lw_all := lw_g (lw_at lw_m13 25 rfl) rfl
theorem q3158 : (Jvm.Cond.methodLink "SearchHouseModel" (776 : Nat) ({ cls := "SearchHouseModel", name := "pattern", desc := "(I)I" } : Jvm.MethodName)) ∈ lw_all := lw_g (lw_at lw_m13 26 rfl) rfl
theorem q3159 : (Jvm.Cond.privateMethod ({ cls := "SearchHouseModel", name := "pattern", desc := "(I)I" } : Jvm.MethodName)) ∈ lw_tbl := lw_at lw_m13 27 rfl
theorem q3160 : (Jvm.Cond.instanceMethod ({ cls := "SearchHouseModel", name := "pattern", desc := "(I)I" } : Jvm.MethodName)) ∈ lw_all := lw_g (lw_at lw_m13 28 rfl) rfl
theorem q3161 : (Jvm.Cond.code ({ cls := "SearchHouseModel", name := "pattern", desc := "(I)I" } : Jvm.MethodName) prog_14_method_108_code (8 : Nat) (Option.some Jvm.ClassFile.FieldType.int)) ∈ lw_all := lw_g (lw_at lw_m13 29 rfl) rfl
theorem q3162 : (Jvm.Cond.methodLink "SearchHouseModel" (722 : Nat) ({ cls := "SearchHouseModel", name := "joined", desc := "(III)I" } : Jvm.MethodName)) ∈ lw_all := lw_g (lw_at lw_m13 30 rfl) rfl
theorem q3163 : (Jvm.Cond.privateMethod ({ cls := "SearchHouseModel", name := "joined", desc := "(III)I" } : Jvm.MethodName)) ∈ lw_tbl := lw_at lw_m13 31 rfl
theorem q3164 : (Jvm.Cond.instanceMethod ({ cls := "SearchHouseModel", name := "joined", desc := "(III)I" } : Jvm.MethodName)) ∈ lw_all := lw_g (lw_at lw_m13 32 rfl) rfl
theorem q3165 : (Jvm.Cond.code ({ cls := "SearchHouseModel", name := "joined", desc := "(III)I" } : Jvm.MethodName) prog_14_method_95_code (5 : Nat) (Option.some Jvm.ClassFile.FieldType.int)) ∈ lw_all := lw_g (lw_at lw_m13 33 rfl) rfl
theorem q3166 : (Jvm.Cond.methodLink "SearchHouseLaw" (144 : Nat) ({ cls := "SearchHouseModel", name := "formula", desc := "(I)I" } : Jvm.MethodName)) ∈ lw_all := lw_g (lw_at lw_m13 34 rfl) rfl
theorem q3167 : (Jvm.Cond.instanceMethod ({ cls := "SearchHouseModel", name := "formula", desc := "(I)I" } : Jvm.MethodName)) ∈ lw_all := lw_g (lw_at lw_m13 35 rfl) rfl
theorem q3168 : (Jvm.Cond.selects "SearchHouseModel" ({ cls := "SearchHouseModel", name := "formula", desc := "(I)I" } : Jvm.MethodName) ({ cls := "SearchHouseModel", name := "formula", desc := "(I)I" } : Jvm.MethodName)) ∈ lw_all := lw_g (lw_at lw_m13 36 rfl) rfl
theorem q3169 : (Jvm.Cond.code ({ cls := "SearchHouseModel", name := "formula", desc := "(I)I" } : Jvm.MethodName) prog_14_method_148_code (3 : Nat) (Option.some Jvm.ClassFile.FieldType.int)) ∈ lw_all := lw_g (lw_at lw_m13 37 rfl) rfl
theorem q3170 : (Jvm.Cond.methodLink "SearchHouseLaw" (148 : Nat) ({ cls := "SearchHouseModel", name := "sort", desc := "(II)I" } : Jvm.MethodName)) ∈ lw_all := lw_g (lw_at lw_m13 38 rfl) rfl
theorem q3171 : (Jvm.Cond.instanceMethod ({ cls := "SearchHouseModel", name := "sort", desc := "(II)I" } : Jvm.MethodName)) ∈ lw_all := lw_g (lw_at lw_m13 39 rfl) rfl
theorem q3172 : (Jvm.Cond.selects "SearchHouseModel" ({ cls := "SearchHouseModel", name := "sort", desc := "(II)I" } : Jvm.MethodName) ({ cls := "SearchHouseModel", name := "sort", desc := "(II)I" } : Jvm.MethodName)) ∈ lw_all := lw_g (lw_at lw_m13 40 rfl) rfl
theorem q3173 : (Jvm.Cond.code ({ cls := "SearchHouseModel", name := "sort", desc := "(II)I" } : Jvm.MethodName) prog_14_method_149_code (3 : Nat) (Option.some Jvm.ClassFile.FieldType.int)) ∈ lw_all := lw_g (lw_at lw_m13 41 rfl) rfl
theorem q3174 : (Jvm.Cond.methodLink "SearchHouseLaw" (152 : Nat) ({ cls := "SearchHouseModel", name := "search", desc := "(I)I" } : Jvm.MethodName)) ∈ lw_all := lw_g (lw_at lw_m13 42 rfl) rfl
theorem q3175 : (Jvm.Cond.instanceMethod ({ cls := "SearchHouseModel", name := "search", desc := "(I)I" } : Jvm.MethodName)) ∈ lw_all := lw_g (lw_at lw_m13 43 rfl) rfl
theorem q3176 : (Jvm.Cond.selects "SearchHouseModel" ({ cls := "SearchHouseModel", name := "search", desc := "(I)I" } : Jvm.MethodName) ({ cls := "SearchHouseModel", name := "search", desc := "(I)I" } : Jvm.MethodName)) ∈ lw_all := lw_g (lw_at lw_m13 44 rfl) rfl
theorem q3177 : (Jvm.Cond.code ({ cls := "SearchHouseModel", name := "search", desc := "(I)I" } : Jvm.MethodName) prog_14_method_154_code (4 : Nat) (Option.some Jvm.ClassFile.FieldType.int)) ∈ lw_all := lw_g (lw_at lw_m13 45 rfl) rfl
theorem q3178 : (Jvm.Cond.methodLink "SearchHouseModel" (967 : Nat) ({ cls := "SearchHouseModel", name := "versionOf", desc := "(I)I" } : Jvm.MethodName)) ∈ lw_all := lw_g (lw_at lw_m13 46 rfl) rfl
theorem q3179 : (Jvm.Cond.privateMethod ({ cls := "SearchHouseModel", name := "versionOf", desc := "(I)I" } : Jvm.MethodName)) ∈ lw_tbl := lw_at lw_m13 47 rfl
theorem q3180 : (Jvm.Cond.instanceMethod ({ cls := "SearchHouseModel", name := "versionOf", desc := "(I)I" } : Jvm.MethodName)) ∈ lw_all := lw_g (lw_at lw_m13 48 rfl) rfl
theorem q3181 : (Jvm.Cond.code ({ cls := "SearchHouseModel", name := "versionOf", desc := "(I)I" } : Jvm.MethodName) prog_14_method_79_code (2 : Nat) (Option.some Jvm.ClassFile.FieldType.int)) ∈ lw_all := lw_g (lw_at lw_m13 49 rfl) rfl
theorem q3182 : (Jvm.Cond.methodLink "SearchHouseModel" (970 : Nat) ({ cls := "SearchHouseModel", name := "ask", desc := "()Z" } : Jvm.MethodName)) ∈ lw_all := lw_g (lw_at lw_m13 50 rfl) rfl
theorem q3183 : (Jvm.Cond.privateMethod ({ cls := "SearchHouseModel", name := "ask", desc := "()Z" } : Jvm.MethodName)) ∈ lw_tbl := lw_at lw_m13 51 rfl
theorem q3184 : (Jvm.Cond.instanceMethod ({ cls := "SearchHouseModel", name := "ask", desc := "()Z" } : Jvm.MethodName)) ∈ lw_all := lw_g (lw_at lw_m13 52 rfl) rfl
theorem q3185 : (Jvm.Cond.code ({ cls := "SearchHouseModel", name := "ask", desc := "()Z" } : Jvm.MethodName) prog_14_method_78_code (3 : Nat) (Option.some Jvm.ClassFile.FieldType.boolean)) ∈ lw_all := lw_g (lw_at lw_m13 53 rfl) rfl
theorem q3186 : (Jvm.Cond.methodLink "SearchHouseModel" (973 : Nat) ({ cls := "SearchHouseModel", name := "enter", desc := "(I)V" } : Jvm.MethodName)) ∈ lw_all := lw_g (lw_at lw_m13 54 rfl) rfl
theorem q3187 : (Jvm.Cond.privateMethod ({ cls := "SearchHouseModel", name := "enter", desc := "(I)V" } : Jvm.MethodName)) ∈ lw_tbl := lw_at lw_m13 55 rfl
theorem q3188 : (Jvm.Cond.instanceMethod ({ cls := "SearchHouseModel", name := "enter", desc := "(I)V" } : Jvm.MethodName)) ∈ lw_all := lw_g (lw_at lw_m13 56 rfl) rfl
theorem q3189 : (Jvm.Cond.code ({ cls := "SearchHouseModel", name := "enter", desc := "(I)V" } : Jvm.MethodName) prog_14_method_81_code (3 : Nat) (Option.none : Option Jvm.ClassFile.FieldType)) ∈ lw_all := lw_g (lw_at lw_m13 57 rfl) rfl
theorem q3190 : (Jvm.Cond.methodLink "SearchHouseModel" (678 : Nat) ({ cls := "SearchHouseModel", name := "wholeWorld", desc := "(I)V" } : Jvm.MethodName)) ∈ lw_all := lw_g (lw_at lw_m13 58 rfl) rfl
theorem q3191 : (Jvm.Cond.privateMethod ({ cls := "SearchHouseModel", name := "wholeWorld", desc := "(I)V" } : Jvm.MethodName)) ∈ lw_tbl := lw_at lw_m13 59 rfl
theorem q3192 : (Jvm.Cond.instanceMethod ({ cls := "SearchHouseModel", name := "wholeWorld", desc := "(I)V" } : Jvm.MethodName)) ∈ lw_all := lw_g (lw_at lw_m13 60 rfl) rfl
theorem q3193 : (Jvm.Cond.code ({ cls := "SearchHouseModel", name := "wholeWorld", desc := "(I)V" } : Jvm.MethodName) prog_14_method_80_code (3 : Nat) (Option.none : Option Jvm.ClassFile.FieldType)) ∈ lw_all := lw_g (lw_at lw_m13 61 rfl) rfl
theorem q3194 : (Jvm.Cond.methodLink "SearchHouseModel" (684 : Nat) ({ cls := "SearchHouseModel", name := "load", desc := "([BII)V" } : Jvm.MethodName)) ∈ lw_all := lw_g (lw_at lw_m13 62 rfl) rfl
theorem q3195 : (Jvm.Cond.privateMethod ({ cls := "SearchHouseModel", name := "load", desc := "([BII)V" } : Jvm.MethodName)) ∈ lw_tbl := lw_at lw_m13 63 rfl
theorem q3196 : (Jvm.Cond.instanceMethod ({ cls := "SearchHouseModel", name := "load", desc := "([BII)V" } : Jvm.MethodName)) ∈ lw_all := lw_g (lw_at lw_m13 64 rfl) rfl
theorem q3197 : (Jvm.Cond.code ({ cls := "SearchHouseModel", name := "load", desc := "([BII)V" } : Jvm.MethodName) prog_14_method_110_code (4 : Nat) (Option.none : Option Jvm.ClassFile.FieldType)) ∈ lw_all := lw_g (lw_at lw_m13 65 rfl) rfl
theorem q3198 : (Jvm.Cond.methodLink "SearchHouseModel" (687 : Nat) ({ cls := "SearchHouseModel", name := "work", desc := "()V" } : Jvm.MethodName)) ∈ lw_all := lw_g (lw_at lw_m13 66 rfl) rfl
theorem q3199 : (Jvm.Cond.privateMethod ({ cls := "SearchHouseModel", name := "work", desc := "()V" } : Jvm.MethodName)) ∈ lw_tbl := lw_at lw_m13 67 rfl
theorem q3200 : (Jvm.Cond.instanceMethod ({ cls := "SearchHouseModel", name := "work", desc := "()V" } : Jvm.MethodName)) ∈ lw_all := lw_g (lw_at lw_m13 68 rfl) rfl
theorem q3201 : (Jvm.Cond.code ({ cls := "SearchHouseModel", name := "work", desc := "()V" } : Jvm.MethodName) prog_14_method_113_code (3 : Nat) (Option.none : Option Jvm.ClassFile.FieldType)) ∈ lw_all := lw_g (lw_at lw_m13 69 rfl) rfl
theorem q3202 : (Jvm.Cond.methodLink "SearchHouseModel" (800 : Nat) ({ cls := "SearchHouseModel", name := "workNode", desc := "(I)V" } : Jvm.MethodName)) ∈ lw_all := lw_g (lw_at lw_m13 70 rfl) rfl
theorem q3203 : (Jvm.Cond.privateMethod ({ cls := "SearchHouseModel", name := "workNode", desc := "(I)V" } : Jvm.MethodName)) ∈ lw_tbl := lw_at lw_m13 71 rfl
theorem q3204 : (Jvm.Cond.instanceMethod ({ cls := "SearchHouseModel", name := "workNode", desc := "(I)V" } : Jvm.MethodName)) ∈ lw_all := lw_g (lw_at lw_m13 72 rfl) rfl
theorem q3205 : (Jvm.Cond.code ({ cls := "SearchHouseModel", name := "workNode", desc := "(I)V" } : Jvm.MethodName) prog_14_method_114_code (3 : Nat) (Option.none : Option Jvm.ClassFile.FieldType)) ∈ lw_all := lw_g (lw_at lw_m13 73 rfl) rfl
theorem q3206 : (Jvm.Cond.methodLink "SearchHouseModel" (807 : Nat) ({ cls := "SearchHouseModel", name := "workText", desc := "(I)V" } : Jvm.MethodName)) ∈ lw_all := lw_g (lw_at lw_m13 74 rfl) rfl
theorem q3207 : (Jvm.Cond.privateMethod ({ cls := "SearchHouseModel", name := "workText", desc := "(I)V" } : Jvm.MethodName)) ∈ lw_tbl := lw_at lw_m13 75 rfl
theorem q3208 : (Jvm.Cond.instanceMethod ({ cls := "SearchHouseModel", name := "workText", desc := "(I)V" } : Jvm.MethodName)) ∈ lw_all := lw_g (lw_at lw_m13 76 rfl) rfl
theorem q3209 : (Jvm.Cond.code ({ cls := "SearchHouseModel", name := "workText", desc := "(I)V" } : Jvm.MethodName) prog_14_method_146_code (11 : Nat) (Option.none : Option Jvm.ClassFile.FieldType)) ∈ lw_all := lw_g (lw_at lw_m13 77 rfl) rfl
theorem q3210 : (Jvm.Cond.methodLink "SearchHouseModel" (930 : Nat) ({ cls := "SearchHouseModel", name := "takePlaces", desc := "(I)V" } : Jvm.MethodName)) ∈ lw_all := lw_g (lw_at lw_m13 78 rfl) rfl
theorem q3211 : (Jvm.Cond.privateMethod ({ cls := "SearchHouseModel", name := "takePlaces", desc := "(I)V" } : Jvm.MethodName)) ∈ lw_tbl := lw_at lw_m13 79 rfl
theorem q3212 : (Jvm.Cond.instanceMethod ({ cls := "SearchHouseModel", name := "takePlaces", desc := "(I)V" } : Jvm.MethodName)) ∈ lw_all := lw_g (lw_at lw_m13 80 rfl) rfl
theorem q3213 : (Jvm.Cond.code ({ cls := "SearchHouseModel", name := "takePlaces", desc := "(I)V" } : Jvm.MethodName) prog_14_method_136_code (5 : Nat) (Option.none : Option Jvm.ClassFile.FieldType)) ∈ lw_all := lw_g (lw_at lw_m13 81 rfl) rfl
theorem q3214 : (Jvm.Cond.methodLink "SearchHouseModel" (885 : Nat) ({ cls := "SearchHouseModel", name := "valued", desc := "(I)I" } : Jvm.MethodName)) ∈ lw_all := lw_g (lw_at lw_m13 82 rfl) rfl
theorem q3215 : (Jvm.Cond.privateMethod ({ cls := "SearchHouseModel", name := "valued", desc := "(I)I" } : Jvm.MethodName)) ∈ lw_tbl := lw_at lw_m13 83 rfl
theorem q3216 : (Jvm.Cond.instanceMethod ({ cls := "SearchHouseModel", name := "valued", desc := "(I)I" } : Jvm.MethodName)) ∈ lw_all := lw_g (lw_at lw_m13 84 rfl) rfl
theorem q3217 : (Jvm.Cond.code ({ cls := "SearchHouseModel", name := "valued", desc := "(I)I" } : Jvm.MethodName) prog_14_method_132_code (4 : Nat) (Option.some Jvm.ClassFile.FieldType.int)) ∈ lw_all := lw_g (lw_at lw_m13 85 rfl) rfl
theorem q3218 : (Jvm.Cond.methodLink "SearchHouseModel" (868 : Nat) ({ cls := "SearchHouseModel", name := "hasValue", desc := "(II)Z" } : Jvm.MethodName)) ∈ lw_all := lw_g (lw_at lw_m13 86 rfl) rfl
theorem q3219 : (Jvm.Cond.privateMethod ({ cls := "SearchHouseModel", name := "hasValue", desc := "(II)Z" } : Jvm.MethodName)) ∈ lw_tbl := lw_at lw_m13 87 rfl
theorem q3220 : (Jvm.Cond.instanceMethod ({ cls := "SearchHouseModel", name := "hasValue", desc := "(II)Z" } : Jvm.MethodName)) ∈ lw_all := lw_g (lw_at lw_m13 88 rfl) rfl
theorem q3221 : (Jvm.Cond.code ({ cls := "SearchHouseModel", name := "hasValue", desc := "(II)Z" } : Jvm.MethodName) prog_14_method_131_code (5 : Nat) (Option.some Jvm.ClassFile.FieldType.boolean)) ∈ lw_all := lw_g (lw_at lw_m13 89 rfl) rfl
theorem q3222 : (Jvm.Cond.methodLink "SearchHouseModel" (836 : Nat) ({ cls := "SearchHouseModel", name := "lastOf", desc := "(I)I" } : Jvm.MethodName)) ∈ lw_all := lw_g (lw_at lw_m13 90 rfl) rfl
theorem q3223 : (Jvm.Cond.privateMethod ({ cls := "SearchHouseModel", name := "lastOf", desc := "(I)I" } : Jvm.MethodName)) ∈ lw_tbl := lw_at lw_m13 91 rfl
theorem q3224 : (Jvm.Cond.instanceMethod ({ cls := "SearchHouseModel", name := "lastOf", desc := "(I)I" } : Jvm.MethodName)) ∈ lw_all := lw_g (lw_at lw_m13 92 rfl) rfl
theorem q3225 : (Jvm.Cond.code ({ cls := "SearchHouseModel", name := "lastOf", desc := "(I)I" } : Jvm.MethodName) prog_14_method_121_code (2 : Nat) (Option.some Jvm.ClassFile.FieldType.int)) ∈ lw_all := lw_g (lw_at lw_m13 93 rfl) rfl
theorem q3226 : (Jvm.Cond.methodLink "SearchHouseModel" (839 : Nat) ({ cls := "SearchHouseModel", name := "isValueOf", desc := "(II)Z" } : Jvm.MethodName)) ∈ lw_all := lw_g (lw_at lw_m13 94 rfl) rfl
theorem q3227 : (Jvm.Cond.privateMethod ({ cls := "SearchHouseModel", name := "isValueOf", desc := "(II)Z" } : Jvm.MethodName)) ∈ lw_tbl := lw_at lw_m13 95 rfl
theorem q3228 : (Jvm.Cond.instanceMethod ({ cls := "SearchHouseModel", name := "isValueOf", desc := "(II)Z" } : Jvm.MethodName)) ∈ lw_all := lw_g (lw_at lw_m13 96 rfl) rfl
theorem q3229 : (Jvm.Cond.code ({ cls := "SearchHouseModel", name := "isValueOf", desc := "(II)Z" } : Jvm.MethodName) prog_14_method_120_code (3 : Nat) (Option.some Jvm.ClassFile.FieldType.boolean)) ∈ lw_all := lw_g (lw_at lw_m13 97 rfl) rfl
theorem q3230 : (Jvm.Cond.methodLink "SearchHouseModel" (879 : Nat) ({ cls := "SearchHouseModel", name := "withTerm", desc := "(I[BII)I" } : Jvm.MethodName)) ∈ lw_all := lw_g (lw_at lw_m13 98 rfl) rfl
theorem q3231 : (Jvm.Cond.privateMethod ({ cls := "SearchHouseModel", name := "withTerm", desc := "(I[BII)I" } : Jvm.MethodName)) ∈ lw_tbl := lw_at lw_m13 99 rfl
theorem q3232 : (Jvm.Cond.instanceMethod ({ cls := "SearchHouseModel", name := "withTerm", desc := "(I[BII)I" } : Jvm.MethodName)) ∈ lw_all := lw_g (lw_at lw_m13 100 rfl) rfl
theorem q3233 : (Jvm.Cond.code ({ cls := "SearchHouseModel", name := "withTerm", desc := "(I[BII)I" } : Jvm.MethodName) prog_14_method_133_code (7 : Nat) (Option.some Jvm.ClassFile.FieldType.int)) ∈ lw_all := lw_g (lw_at lw_m13 101 rfl) rfl
theorem q3234 : (Jvm.Cond.methodLink "SearchHouseModel" (871 : Nat) ({ cls := "SearchHouseModel", name := "hasTerm", desc := "(II[BII)Z" } : Jvm.MethodName)) ∈ lw_all := lw_g (lw_at lw_m13 102 rfl) rfl
theorem q3235 : (Jvm.Cond.privateMethod ({ cls := "SearchHouseModel", name := "hasTerm", desc := "(II[BII)Z" } : Jvm.MethodName)) ∈ lw_tbl := lw_at lw_m13 103 rfl
theorem q3236 : (Jvm.Cond.instanceMethod ({ cls := "SearchHouseModel", name := "hasTerm", desc := "(II[BII)Z" } : Jvm.MethodName)) ∈ lw_all := lw_g (lw_at lw_m13 104 rfl) rfl
theorem q3237 : (Jvm.Cond.code ({ cls := "SearchHouseModel", name := "hasTerm", desc := "(II[BII)Z" } : Jvm.MethodName) prog_14_method_130_code (9 : Nat) (Option.some Jvm.ClassFile.FieldType.boolean)) ∈ lw_all := lw_g (lw_at lw_m13 105 rfl) rfl
theorem q3238 : (Jvm.Cond.methodLink "SearchHouseModel" (865 : Nat) ({ cls := "SearchHouseModel", name := "isTerm", desc := "(I[BII)Z" } : Jvm.MethodName)) ∈ lw_all := lw_g (lw_at lw_m13 106 rfl) rfl
theorem q3239 : (Jvm.Cond.privateMethod ({ cls := "SearchHouseModel", name := "isTerm", desc := "(I[BII)Z" } : Jvm.MethodName)) ∈ lw_tbl := lw_at lw_m13 107 rfl
theorem q3240 : (Jvm.Cond.instanceMethod ({ cls := "SearchHouseModel", name := "isTerm", desc := "(I[BII)Z" } : Jvm.MethodName)) ∈ lw_all := lw_g (lw_at lw_m13 108 rfl) rfl
theorem q3241 : (Jvm.Cond.code ({ cls := "SearchHouseModel", name := "isTerm", desc := "(I[BII)Z" } : Jvm.MethodName) prog_14_method_129_code (5 : Nat) (Option.some Jvm.ClassFile.FieldType.boolean)) ∈ lw_all := lw_g (lw_at lw_m13 109 rfl) rfl
theorem q3242 : (Jvm.Cond.methodLink "SearchHouseModel" (888 : Nat) ({ cls := "SearchHouseModel", name := "idf", desc := "(JJ)J" } : Jvm.MethodName)) ∈ lw_all := lw_g (lw_at lw_m13 110 rfl) rfl
theorem q3243 : (Jvm.Cond.static ({ cls := "SearchHouseModel", name := "idf", desc := "(JJ)J" } : Jvm.MethodName)) ∈ lw_all := lw_g (lw_at lw_m13 111 rfl) rfl
theorem q3244 : (Jvm.Cond.code ({ cls := "SearchHouseModel", name := "idf", desc := "(JJ)J" } : Jvm.MethodName) prog_14_method_134_code (15 : Nat) (Option.some Jvm.ClassFile.FieldType.long)) ∈ lw_all := lw_g (lw_at lw_m13 112 rfl) rfl
theorem q3245 : (Jvm.Cond.constantLong "SearchHouseModel" (875 : Nat) (2 : Int64)) ∈ lw_all := lw_g (lw_at lw_m13 113 rfl) rfl
theorem q3246 : (Jvm.Cond.constantLong "SearchHouseModel" (877 : Nat) (2147483648 : Int64)) ∈ lw_all := lw_g (lw_at lw_m13 114 rfl) rfl
theorem q3247 : (Jvm.Cond.methodLink "SearchHouseModel" (933 : Nat) ({ cls := "java/lang/Math", name := "max", desc := "(JJ)J" } : Jvm.MethodName)) ∈ lw_all := lw_g (lw_at lw_m13 115 rfl) rfl
theorem q3248 : (Jvm.Cond.methodLink "SearchHouseModel" (935 : Nat) ({ cls := "SearchHouseModel", name := "allTokens", desc := "(I)J" } : Jvm.MethodName)) ∈ lw_all := lw_g (lw_at lw_m13 116 rfl) rfl
theorem q3249 : (Jvm.Cond.privateMethod ({ cls := "SearchHouseModel", name := "allTokens", desc := "(I)J" } : Jvm.MethodName)) ∈ lw_tbl := lw_at lw_m13 117 rfl
theorem q3250 : (Jvm.Cond.instanceMethod ({ cls := "SearchHouseModel", name := "allTokens", desc := "(I)J" } : Jvm.MethodName)) ∈ lw_all := lw_g (lw_at lw_m13 118 rfl) rfl
theorem q3251 : (Jvm.Cond.code ({ cls := "SearchHouseModel", name := "allTokens", desc := "(I)J" } : Jvm.MethodName) prog_14_method_143_code (5 : Nat) (Option.some Jvm.ClassFile.FieldType.long)) ∈ lw_all := lw_g (lw_at lw_m13 119 rfl) rfl
theorem q3252 : (Jvm.Cond.methodLink "SearchHouseModel" (913 : Nat) ({ cls := "SearchHouseModel", name := "tokensOf", desc := "(II)I" } : Jvm.MethodName)) ∈ lw_all := lw_g (lw_at lw_m13 120 rfl) rfl
theorem q3253 : (Jvm.Cond.privateMethod ({ cls := "SearchHouseModel", name := "tokensOf", desc := "(II)I" } : Jvm.MethodName)) ∈ lw_tbl := lw_at lw_m13 121 rfl
theorem q3254 : (Jvm.Cond.instanceMethod ({ cls := "SearchHouseModel", name := "tokensOf", desc := "(II)I" } : Jvm.MethodName)) ∈ lw_all := lw_g (lw_at lw_m13 122 rfl) rfl
theorem q3255 : (Jvm.Cond.code ({ cls := "SearchHouseModel", name := "tokensOf", desc := "(II)I" } : Jvm.MethodName) prog_14_method_142_code (5 : Nat) (Option.some Jvm.ClassFile.FieldType.int)) ∈ lw_all := lw_g (lw_at lw_m13 123 rfl) rfl
theorem q3256 : (Jvm.Cond.methodLink "SearchHouseModel" (938 : Nat) ({ cls := "SearchHouseModel", name := "matchesIn", desc := "(II)I" } : Jvm.MethodName)) ∈ lw_all := lw_g (lw_at lw_m13 124 rfl) rfl
theorem q3257 : (Jvm.Cond.privateMethod ({ cls := "SearchHouseModel", name := "matchesIn", desc := "(II)I" } : Jvm.MethodName)) ∈ lw_tbl := lw_at lw_m13 125 rfl
theorem q3258 : (Jvm.Cond.instanceMethod ({ cls := "SearchHouseModel", name := "matchesIn", desc := "(II)I" } : Jvm.MethodName)) ∈ lw_all := lw_g (lw_at lw_m13 126 rfl) rfl
theorem q3259 : (Jvm.Cond.code ({ cls := "SearchHouseModel", name := "matchesIn", desc := "(II)I" } : Jvm.MethodName) prog_14_method_141_code (5 : Nat) (Option.some Jvm.ClassFile.FieldType.int)) ∈ lw_all := lw_g (lw_at lw_m13 127 rfl) rfl
theorem q3260 : (Jvm.Cond.methodLink "SearchHouseModel" (907 : Nat) ({ cls := "SearchHouseModel", name := "lookAt", desc := "(II)V" } : Jvm.MethodName)) ∈ lw_all := lw_g (lw_at lw_m13 128 rfl) rfl
theorem q3261 : (Jvm.Cond.privateMethod ({ cls := "SearchHouseModel", name := "lookAt", desc := "(II)V" } : Jvm.MethodName)) ∈ lw_tbl := lw_at lw_m13 129 rfl
theorem q3262 : (Jvm.Cond.instanceMethod ({ cls := "SearchHouseModel", name := "lookAt", desc := "(II)V" } : Jvm.MethodName)) ∈ lw_all := lw_g (lw_at lw_m13 130 rfl) rfl
theorem q3263 : (Jvm.Cond.code ({ cls := "SearchHouseModel", name := "lookAt", desc := "(II)V" } : Jvm.MethodName) prog_14_method_137_code (5 : Nat) (Option.none : Option Jvm.ClassFile.FieldType)) ∈ lw_all := lw_g (lw_at lw_m13 131 rfl) rfl
theorem q3264 : (Jvm.Cond.methodLink "SearchHouseModel" (897 : Nat) ({ cls := "java/lang/Math", name := "max", desc := "(II)I" } : Jvm.MethodName)) ∈ lw_all := lw_g (lw_at lw_m13 132 rfl) rfl
theorem q3265 : (Jvm.Cond.methodLink "SearchHouseModel" (910 : Nat) ({ cls := "SearchHouseModel", name := "matchesAt", desc := "(II)Z" } : Jvm.MethodName)) ∈ lw_all := lw_g (lw_at lw_m13 133 rfl) rfl
theorem q3266 : (Jvm.Cond.privateMethod ({ cls := "SearchHouseModel", name := "matchesAt", desc := "(II)Z" } : Jvm.MethodName)) ∈ lw_tbl := lw_at lw_m13 134 rfl
theorem q3267 : (Jvm.Cond.instanceMethod ({ cls := "SearchHouseModel", name := "matchesAt", desc := "(II)Z" } : Jvm.MethodName)) ∈ lw_all := lw_g (lw_at lw_m13 135 rfl) rfl
theorem q3268 : (Jvm.Cond.code ({ cls := "SearchHouseModel", name := "matchesAt", desc := "(II)Z" } : Jvm.MethodName) prog_14_method_138_code (5 : Nat) (Option.some Jvm.ClassFile.FieldType.boolean)) ∈ lw_all := lw_g (lw_at lw_m13 136 rfl) rfl
theorem q3269 : (Jvm.Cond.methodLink "SearchHouseModel" (900 : Nat) ({ cls := "SearchHouseModel", name := "fitsWindow", desc := "(III)Z" } : Jvm.MethodName)) ∈ lw_all := lw_g (lw_at lw_m13 137 rfl) rfl
theorem q3270 : (Jvm.Cond.privateMethod ({ cls := "SearchHouseModel", name := "fitsWindow", desc := "(III)Z" } : Jvm.MethodName)) ∈ lw_tbl := lw_at lw_m13 138 rfl
theorem q3271 : (Jvm.Cond.instanceMethod ({ cls := "SearchHouseModel", name := "fitsWindow", desc := "(III)Z" } : Jvm.MethodName)) ∈ lw_all := lw_g (lw_at lw_m13 139 rfl) rfl
theorem q3272 : (Jvm.Cond.code ({ cls := "SearchHouseModel", name := "fitsWindow", desc := "(III)Z" } : Jvm.MethodName) prog_14_method_139_code (7 : Nat) (Option.some Jvm.ClassFile.FieldType.boolean)) ∈ lw_all := lw_g (lw_at lw_m13 140 rfl) rfl
theorem q3273 : (Jvm.Cond.methodLink "SearchHouseModel" (904 : Nat) ({ cls := "SearchHouseModel", name := "findPosition", desc := "(III)Z" } : Jvm.MethodName)) ∈ lw_all := lw_g (lw_at lw_m13 141 rfl) rfl
theorem q3274 : (Jvm.Cond.privateMethod ({ cls := "SearchHouseModel", name := "findPosition", desc := "(III)Z" } : Jvm.MethodName)) ∈ lw_tbl := lw_at lw_m13 142 rfl
theorem q3275 : (Jvm.Cond.instanceMethod ({ cls := "SearchHouseModel", name := "findPosition", desc := "(III)Z" } : Jvm.MethodName)) ∈ lw_all := lw_g (lw_at lw_m13 143 rfl) rfl
theorem q3276 : (Jvm.Cond.code ({ cls := "SearchHouseModel", name := "findPosition", desc := "(III)Z" } : Jvm.MethodName) prog_14_method_140_code (7 : Nat) (Option.some Jvm.ClassFile.FieldType.boolean)) ∈ lw_all := lw_g (lw_at lw_m13 144 rfl) rfl
theorem q3277 : (Jvm.Cond.methodLink "SearchHouseModel" (941 : Nat) ({ cls := "SearchHouseModel", name := "scoreOf", desc := "(JJJJJ)J" } : Jvm.MethodName)) ∈ lw_all := lw_g (lw_at lw_m13 145 rfl) rfl
theorem q3278 : (Jvm.Cond.privateMethod ({ cls := "SearchHouseModel", name := "scoreOf", desc := "(JJJJJ)J" } : Jvm.MethodName)) ∈ lw_tbl := lw_at lw_m13 146 rfl
theorem q3279 : (Jvm.Cond.instanceMethod ({ cls := "SearchHouseModel", name := "scoreOf", desc := "(JJJJJ)J" } : Jvm.MethodName)) ∈ lw_all := lw_g (lw_at lw_m13 147 rfl) rfl
theorem q3280 : (Jvm.Cond.code ({ cls := "SearchHouseModel", name := "scoreOf", desc := "(JJJJJ)J" } : Jvm.MethodName) prog_14_method_145_code (11 : Nat) (Option.some Jvm.ClassFile.FieldType.long)) ∈ lw_all := lw_g (lw_at lw_m13 148 rfl) rfl
theorem q3281 : (Jvm.Cond.constantLong "SearchHouseModel" (822 : Nat) (64 : Int64)) ∈ lw_all := lw_g (lw_at lw_m13 149 rfl) rfl
theorem q3282 : (Jvm.Cond.methodLink "SearchHouseModel" (920 : Nat) ({ cls := "SearchHouseModel", name := "root", desc := "(J)J" } : Jvm.MethodName)) ∈ lw_all := lw_g (lw_at lw_m13 150 rfl) rfl
theorem q3283 : (Jvm.Cond.static ({ cls := "SearchHouseModel", name := "root", desc := "(J)J" } : Jvm.MethodName)) ∈ lw_all := lw_g (lw_at lw_m13 151 rfl) rfl
theorem q3284 : (Jvm.Cond.code ({ cls := "SearchHouseModel", name := "root", desc := "(J)J" } : Jvm.MethodName) prog_14_method_144_code (4 : Nat) (Option.some Jvm.ClassFile.FieldType.long)) ∈ lw_all := lw_g (lw_at lw_m13 152 rfl) rfl
theorem q3285 : (Jvm.Cond.methodLink "SearchHouseModel" (916 : Nat) ({ cls := "java/lang/Math", name := "sqrt", desc := "(D)D" } : Jvm.MethodName)) ∈ lw_all := lw_g (lw_at lw_m13 153 rfl) rfl
theorem q3286 : (Jvm.Cond.static ({ cls := "java/lang/Math", name := "sqrt", desc := "(D)D" } : Jvm.MethodName)) ∈ lw_all := lw_g (lw_at lw_m13 154 rfl) rfl
theorem q3287 : (Jvm.Cond.code ({ cls := "java/lang/Math", name := "sqrt", desc := "(D)D" } : Jvm.MethodName) prog_22_method_13_code (2 : Nat) (Option.some Jvm.ClassFile.FieldType.double)) ∈ lw_all := lw_g (lw_at lw_m13 155 rfl) rfl
theorem q3288 : (Jvm.Cond.methodLink "java/lang/Math" (43 : Nat) ({ cls := "java/lang/StrictMath", name := "sqrt", desc := "(D)D" } : Jvm.MethodName)) ∈ lw_all := lw_g (lw_at lw_m13 156 rfl) rfl
theorem q3289 : (Jvm.Cond.static ({ cls := "java/lang/StrictMath", name := "sqrt", desc := "(D)D" } : Jvm.MethodName)) ∈ lw_all := lw_g (lw_at lw_m13 157 rfl) rfl
theorem q3290 : (Jvm.Cond.code ({ cls := "java/lang/StrictMath", name := "sqrt", desc := "(D)D" } : Jvm.MethodName) prog_25_method_13_code (2 : Nat) (Option.some Jvm.ClassFile.FieldType.double)) ∈ lw_all := lw_g (lw_at lw_m13 158 rfl) rfl
theorem q3291 : (Jvm.Cond.methodLink "java/lang/StrictMath" (47 : Nat) ({ cls := "java/lang/FdLibm$Sqrt", name := "compute", desc := "(D)D" } : Jvm.MethodName)) ∈ lw_all := lw_g (lw_at lw_m13 159 rfl) rfl
theorem q3292 : (Jvm.Cond.static ({ cls := "java/lang/FdLibm$Sqrt", name := "compute", desc := "(D)D" } : Jvm.MethodName)) ∈ lw_all := lw_g (lw_at lw_m13 160 rfl) rfl
theorem q3293 : (Jvm.Cond.code ({ cls := "java/lang/FdLibm$Sqrt", name := "compute", desc := "(D)D" } : Jvm.MethodName) prog_19_method_2_code (16 : Nat) (Option.some Jvm.ClassFile.FieldType.double)) ∈ lw_all := lw_g (lw_at lw_m13 161 rfl) rfl
theorem q3294 : (Jvm.Cond.constant "java/lang/FdLibm$Sqrt" (12 : Nat) (-2147483648 : Int32)) ∈ lw_all := lw_g (lw_at lw_m13 162 rfl) rfl
theorem q3295 : (Jvm.Cond.methodLinkNest "java/lang/FdLibm$Sqrt" (13 : Nat) ({ cls := "java/lang/FdLibm", name := "__HI", desc := "(D)I" } : Jvm.MethodName) "java/lang/FdLibm") ∈ lw_tbl := lw_at lw_m13 163 rfl
theorem q3296 : (Jvm.Cond.static ({ cls := "java/lang/FdLibm", name := "__HI", desc := "(D)I" } : Jvm.MethodName)) ∈ lw_all := lw_g (lw_at lw_m13 164 rfl) rfl
theorem q3297 : (Jvm.Cond.code ({ cls := "java/lang/FdLibm", name := "__HI", desc := "(D)I" } : Jvm.MethodName) prog_18_method_4_code (4 : Nat) (Option.some Jvm.ClassFile.FieldType.int)) ∈ lw_all := lw_g (lw_at lw_m13 165 rfl) rfl
theorem q3298 : (Jvm.Cond.methodLink "java/lang/FdLibm" (16 : Nat) ({ cls := "java/lang/Double", name := "doubleToRawLongBits", desc := "(D)J" } : Jvm.MethodName)) ∈ lw_all := lw_g (lw_at lw_m13 166 rfl) rfl
theorem q3299 : (Jvm.Cond.static ({ cls := "java/lang/Double", name := "doubleToRawLongBits", desc := "(D)J" } : Jvm.MethodName)) ∈ lw_all := lw_g (lw_at lw_m13 167 rfl) rfl
theorem q3300 : (Jvm.Cond.native ({ cls := "java/lang/Double", name := "doubleToRawLongBits", desc := "(D)J" } : Jvm.MethodName)) ∈ lw_all := lw_g (lw_at lw_m13 168 rfl) rfl
theorem q3301 : (Jvm.Cond.methodLinkNest "java/lang/FdLibm$Sqrt" (17 : Nat) ({ cls := "java/lang/FdLibm", name := "__LO", desc := "(D)I" } : Jvm.MethodName) "java/lang/FdLibm") ∈ lw_tbl := lw_at lw_m13 169 rfl
theorem q3302 : (Jvm.Cond.static ({ cls := "java/lang/FdLibm", name := "__LO", desc := "(D)I" } : Jvm.MethodName)) ∈ lw_all := lw_g (lw_at lw_m13 170 rfl) rfl
theorem q3303 : (Jvm.Cond.code ({ cls := "java/lang/FdLibm", name := "__LO", desc := "(D)I" } : Jvm.MethodName) prog_18_method_2_code (4 : Nat) (Option.some Jvm.ClassFile.FieldType.int)) ∈ lw_all := lw_g (lw_at lw_m13 171 rfl) rfl
theorem q3304 : (Jvm.Cond.constant "java/lang/FdLibm$Sqrt" (20 : Nat) (2146435072 : Int32)) ∈ lw_all := lw_g (lw_at lw_m13 172 rfl) rfl
theorem q3305 : (Jvm.Cond.constant "java/lang/FdLibm$Sqrt" (21 : Nat) (1048576 : Int32)) ∈ lw_all := lw_g (lw_at lw_m13 173 rfl) rfl
theorem q3306 : (Jvm.Cond.constant "java/lang/FdLibm$Sqrt" (22 : Nat) (1048575 : Int32)) ∈ lw_all := lw_g (lw_at lw_m13 174 rfl) rfl
theorem q3307 : (Jvm.Cond.constant "java/lang/FdLibm$Sqrt" (23 : Nat) (2097152 : Int32)) ∈ lw_all := lw_g (lw_at lw_m13 175 rfl) rfl
theorem q3308 : (Jvm.Cond.methodLink "java/lang/FdLibm$Sqrt" (24 : Nat) ({ cls := "java/lang/Integer", name := "compareUnsigned", desc := "(II)I" } : Jvm.MethodName)) ∈ lw_all := lw_g (lw_at lw_m13 176 rfl) rfl
theorem q3309 : (Jvm.Cond.static ({ cls := "java/lang/Integer", name := "compareUnsigned", desc := "(II)I" } : Jvm.MethodName)) ∈ lw_all := lw_g (lw_at lw_m13 177 rfl) rfl
theorem q3310 : (Jvm.Cond.code ({ cls := "java/lang/Integer", name := "compareUnsigned", desc := "(II)I" } : Jvm.MethodName) prog_21_method_41_code (2 : Nat) (Option.some Jvm.ClassFile.FieldType.int)) ∈ lw_all := lw_g (lw_at lw_m13 178 rfl) rfl
theorem q3311 : (Jvm.Cond.constant "java/lang/Integer" (127 : Nat) (-2147483648 : Int32)) ∈ lw_all := lw_g (lw_at lw_m13 179 rfl) rfl
theorem q3312 : (Jvm.Cond.methodLink "java/lang/Integer" (259 : Nat) ({ cls := "java/lang/Integer", name := "compare", desc := "(II)I" } : Jvm.MethodName)) ∈ lw_all := lw_g (lw_at lw_m13 180 rfl) rfl
theorem q3313 : (Jvm.Cond.static ({ cls := "java/lang/Integer", name := "compare", desc := "(II)I" } : Jvm.MethodName)) ∈ lw_all := lw_g (lw_at lw_m13 181 rfl) rfl
theorem q3314 : (Jvm.Cond.code ({ cls := "java/lang/Integer", name := "compare", desc := "(II)I" } : Jvm.MethodName) prog_21_method_40_code (2 : Nat) (Option.some Jvm.ClassFile.FieldType.int)) ∈ lw_all := lw_g (lw_at lw_m13 182 rfl) rfl
theorem q3315 : (Jvm.Cond.constant "java/lang/FdLibm$Sqrt" (32 : Nat) (1071644672 : Int32)) ∈ lw_all := lw_g (lw_at lw_m13 183 rfl) rfl
theorem q3316 : (Jvm.Cond.methodLinkNest "java/lang/FdLibm$Sqrt" (33 : Nat) ({ cls := "java/lang/FdLibm", name := "__HI_LO", desc := "(II)D" } : Jvm.MethodName) "java/lang/FdLibm") ∈ lw_tbl := lw_at lw_m13 184 rfl
theorem q3317 : (Jvm.Cond.static ({ cls := "java/lang/FdLibm", name := "__HI_LO", desc := "(II)D" } : Jvm.MethodName)) ∈ lw_all := lw_g (lw_at lw_m13 185 rfl) rfl
theorem q3318 : (Jvm.Cond.code ({ cls := "java/lang/FdLibm", name := "__HI_LO", desc := "(II)D" } : Jvm.MethodName) prog_18_method_6_code (2 : Nat) (Option.some Jvm.ClassFile.FieldType.double)) ∈ lw_all := lw_g (lw_at lw_m13 186 rfl) rfl
theorem q3319 : (Jvm.Cond.constantLong "java/lang/FdLibm" (22 : Nat) (4294967295 : Int64)) ∈ lw_all := lw_g (lw_at lw_m13 187 rfl) rfl
theorem q3320 : (Jvm.Cond.methodLink "java/lang/FdLibm" (24 : Nat) ({ cls := "java/lang/Double", name := "longBitsToDouble", desc := "(J)D" } : Jvm.MethodName)) ∈ lw_all := lw_g (lw_at lw_m13 188 rfl) rfl
theorem q3321 : (Jvm.Cond.static ({ cls := "java/lang/Double", name := "longBitsToDouble", desc := "(J)D" } : Jvm.MethodName)) ∈ lw_all := lw_g (lw_at lw_m13 189 rfl) rfl
theorem q3322 : (Jvm.Cond.native ({ cls := "java/lang/Double", name := "longBitsToDouble", desc := "(J)D" } : Jvm.MethodName)) ∈ lw_all := lw_g (lw_at lw_m13 190 rfl) rfl
theorem q3323 : (Jvm.Cond.constantLong "SearchHouseModel" (924 : Nat) (1408 : Int64)) ∈ lw_all := lw_g (lw_at lw_m13 191 rfl) rfl
theorem q3324 : (Jvm.Cond.constantLong "SearchHouseModel" (926 : Nat) (3 : Int64)) ∈ lw_all := lw_g (lw_at lw_m13 192 rfl) rfl
theorem q3325 : (Jvm.Cond.constantLong "SearchHouseModel" (928 : Nat) (9 : Int64)) ∈ lw_all := lw_g (lw_at lw_m13 193 rfl) rfl
theorem q3326 : (Jvm.Cond.methodLink "SearchHouseModel" (824 : Nat) ({ cls := "SearchHouseModel", name := "set", desc := "(IIZJ)V" } : Jvm.MethodName)) ∈ lw_all := lw_g (lw_at lw_m13 194 rfl) rfl
theorem q3327 : (Jvm.Cond.privateMethod ({ cls := "SearchHouseModel", name := "set", desc := "(IIZJ)V" } : Jvm.MethodName)) ∈ lw_tbl := lw_at lw_m13 195 rfl
theorem q3328 : (Jvm.Cond.instanceMethod ({ cls := "SearchHouseModel", name := "set", desc := "(IIZJ)V" } : Jvm.MethodName)) ∈ lw_all := lw_g (lw_at lw_m13 196 rfl) rfl
theorem q3329 : (Jvm.Cond.code ({ cls := "SearchHouseModel", name := "set", desc := "(IIZJ)V" } : Jvm.MethodName) prog_14_method_115_code (6 : Nat) (Option.none : Option Jvm.ClassFile.FieldType)) ∈ lw_all := lw_g (lw_at lw_m13 197 rfl) rfl
theorem q3330 : (Jvm.Cond.methodLink "SearchHouseModel" (810 : Nat) ({ cls := "SearchHouseModel", name := "workValue", desc := "(I)V" } : Jvm.MethodName)) ∈ lw_all := lw_g (lw_at lw_m13 198 rfl) rfl
theorem q3331 : (Jvm.Cond.privateMethod ({ cls := "SearchHouseModel", name := "workValue", desc := "(I)V" } : Jvm.MethodName)) ∈ lw_tbl := lw_at lw_m13 199 rfl
theorem q3332 : (Jvm.Cond.instanceMethod ({ cls := "SearchHouseModel", name := "workValue", desc := "(I)V" } : Jvm.MethodName)) ∈ lw_all := lw_g (lw_at lw_m13 200 rfl) rfl
theorem q3333 : (Jvm.Cond.code ({ cls := "SearchHouseModel", name := "workValue", desc := "(I)V" } : Jvm.MethodName) prog_14_method_135_code (8 : Nat) (Option.none : Option Jvm.ClassFile.FieldType)) ∈ lw_all := lw_g (lw_at lw_m13 201 rfl) rfl
theorem q3334 : (Jvm.Cond.methodLink "SearchHouseModel" (813 : Nat) ({ cls := "SearchHouseModel", name := "workChild", desc := "(I)V" } : Jvm.MethodName)) ∈ lw_all := lw_g (lw_at lw_m13 202 rfl) rfl
theorem q3335 : (Jvm.Cond.privateMethod ({ cls := "SearchHouseModel", name := "workChild", desc := "(I)V" } : Jvm.MethodName)) ∈ lw_tbl := lw_at lw_m13 203 rfl
theorem q3336 : (Jvm.Cond.instanceMethod ({ cls := "SearchHouseModel", name := "workChild", desc := "(I)V" } : Jvm.MethodName)) ∈ lw_all := lw_g (lw_at lw_m13 204 rfl) rfl
theorem q3337 : (Jvm.Cond.code ({ cls := "SearchHouseModel", name := "workChild", desc := "(I)V" } : Jvm.MethodName) prog_14_method_117_code (5 : Nat) (Option.none : Option Jvm.ClassFile.FieldType)) ∈ lw_all := lw_g (lw_at lw_m13 205 rfl) rfl
theorem q3338 : (Jvm.Cond.methodLink "SearchHouseModel" (803 : Nat) ({ cls := "SearchHouseModel", name := "product", desc := "(JJ)J" } : Jvm.MethodName)) ∈ lw_all := lw_g (lw_at lw_m13 206 rfl) rfl
theorem q3339 : (Jvm.Cond.static ({ cls := "SearchHouseModel", name := "product", desc := "(JJ)J" } : Jvm.MethodName)) ∈ lw_all := lw_g (lw_at lw_m13 207 rfl) rfl
theorem q3340 : (Jvm.Cond.code ({ cls := "SearchHouseModel", name := "product", desc := "(JJ)J" } : Jvm.MethodName) prog_14_method_112_code (4 : Nat) (Option.some Jvm.ClassFile.FieldType.long)) ∈ lw_all := lw_g (lw_at lw_m13 208 rfl) rfl
theorem q3341 : (Jvm.Cond.constantLong "SearchHouseModel" (795 : Nat) (1000000000000000 : Int64)) ∈ lw_all := lw_g (lw_at lw_m13 209 rfl) rfl
theorem q3342 : (Jvm.Cond.methodLink "SearchHouseModel" (816 : Nat) ({ cls := "SearchHouseModel", name := "workParent", desc := "(I)V" } : Jvm.MethodName)) ∈ lw_all := lw_g (lw_at lw_m13 210 rfl) rfl
theorem q3343 : (Jvm.Cond.privateMethod ({ cls := "SearchHouseModel", name := "workParent", desc := "(I)V" } : Jvm.MethodName)) ∈ lw_tbl := lw_at lw_m13 211 rfl
theorem q3344 : (Jvm.Cond.instanceMethod ({ cls := "SearchHouseModel", name := "workParent", desc := "(I)V" } : Jvm.MethodName)) ∈ lw_all := lw_g (lw_at lw_m13 212 rfl) rfl
theorem q3345 : (Jvm.Cond.code ({ cls := "SearchHouseModel", name := "workParent", desc := "(I)V" } : Jvm.MethodName) prog_14_method_116_code (4 : Nat) (Option.none : Option Jvm.ClassFile.FieldType)) ∈ lw_all := lw_g (lw_at lw_m13 213 rfl) rfl
theorem q3346 : (Jvm.Cond.methodLink "SearchHouseModel" (819 : Nat) ({ cls := "SearchHouseModel", name := "workFor", desc := "(II)V" } : Jvm.MethodName)) ∈ lw_all := lw_g (lw_at lw_m13 214 rfl) rfl
theorem q3347 : (Jvm.Cond.privateMethod ({ cls := "SearchHouseModel", name := "workFor", desc := "(II)V" } : Jvm.MethodName)) ∈ lw_tbl := lw_at lw_m13 215 rfl
theorem q3348 : (Jvm.Cond.instanceMethod ({ cls := "SearchHouseModel", name := "workFor", desc := "(II)V" } : Jvm.MethodName)) ∈ lw_all := lw_g (lw_at lw_m13 216 rfl) rfl
theorem q3349 : (Jvm.Cond.code ({ cls := "SearchHouseModel", name := "workFor", desc := "(II)V" } : Jvm.MethodName) prog_14_method_118_code (3 : Nat) (Option.none : Option Jvm.ClassFile.FieldType)) ∈ lw_all := lw_g (lw_at lw_m13 217 rfl) rfl
theorem q3350 : (Jvm.Cond.methodLink "SearchHouseModel" (828 : Nat) ({ cls := "SearchHouseModel", name := "workMembers", desc := "(II)V" } : Jvm.MethodName)) ∈ lw_all := lw_g (lw_at lw_m13 218 rfl) rfl
theorem q3351 : (Jvm.Cond.privateMethod ({ cls := "SearchHouseModel", name := "workMembers", desc := "(II)V" } : Jvm.MethodName)) ∈ lw_tbl := lw_at lw_m13 219 rfl
theorem q3352 : (Jvm.Cond.instanceMethod ({ cls := "SearchHouseModel", name := "workMembers", desc := "(II)V" } : Jvm.MethodName)) ∈ lw_all := lw_g (lw_at lw_m13 220 rfl) rfl
theorem q3353 : (Jvm.Cond.code ({ cls := "SearchHouseModel", name := "workMembers", desc := "(II)V" } : Jvm.MethodName) prog_14_method_119_code (15 : Nat) (Option.none : Option Jvm.ClassFile.FieldType)) ∈ lw_all := lw_g (lw_at lw_m13 221 rfl) rfl
theorem q3354 : (Jvm.Cond.methodLink "SearchHouseModel" (834 : Nat) ({ cls := "java/lang/Math", name := "min", desc := "(JJ)J" } : Jvm.MethodName)) ∈ lw_all := lw_g (lw_at lw_m13 222 rfl) rfl
theorem q3355 : (Jvm.Cond.methodLink "SearchHouseModel" (831 : Nat) ({ cls := "SearchHouseModel", name := "hasLeaf", desc := "(II)Z" } : Jvm.MethodName)) ∈ lw_all := lw_g (lw_at lw_m13 223 rfl) rfl
theorem q3356 : (Jvm.Cond.privateMethod ({ cls := "SearchHouseModel", name := "hasLeaf", desc := "(II)Z" } : Jvm.MethodName)) ∈ lw_tbl := lw_at lw_m13 224 rfl
theorem q3357 : (Jvm.Cond.instanceMethod ({ cls := "SearchHouseModel", name := "hasLeaf", desc := "(II)Z" } : Jvm.MethodName)) ∈ lw_all := lw_g (lw_at lw_m13 225 rfl) rfl
theorem q3358 : (Jvm.Cond.code ({ cls := "SearchHouseModel", name := "hasLeaf", desc := "(II)Z" } : Jvm.MethodName) prog_14_method_122_code (6 : Nat) (Option.some Jvm.ClassFile.FieldType.boolean)) ∈ lw_all := lw_g (lw_at lw_m13 226 rfl) rfl
theorem q3359 : (Jvm.Cond.methodLink "SearchHouseModel" (842 : Nat) ({ cls := "SearchHouseModel", name := "isLeafValue", desc := "(II)Z" } : Jvm.MethodName)) ∈ lw_all := lw_g (lw_at lw_m13 227 rfl) rfl
theorem q3360 : (Jvm.Cond.privateMethod ({ cls := "SearchHouseModel", name := "isLeafValue", desc := "(II)Z" } : Jvm.MethodName)) ∈ lw_tbl := lw_at lw_m13 228 rfl
theorem q3361 : (Jvm.Cond.instanceMethod ({ cls := "SearchHouseModel", name := "isLeafValue", desc := "(II)Z" } : Jvm.MethodName)) ∈ lw_all := lw_g (lw_at lw_m13 229 rfl) rfl
theorem q3362 : (Jvm.Cond.code ({ cls := "SearchHouseModel", name := "isLeafValue", desc := "(II)Z" } : Jvm.MethodName) prog_14_method_123_code (7 : Nat) (Option.some Jvm.ClassFile.FieldType.boolean)) ∈ lw_all := lw_g (lw_at lw_m13 230 rfl) rfl
theorem q3363 : (Jvm.Cond.methodLink "SearchHouseModel" (845 : Nat) ({ cls := "SearchHouseModel", name := "fitsTerm", desc := "(II)Z" } : Jvm.MethodName)) ∈ lw_all := lw_g (lw_at lw_m13 231 rfl) rfl
theorem q3364 : (Jvm.Cond.privateMethod ({ cls := "SearchHouseModel", name := "fitsTerm", desc := "(II)Z" } : Jvm.MethodName)) ∈ lw_tbl := lw_at lw_m13 232 rfl
theorem q3365 : (Jvm.Cond.instanceMethod ({ cls := "SearchHouseModel", name := "fitsTerm", desc := "(II)Z" } : Jvm.MethodName)) ∈ lw_all := lw_g (lw_at lw_m13 233 rfl) rfl
theorem q3366 : (Jvm.Cond.code ({ cls := "SearchHouseModel", name := "fitsTerm", desc := "(II)Z" } : Jvm.MethodName) prog_14_method_125_code (3 : Nat) (Option.some Jvm.ClassFile.FieldType.boolean)) ∈ lw_all := lw_g (lw_at lw_m13 234 rfl) rfl
theorem q3367 : (Jvm.Cond.methodLink "SearchHouseModel" (851 : Nat) ({ cls := "SearchHouseModel", name := "takePattern", desc := "(I)V" } : Jvm.MethodName)) ∈ lw_all := lw_g (lw_at lw_m13 235 rfl) rfl
theorem q3368 : (Jvm.Cond.privateMethod ({ cls := "SearchHouseModel", name := "takePattern", desc := "(I)V" } : Jvm.MethodName)) ∈ lw_tbl := lw_at lw_m13 236 rfl
theorem q3369 : (Jvm.Cond.instanceMethod ({ cls := "SearchHouseModel", name := "takePattern", desc := "(I)V" } : Jvm.MethodName)) ∈ lw_all := lw_g (lw_at lw_m13 237 rfl) rfl
theorem q3370 : (Jvm.Cond.code ({ cls := "SearchHouseModel", name := "takePattern", desc := "(I)V" } : Jvm.MethodName) prog_14_method_124_code (5 : Nat) (Option.none : Option Jvm.ClassFile.FieldType)) ∈ lw_all := lw_g (lw_at lw_m13 238 rfl) rfl
theorem q3371 : (Jvm.Cond.methodLink "SearchHouseModel" (854 : Nat) ({ cls := "SearchHouseModel", name := "isWild", desc := "(I)Z" } : Jvm.MethodName)) ∈ lw_all := lw_g (lw_at lw_m13 239 rfl) rfl
theorem q3372 : (Jvm.Cond.privateMethod ({ cls := "SearchHouseModel", name := "isWild", desc := "(I)Z" } : Jvm.MethodName)) ∈ lw_tbl := lw_at lw_m14 0 rfl
theorem q3373 : (Jvm.Cond.instanceMethod ({ cls := "SearchHouseModel", name := "isWild", desc := "(I)Z" } : Jvm.MethodName)) ∈ lw_all := lw_g (lw_at lw_m14 1 rfl) rfl
theorem q3374 : (Jvm.Cond.code ({ cls := "SearchHouseModel", name := "isWild", desc := "(I)Z" } : Jvm.MethodName) prog_14_method_126_code (8 : Nat) (Option.some Jvm.ClassFile.FieldType.boolean)) ∈ lw_all := lw_g (lw_at lw_m14 2 rfl) rfl
theorem q3375 : (Jvm.Cond.methodLink "SearchHouseModel" (857 : Nat) ({ cls := "SearchHouseModel", name := "changes", desc := "([BII)I" } : Jvm.MethodName)) ∈ lw_all := lw_g (lw_at lw_m14 3 rfl) rfl
theorem q3376 : (Jvm.Cond.privateMethod ({ cls := "SearchHouseModel", name := "changes", desc := "([BII)I" } : Jvm.MethodName)) ∈ lw_tbl := lw_at lw_m14 4 rfl
theorem q3377 : (Jvm.Cond.instanceMethod ({ cls := "SearchHouseModel", name := "changes", desc := "([BII)I" } : Jvm.MethodName)) ∈ lw_all := lw_g (lw_at lw_m14 5 rfl) rfl
theorem q3378 : (Jvm.Cond.code ({ cls := "SearchHouseModel", name := "changes", desc := "([BII)I" } : Jvm.MethodName) prog_14_method_127_code (7 : Nat) (Option.some Jvm.ClassFile.FieldType.int)) ∈ lw_all := lw_g (lw_at lw_m14 6 rfl) rfl
theorem q3379 : (Jvm.Cond.methodLink "SearchHouseModel" (861 : Nat) ({ cls := "SearchHouseModel", name := "cheapest", desc := "([BIII)I" } : Jvm.MethodName)) ∈ lw_all := lw_g (lw_at lw_m14 7 rfl) rfl
theorem q3380 : (Jvm.Cond.privateMethod ({ cls := "SearchHouseModel", name := "cheapest", desc := "([BIII)I" } : Jvm.MethodName)) ∈ lw_tbl := lw_at lw_m14 8 rfl
theorem q3381 : (Jvm.Cond.instanceMethod ({ cls := "SearchHouseModel", name := "cheapest", desc := "([BIII)I" } : Jvm.MethodName)) ∈ lw_all := lw_g (lw_at lw_m14 9 rfl) rfl
theorem q3382 : (Jvm.Cond.code ({ cls := "SearchHouseModel", name := "cheapest", desc := "([BIII)I" } : Jvm.MethodName) prog_14_method_128_code (8 : Nat) (Option.some Jvm.ClassFile.FieldType.int)) ∈ lw_all := lw_g (lw_at lw_m14 10 rfl) rfl
theorem q3383 : (Jvm.Cond.methodLink "SearchHouseModel" (976 : Nat) ({ cls := "SearchHouseModel", name := "takeKey", desc := "(I)V" } : Jvm.MethodName)) ∈ lw_all := lw_g (lw_at lw_m14 11 rfl) rfl
theorem q3384 : (Jvm.Cond.privateMethod ({ cls := "SearchHouseModel", name := "takeKey", desc := "(I)V" } : Jvm.MethodName)) ∈ lw_tbl := lw_at lw_m14 12 rfl
theorem q3385 : (Jvm.Cond.instanceMethod ({ cls := "SearchHouseModel", name := "takeKey", desc := "(I)V" } : Jvm.MethodName)) ∈ lw_all := lw_g (lw_at lw_m14 13 rfl) rfl
theorem q3386 : (Jvm.Cond.code ({ cls := "SearchHouseModel", name := "takeKey", desc := "(I)V" } : Jvm.MethodName) prog_14_method_150_code (4 : Nat) (Option.none : Option Jvm.ClassFile.FieldType)) ∈ lw_all := lw_g (lw_at lw_m14 14 rfl) rfl
theorem q3387 : (Jvm.Cond.methodLink "SearchHouseModel" (979 : Nat) ({ cls := "SearchHouseModel", name := "addHit", desc := "(IJZ)V" } : Jvm.MethodName)) ∈ lw_all := lw_g (lw_at lw_m14 15 rfl) rfl
theorem q3388 : (Jvm.Cond.privateMethod ({ cls := "SearchHouseModel", name := "addHit", desc := "(IJZ)V" } : Jvm.MethodName)) ∈ lw_tbl := lw_at lw_m14 16 rfl
theorem q3389 : (Jvm.Cond.instanceMethod ({ cls := "SearchHouseModel", name := "addHit", desc := "(IJZ)V" } : Jvm.MethodName)) ∈ lw_all := lw_g (lw_at lw_m14 17 rfl) rfl
theorem q3390 : (Jvm.Cond.code ({ cls := "SearchHouseModel", name := "addHit", desc := "(IJZ)V" } : Jvm.MethodName) prog_14_method_152_code (6 : Nat) (Option.none : Option Jvm.ClassFile.FieldType)) ∈ lw_all := lw_g (lw_at lw_m14 18 rfl) rfl
theorem q3391 : (Jvm.Cond.methodLink "SearchHouseModel" (963 : Nat) ({ cls := "SearchHouseModel", name := "isBefore", desc := "(IJIJZ)Z" } : Jvm.MethodName)) ∈ lw_all := lw_g (lw_at lw_m14 19 rfl) rfl
theorem q3392 : (Jvm.Cond.privateMethod ({ cls := "SearchHouseModel", name := "isBefore", desc := "(IJIJZ)Z" } : Jvm.MethodName)) ∈ lw_tbl := lw_at lw_m14 20 rfl
theorem q3393 : (Jvm.Cond.instanceMethod ({ cls := "SearchHouseModel", name := "isBefore", desc := "(IJIJZ)Z" } : Jvm.MethodName)) ∈ lw_all := lw_g (lw_at lw_m14 21 rfl) rfl
theorem q3394 : (Jvm.Cond.code ({ cls := "SearchHouseModel", name := "isBefore", desc := "(IJIJZ)Z" } : Jvm.MethodName) prog_14_method_151_code (8 : Nat) (Option.some Jvm.ClassFile.FieldType.boolean)) ∈ lw_all := lw_g (lw_at lw_m14 22 rfl) rfl
theorem q3395 : (Jvm.Cond.methodLink "SearchHouseModel" (983 : Nat) ({ cls := "SearchHouseModel", name := "keepSeen", desc := "(I)V" } : Jvm.MethodName)) ∈ lw_all := lw_g (lw_at lw_m14 23 rfl) rfl
theorem q3396 : (Jvm.Cond.privateMethod ({ cls := "SearchHouseModel", name := "keepSeen", desc := "(I)V" } : Jvm.MethodName)) ∈ lw_tbl := lw_at lw_m14 24 rfl
theorem q3397 : (Jvm.Cond.instanceMethod ({ cls := "SearchHouseModel", name := "keepSeen", desc := "(I)V" } : Jvm.MethodName)) ∈ lw_all := lw_g (lw_at lw_m14 25 rfl) rfl
theorem q3398 : (Jvm.Cond.code ({ cls := "SearchHouseModel", name := "keepSeen", desc := "(I)V" } : Jvm.MethodName) prog_14_method_153_code (3 : Nat) (Option.none : Option Jvm.ClassFile.FieldType)) ∈ lw_all := lw_g (lw_at lw_m14 26 rfl) rfl
theorem q3399 : (Jvm.Cond.methodLink "SearchHouseModel" (986 : Nat) ({ cls := "SearchHouseModel", name := "keepSearch", desc := "()V" } : Jvm.MethodName)) ∈ lw_all := lw_g (lw_at lw_m14 27 rfl) rfl
theorem q3400 : (Jvm.Cond.privateMethod ({ cls := "SearchHouseModel", name := "keepSearch", desc := "()V" } : Jvm.MethodName)) ∈ lw_tbl := lw_at lw_m14 28 rfl
theorem q3401 : (Jvm.Cond.instanceMethod ({ cls := "SearchHouseModel", name := "keepSearch", desc := "()V" } : Jvm.MethodName)) ∈ lw_all := lw_g (lw_at lw_m14 29 rfl) rfl
theorem q3402 : (Jvm.Cond.code ({ cls := "SearchHouseModel", name := "keepSearch", desc := "()V" } : Jvm.MethodName) prog_14_method_155_code (2 : Nat) (Option.none : Option Jvm.ClassFile.FieldType)) ∈ lw_all := lw_g (lw_at lw_m14 30 rfl) rfl
theorem q3403 : (Jvm.Cond.methodLink "SearchHouseModel" (992 : Nat) ({ cls := "java/lang/System", name := "arraycopy", desc := "(Ljava/lang/Object;ILjava/lang/Object;II)V" } : Jvm.MethodName)) ∈ lw_all := lw_g (lw_at lw_m14 31 rfl) rfl
theorem q3404 : (Jvm.Cond.methodLink "SearchHouseLaw" (156 : Nat) ({ cls := "SearchHouseModel", name := "hit", desc := "(I)I" } : Jvm.MethodName)) ∈ lw_all := lw_g (lw_at lw_m14 32 rfl) rfl
theorem q3405 : (Jvm.Cond.instanceMethod ({ cls := "SearchHouseModel", name := "hit", desc := "(I)I" } : Jvm.MethodName)) ∈ lw_all := lw_g (lw_at lw_m14 33 rfl) rfl
theorem q3406 : (Jvm.Cond.selects "SearchHouseModel" ({ cls := "SearchHouseModel", name := "hit", desc := "(I)I" } : Jvm.MethodName) ({ cls := "SearchHouseModel", name := "hit", desc := "(I)I" } : Jvm.MethodName)) ∈ lw_all := lw_g (lw_at lw_m14 34 rfl) rfl
theorem q3407 : (Jvm.Cond.code ({ cls := "SearchHouseModel", name := "hit", desc := "(I)I" } : Jvm.MethodName) prog_14_method_157_code (2 : Nat) (Option.some Jvm.ClassFile.FieldType.int)) ∈ lw_all := lw_g (lw_at lw_m14 35 rfl) rfl
theorem q3408 : (Jvm.Cond.methodLink "SearchHouseModel" (998 : Nat) ({ cls := "SearchHouseModel", name := "isHit", desc := "(I)Z" } : Jvm.MethodName)) ∈ lw_all := lw_g (lw_at lw_m14 36 rfl) rfl
theorem q3409 : (Jvm.Cond.privateMethod ({ cls := "SearchHouseModel", name := "isHit", desc := "(I)Z" } : Jvm.MethodName)) ∈ lw_tbl := lw_at lw_m14 37 rfl
theorem q3410 : (Jvm.Cond.instanceMethod ({ cls := "SearchHouseModel", name := "isHit", desc := "(I)Z" } : Jvm.MethodName)) ∈ lw_all := lw_g (lw_at lw_m14 38 rfl) rfl
theorem q3411 : (Jvm.Cond.code ({ cls := "SearchHouseModel", name := "isHit", desc := "(I)Z" } : Jvm.MethodName) prog_14_method_156_code (2 : Nat) (Option.some Jvm.ClassFile.FieldType.boolean)) ∈ lw_all := lw_g (lw_at lw_m14 39 rfl) rfl
theorem q3412 : (Jvm.Cond.methodLink "SearchHouseLaw" (161 : Nat) ({ cls := "SearchHouseModel", name := "score", desc := "(I)J" } : Jvm.MethodName)) ∈ lw_all := lw_g (lw_at lw_m14 40 rfl) rfl
theorem q3413 : (Jvm.Cond.instanceMethod ({ cls := "SearchHouseModel", name := "score", desc := "(I)J" } : Jvm.MethodName)) ∈ lw_all := lw_g (lw_at lw_m14 41 rfl) rfl
theorem q3414 : (Jvm.Cond.selects "SearchHouseModel" ({ cls := "SearchHouseModel", name := "score", desc := "(I)J" } : Jvm.MethodName) ({ cls := "SearchHouseModel", name := "score", desc := "(I)J" } : Jvm.MethodName)) ∈ lw_all := lw_g (lw_at lw_m14 42 rfl) rfl
theorem q3415 : (Jvm.Cond.code ({ cls := "SearchHouseModel", name := "score", desc := "(I)J" } : Jvm.MethodName) prog_14_method_158_code (2 : Nat) (Option.some Jvm.ClassFile.FieldType.long)) ∈ lw_all := lw_g (lw_at lw_m14 43 rfl) rfl
theorem q3416 : (Jvm.Cond.constantLong "SearchHouseModel" (1001 : Nat) (-1 : Int64)) ∈ lw_all := lw_g (lw_at lw_m14 44 rfl) rfl
theorem q3417 : (Jvm.Cond.methodLink "SearchHouseLaw" (165 : Nat) ({ cls := "SearchHouseModel", name := "explain", desc := "(I)I" } : Jvm.MethodName)) ∈ lw_all := lw_g (lw_at lw_m14 45 rfl) rfl
theorem q3418 : (Jvm.Cond.instanceMethod ({ cls := "SearchHouseModel", name := "explain", desc := "(I)I" } : Jvm.MethodName)) ∈ lw_all := lw_g (lw_at lw_m14 46 rfl) rfl
theorem q3419 : (Jvm.Cond.selects "SearchHouseModel" ({ cls := "SearchHouseModel", name := "explain", desc := "(I)I" } : Jvm.MethodName) ({ cls := "SearchHouseModel", name := "explain", desc := "(I)I" } : Jvm.MethodName)) ∈ lw_all := lw_g (lw_at lw_m14 47 rfl) rfl
theorem q3420 : (Jvm.Cond.code ({ cls := "SearchHouseModel", name := "explain", desc := "(I)I" } : Jvm.MethodName) prog_14_method_161_code (2 : Nat) (Option.some Jvm.ClassFile.FieldType.int)) ∈ lw_all := lw_g (lw_at lw_m14 48 rfl) rfl
theorem q3421 : (Jvm.Cond.methodLink "SearchHouseModel" (1006 : Nat) ({ cls := "SearchHouseModel", name := "explainNode", desc := "(III)V" } : Jvm.MethodName)) ∈ lw_all := lw_g (lw_at lw_m14 49 rfl) rfl
theorem q3422 : (Jvm.Cond.privateMethod ({ cls := "SearchHouseModel", name := "explainNode", desc := "(III)V" } : Jvm.MethodName)) ∈ lw_tbl := lw_at lw_m14 50 rfl
theorem q3423 : (Jvm.Cond.instanceMethod ({ cls := "SearchHouseModel", name := "explainNode", desc := "(III)V" } : Jvm.MethodName)) ∈ lw_all := lw_g (lw_at lw_m14 51 rfl) rfl
theorem q3424 : (Jvm.Cond.code ({ cls := "SearchHouseModel", name := "explainNode", desc := "(III)V" } : Jvm.MethodName) prog_14_method_160_code (6 : Nat) (Option.none : Option Jvm.ClassFile.FieldType)) ∈ lw_all := lw_g (lw_at lw_m14 52 rfl) rfl
theorem q3425 : (Jvm.Cond.methodLink "SearchHouseModel" (1003 : Nat) ({ cls := "SearchHouseModel", name := "layLine", desc := "(III)V" } : Jvm.MethodName)) ∈ lw_all := lw_g (lw_at lw_m14 53 rfl) rfl
theorem q3426 : (Jvm.Cond.privateMethod ({ cls := "SearchHouseModel", name := "layLine", desc := "(III)V" } : Jvm.MethodName)) ∈ lw_tbl := lw_at lw_m14 54 rfl
theorem q3427 : (Jvm.Cond.instanceMethod ({ cls := "SearchHouseModel", name := "layLine", desc := "(III)V" } : Jvm.MethodName)) ∈ lw_all := lw_g (lw_at lw_m14 55 rfl) rfl
theorem q3428 : (Jvm.Cond.code ({ cls := "SearchHouseModel", name := "layLine", desc := "(III)V" } : Jvm.MethodName) prog_14_method_159_code (4 : Nat) (Option.none : Option Jvm.ClassFile.FieldType)) ∈ lw_all := lw_g (lw_at lw_m14 56 rfl) rfl
theorem q3429 : (Jvm.Cond.methodLink "SearchHouseLaw" (170 : Nat) ({ cls := "SearchHouseModel", name := "line", desc := "(II)J" } : Jvm.MethodName)) ∈ lw_all := lw_g (lw_at lw_m14 57 rfl) rfl
theorem q3430 : (Jvm.Cond.instanceMethod ({ cls := "SearchHouseModel", name := "line", desc := "(II)J" } : Jvm.MethodName)) ∈ lw_all := lw_g (lw_at lw_m14 58 rfl) rfl
theorem q3431 : (Jvm.Cond.selects "SearchHouseModel" ({ cls := "SearchHouseModel", name := "line", desc := "(II)J" } : Jvm.MethodName) ({ cls := "SearchHouseModel", name := "line", desc := "(II)J" } : Jvm.MethodName)) ∈ lw_all := lw_g (lw_at lw_m14 59 rfl) rfl
theorem q3432 : (Jvm.Cond.code ({ cls := "SearchHouseModel", name := "line", desc := "(II)J" } : Jvm.MethodName) prog_14_method_162_code (3 : Nat) (Option.some Jvm.ClassFile.FieldType.long)) ∈ lw_all := lw_g (lw_at lw_m14 60 rfl) rfl
theorem q3433 : (Jvm.Cond.methodLink "SearchHouseLaw" (174 : Nat) ({ cls := "SearchHouseModel", name := "marks", desc := "(II)I" } : Jvm.MethodName)) ∈ lw_all := lw_g (lw_at lw_m14 61 rfl) rfl
theorem q3434 : (Jvm.Cond.instanceMethod ({ cls := "SearchHouseModel", name := "marks", desc := "(II)I" } : Jvm.MethodName)) ∈ lw_all := lw_g (lw_at lw_m14 62 rfl) rfl
theorem q3435 : (Jvm.Cond.selects "SearchHouseModel" ({ cls := "SearchHouseModel", name := "marks", desc := "(II)I" } : Jvm.MethodName) ({ cls := "SearchHouseModel", name := "marks", desc := "(II)I" } : Jvm.MethodName)) ∈ lw_all := lw_g (lw_at lw_m14 63 rfl) rfl
theorem q3436 : (Jvm.Cond.code ({ cls := "SearchHouseModel", name := "marks", desc := "(II)I" } : Jvm.MethodName) prog_14_method_167_code (7 : Nat) (Option.some Jvm.ClassFile.FieldType.int)) ∈ lw_all := lw_g (lw_at lw_m14 64 rfl) rfl
theorem q3437 : (Jvm.Cond.methodLink "SearchHouseModel" (1018 : Nat) ({ cls := "SearchHouseModel", name := "markNode", desc := "(III)V" } : Jvm.MethodName)) ∈ lw_all := lw_g (lw_at lw_m14 65 rfl) rfl
theorem q3438 : (Jvm.Cond.privateMethod ({ cls := "SearchHouseModel", name := "markNode", desc := "(III)V" } : Jvm.MethodName)) ∈ lw_tbl := lw_at lw_m14 66 rfl
theorem q3439 : (Jvm.Cond.instanceMethod ({ cls := "SearchHouseModel", name := "markNode", desc := "(III)V" } : Jvm.MethodName)) ∈ lw_all := lw_g (lw_at lw_m14 67 rfl) rfl
theorem q3440 : (Jvm.Cond.code ({ cls := "SearchHouseModel", name := "markNode", desc := "(III)V" } : Jvm.MethodName) prog_14_method_166_code (5 : Nat) (Option.none : Option Jvm.ClassFile.FieldType)) ∈ lw_all := lw_g (lw_at lw_m14 68 rfl) rfl
theorem q3441 : (Jvm.Cond.methodLink "SearchHouseModel" (1015 : Nat) ({ cls := "SearchHouseModel", name := "markLeaf", desc := "(III)V" } : Jvm.MethodName)) ∈ lw_all := lw_g (lw_at lw_m14 69 rfl) rfl
theorem q3442 : (Jvm.Cond.privateMethod ({ cls := "SearchHouseModel", name := "markLeaf", desc := "(III)V" } : Jvm.MethodName)) ∈ lw_tbl := lw_at lw_m14 70 rfl
theorem q3443 : (Jvm.Cond.instanceMethod ({ cls := "SearchHouseModel", name := "markLeaf", desc := "(III)V" } : Jvm.MethodName)) ∈ lw_all := lw_g (lw_at lw_m14 71 rfl) rfl
theorem q3444 : (Jvm.Cond.code ({ cls := "SearchHouseModel", name := "markLeaf", desc := "(III)V" } : Jvm.MethodName) prog_14_method_165_code (7 : Nat) (Option.none : Option Jvm.ClassFile.FieldType)) ∈ lw_all := lw_g (lw_at lw_m14 72 rfl) rfl
theorem q3445 : (Jvm.Cond.methodLink "SearchHouseModel" (1009 : Nat) ({ cls := "SearchHouseModel", name := "bringPlaces", desc := "(I)V" } : Jvm.MethodName)) ∈ lw_all := lw_g (lw_at lw_m14 73 rfl) rfl
theorem q3446 : (Jvm.Cond.privateMethod ({ cls := "SearchHouseModel", name := "bringPlaces", desc := "(I)V" } : Jvm.MethodName)) ∈ lw_tbl := lw_at lw_m14 74 rfl
theorem q3447 : (Jvm.Cond.instanceMethod ({ cls := "SearchHouseModel", name := "bringPlaces", desc := "(I)V" } : Jvm.MethodName)) ∈ lw_all := lw_g (lw_at lw_m14 75 rfl) rfl
theorem q3448 : (Jvm.Cond.code ({ cls := "SearchHouseModel", name := "bringPlaces", desc := "(I)V" } : Jvm.MethodName) prog_14_method_164_code (4 : Nat) (Option.none : Option Jvm.ClassFile.FieldType)) ∈ lw_all := lw_g (lw_at lw_m14 76 rfl) rfl
theorem q3449 : (Jvm.Cond.methodLink "SearchHouseModel" (1012 : Nat) ({ cls := "SearchHouseModel", name := "isOfLeaf", desc := "(II)Z" } : Jvm.MethodName)) ∈ lw_all := lw_g (lw_at lw_m14 77 rfl) rfl
theorem q3450 : (Jvm.Cond.privateMethod ({ cls := "SearchHouseModel", name := "isOfLeaf", desc := "(II)Z" } : Jvm.MethodName)) ∈ lw_tbl := lw_at lw_m14 78 rfl
theorem q3451 : (Jvm.Cond.instanceMethod ({ cls := "SearchHouseModel", name := "isOfLeaf", desc := "(II)Z" } : Jvm.MethodName)) ∈ lw_all := lw_g (lw_at lw_m14 79 rfl) rfl
theorem q3452 : (Jvm.Cond.code ({ cls := "SearchHouseModel", name := "isOfLeaf", desc := "(II)Z" } : Jvm.MethodName) prog_14_method_163_code (5 : Nat) (Option.some Jvm.ClassFile.FieldType.boolean)) ∈ lw_all := lw_g (lw_at lw_m14 80 rfl) rfl
theorem q3453 : (Jvm.Cond.methodLink "SearchHouseLaw" (178 : Nat) ({ cls := "SearchHouseModel", name := "mark", desc := "(II)I" } : Jvm.MethodName)) ∈ lw_all := lw_g (lw_at lw_m14 81 rfl) rfl
theorem q3454 : (Jvm.Cond.instanceMethod ({ cls := "SearchHouseModel", name := "mark", desc := "(II)I" } : Jvm.MethodName)) ∈ lw_all := lw_g (lw_at lw_m14 82 rfl) rfl
theorem q3455 : (Jvm.Cond.selects "SearchHouseModel" ({ cls := "SearchHouseModel", name := "mark", desc := "(II)I" } : Jvm.MethodName) ({ cls := "SearchHouseModel", name := "mark", desc := "(II)I" } : Jvm.MethodName)) ∈ lw_all := lw_g (lw_at lw_m14 83 rfl) rfl
theorem q3456 : (Jvm.Cond.code ({ cls := "SearchHouseModel", name := "mark", desc := "(II)I" } : Jvm.MethodName) prog_14_method_168_code (3 : Nat) (Option.some Jvm.ClassFile.FieldType.int)) ∈ lw_all := lw_g (lw_at lw_m14 84 rfl) rfl
theorem q3457 : (Jvm.Cond.methodLink "SearchHouseLaw" (182 : Nat) ({ cls := "SearchHouseModel", name := "facet", desc := "(I)I" } : Jvm.MethodName)) ∈ lw_all := lw_g (lw_at lw_m14 85 rfl) rfl
theorem q3458 : (Jvm.Cond.instanceMethod ({ cls := "SearchHouseModel", name := "facet", desc := "(I)I" } : Jvm.MethodName)) ∈ lw_all := lw_g (lw_at lw_m14 86 rfl) rfl
theorem q3459 : (Jvm.Cond.selects "SearchHouseModel" ({ cls := "SearchHouseModel", name := "facet", desc := "(I)I" } : Jvm.MethodName) ({ cls := "SearchHouseModel", name := "facet", desc := "(I)I" } : Jvm.MethodName)) ∈ lw_all := lw_g (lw_at lw_m14 87 rfl) rfl
theorem q3460 : (Jvm.Cond.code ({ cls := "SearchHouseModel", name := "facet", desc := "(I)I" } : Jvm.MethodName) prog_14_method_176_code (2 : Nat) (Option.some Jvm.ClassFile.FieldType.int)) ∈ lw_all := lw_g (lw_at lw_m14 88 rfl) rfl
theorem q3461 : (Jvm.Cond.methodLink "SearchHouseModel" (1048 : Nat) ({ cls := "SearchHouseModel", name := "groupAll", desc := "(IJ)V" } : Jvm.MethodName)) ∈ lw_all := lw_g (lw_at lw_m14 89 rfl) rfl
theorem q3462 : (Jvm.Cond.privateMethod ({ cls := "SearchHouseModel", name := "groupAll", desc := "(IJ)V" } : Jvm.MethodName)) ∈ lw_tbl := lw_at lw_m14 90 rfl
theorem q3463 : (Jvm.Cond.instanceMethod ({ cls := "SearchHouseModel", name := "groupAll", desc := "(IJ)V" } : Jvm.MethodName)) ∈ lw_all := lw_g (lw_at lw_m14 91 rfl) rfl
theorem q3464 : (Jvm.Cond.code ({ cls := "SearchHouseModel", name := "groupAll", desc := "(IJ)V" } : Jvm.MethodName) prog_14_method_172_code (7 : Nat) (Option.none : Option Jvm.ClassFile.FieldType)) ∈ lw_all := lw_g (lw_at lw_m14 92 rfl) rfl
theorem q3465 : (Jvm.Cond.methodLink "SearchHouseModel" (1031 : Nat) ({ cls := "java/lang/Math", name := "floorDiv", desc := "(JJ)J" } : Jvm.MethodName)) ∈ lw_all := lw_g (lw_at lw_m14 93 rfl) rfl
theorem q3466 : (Jvm.Cond.methodLink "SearchHouseModel" (1034 : Nat) ({ cls := "SearchHouseModel", name := "joinGroup", desc := "(IIJ)V" } : Jvm.MethodName)) ∈ lw_all := lw_g (lw_at lw_m14 94 rfl) rfl
theorem q3467 : (Jvm.Cond.privateMethod ({ cls := "SearchHouseModel", name := "joinGroup", desc := "(IIJ)V" } : Jvm.MethodName)) ∈ lw_tbl := lw_at lw_m14 95 rfl
theorem q3468 : (Jvm.Cond.instanceMethod ({ cls := "SearchHouseModel", name := "joinGroup", desc := "(IIJ)V" } : Jvm.MethodName)) ∈ lw_all := lw_g (lw_at lw_m14 96 rfl) rfl
theorem q3469 : (Jvm.Cond.code ({ cls := "SearchHouseModel", name := "joinGroup", desc := "(IIJ)V" } : Jvm.MethodName) prog_14_method_171_code (6 : Nat) (Option.none : Option Jvm.ClassFile.FieldType)) ∈ lw_all := lw_g (lw_at lw_m14 97 rfl) rfl
theorem q3470 : (Jvm.Cond.methodLink "SearchHouseModel" (1028 : Nat) ({ cls := "SearchHouseModel", name := "termOrder", desc := "(II)I" } : Jvm.MethodName)) ∈ lw_all := lw_g (lw_at lw_m14 98 rfl) rfl
theorem q3471 : (Jvm.Cond.privateMethod ({ cls := "SearchHouseModel", name := "termOrder", desc := "(II)I" } : Jvm.MethodName)) ∈ lw_tbl := lw_at lw_m14 99 rfl
theorem q3472 : (Jvm.Cond.instanceMethod ({ cls := "SearchHouseModel", name := "termOrder", desc := "(II)I" } : Jvm.MethodName)) ∈ lw_all := lw_g (lw_at lw_m14 100 rfl) rfl
theorem q3473 : (Jvm.Cond.code ({ cls := "SearchHouseModel", name := "termOrder", desc := "(II)I" } : Jvm.MethodName) prog_14_method_170_code (3 : Nat) (Option.some Jvm.ClassFile.FieldType.int)) ∈ lw_all := lw_g (lw_at lw_m14 101 rfl) rfl
theorem q3474 : (Jvm.Cond.methodLink "SearchHouseModel" (1021 : Nat) ({ cls := "SearchHouseModel", name := "order", desc := "([BII[BII)I" } : Jvm.MethodName)) ∈ lw_all := lw_g (lw_at lw_m14 102 rfl) rfl
theorem q3475 : (Jvm.Cond.static ({ cls := "SearchHouseModel", name := "order", desc := "([BII[BII)I" } : Jvm.MethodName)) ∈ lw_all := lw_g (lw_at lw_m14 103 rfl) rfl
theorem q3476 : (Jvm.Cond.code ({ cls := "SearchHouseModel", name := "order", desc := "([BII[BII)I" } : Jvm.MethodName) prog_14_method_169_code (8 : Nat) (Option.some Jvm.ClassFile.FieldType.int)) ∈ lw_all := lw_g (lw_at lw_m14 104 rfl) rfl
theorem q3477 : (Jvm.Cond.methodLink "SearchHouseModel" (1038 : Nat) ({ cls := "SearchHouseModel", name := "isGroupBefore", desc := "(II)Z" } : Jvm.MethodName)) ∈ lw_all := lw_g (lw_at lw_m14 105 rfl) rfl
theorem q3478 : (Jvm.Cond.privateMethod ({ cls := "SearchHouseModel", name := "isGroupBefore", desc := "(II)Z" } : Jvm.MethodName)) ∈ lw_tbl := lw_at lw_m14 106 rfl
theorem q3479 : (Jvm.Cond.instanceMethod ({ cls := "SearchHouseModel", name := "isGroupBefore", desc := "(II)Z" } : Jvm.MethodName)) ∈ lw_all := lw_g (lw_at lw_m14 107 rfl) rfl
theorem q3480 : (Jvm.Cond.code ({ cls := "SearchHouseModel", name := "isGroupBefore", desc := "(II)Z" } : Jvm.MethodName) prog_14_method_173_code (3 : Nat) (Option.some Jvm.ClassFile.FieldType.boolean)) ∈ lw_all := lw_g (lw_at lw_m14 108 rfl) rfl
theorem q3481 : (Jvm.Cond.methodLink "SearchHouseModel" (1041 : Nat) ({ cls := "SearchHouseModel", name := "swapGroups", desc := "(II)V" } : Jvm.MethodName)) ∈ lw_all := lw_g (lw_at lw_m14 109 rfl) rfl
theorem q3482 : (Jvm.Cond.privateMethod ({ cls := "SearchHouseModel", name := "swapGroups", desc := "(II)V" } : Jvm.MethodName)) ∈ lw_tbl := lw_at lw_m14 110 rfl
theorem q3483 : (Jvm.Cond.instanceMethod ({ cls := "SearchHouseModel", name := "swapGroups", desc := "(II)V" } : Jvm.MethodName)) ∈ lw_all := lw_g (lw_at lw_m14 111 rfl) rfl
theorem q3484 : (Jvm.Cond.code ({ cls := "SearchHouseModel", name := "swapGroups", desc := "(II)V" } : Jvm.MethodName) prog_14_method_175_code (5 : Nat) (Option.none : Option Jvm.ClassFile.FieldType)) ∈ lw_all := lw_g (lw_at lw_m14 112 rfl) rfl
theorem q3485 : (Jvm.Cond.methodLink "SearchHouseModel" (1044 : Nat) ({ cls := "SearchHouseModel", name := "swap", desc := "([III)V" } : Jvm.MethodName)) ∈ lw_all := lw_g (lw_at lw_m14 113 rfl) rfl
theorem q3486 : (Jvm.Cond.static ({ cls := "SearchHouseModel", name := "swap", desc := "([III)V" } : Jvm.MethodName)) ∈ lw_all := lw_g (lw_at lw_m14 114 rfl) rfl
theorem q3487 : (Jvm.Cond.code ({ cls := "SearchHouseModel", name := "swap", desc := "([III)V" } : Jvm.MethodName) prog_14_method_174_code (4 : Nat) (Option.none : Option Jvm.ClassFile.FieldType)) ∈ lw_all := lw_g (lw_at lw_m14 115 rfl) rfl
theorem q3488 : (Jvm.Cond.methodLink "SearchHouseLaw" (186 : Nat) ({ cls := "SearchHouseModel", name := "histogram", desc := "(IJ)I" } : Jvm.MethodName)) ∈ lw_all := lw_g (lw_at lw_m14 116 rfl) rfl
theorem q3489 : (Jvm.Cond.instanceMethod ({ cls := "SearchHouseModel", name := "histogram", desc := "(IJ)I" } : Jvm.MethodName)) ∈ lw_all := lw_g (lw_at lw_m14 117 rfl) rfl
theorem q3490 : (Jvm.Cond.selects "SearchHouseModel" ({ cls := "SearchHouseModel", name := "histogram", desc := "(IJ)I" } : Jvm.MethodName) ({ cls := "SearchHouseModel", name := "histogram", desc := "(IJ)I" } : Jvm.MethodName)) ∈ lw_all := lw_g (lw_at lw_m14 118 rfl) rfl
theorem q3491 : (Jvm.Cond.code ({ cls := "SearchHouseModel", name := "histogram", desc := "(IJ)I" } : Jvm.MethodName) prog_14_method_177_code (4 : Nat) (Option.some Jvm.ClassFile.FieldType.int)) ∈ lw_all := lw_g (lw_at lw_m14 119 rfl) rfl
theorem q3492 : (Jvm.Cond.methodLink "SearchHouseLaw" (190 : Nat) ({ cls := "SearchHouseModel", name := "group", desc := "(II)I" } : Jvm.MethodName)) ∈ lw_all := lw_g (lw_at lw_m14 120 rfl) rfl
theorem q3493 : (Jvm.Cond.instanceMethod ({ cls := "SearchHouseModel", name := "group", desc := "(II)I" } : Jvm.MethodName)) ∈ lw_all := lw_g (lw_at lw_m14 121 rfl) rfl
theorem q3494 : (Jvm.Cond.selects "SearchHouseModel" ({ cls := "SearchHouseModel", name := "group", desc := "(II)I" } : Jvm.MethodName) ({ cls := "SearchHouseModel", name := "group", desc := "(II)I" } : Jvm.MethodName)) ∈ lw_all := lw_g (lw_at lw_m14 122 rfl) rfl
theorem q3495 : (Jvm.Cond.code ({ cls := "SearchHouseModel", name := "group", desc := "(II)I" } : Jvm.MethodName) prog_14_method_179_code (3 : Nat) (Option.some Jvm.ClassFile.FieldType.int)) ∈ lw_all := lw_g (lw_at lw_m14 123 rfl) rfl
theorem q3496 : (Jvm.Cond.methodLink "SearchHouseModel" (1052 : Nat) ({ cls := "SearchHouseModel", name := "isGroup", desc := "(I)Z" } : Jvm.MethodName)) ∈ lw_all := lw_g (lw_at lw_m14 124 rfl) rfl
theorem q3497 : (Jvm.Cond.privateMethod ({ cls := "SearchHouseModel", name := "isGroup", desc := "(I)Z" } : Jvm.MethodName)) ∈ lw_tbl := lw_at lw_m14 125 rfl
theorem q3498 : (Jvm.Cond.instanceMethod ({ cls := "SearchHouseModel", name := "isGroup", desc := "(I)Z" } : Jvm.MethodName)) ∈ lw_all := lw_g (lw_at lw_m14 126 rfl) rfl
theorem q3499 : (Jvm.Cond.code ({ cls := "SearchHouseModel", name := "isGroup", desc := "(I)Z" } : Jvm.MethodName) prog_14_method_178_code (2 : Nat) (Option.some Jvm.ClassFile.FieldType.boolean)) ∈ lw_all := lw_g (lw_at lw_m14 127 rfl) rfl
theorem q3500 : (Jvm.Cond.methodLink "SearchHouseLaw" (194 : Nat) ({ cls := "SearchHouseModel", name := "groupOf", desc := "(II)J" } : Jvm.MethodName)) ∈ lw_all := lw_g (lw_at lw_m14 128 rfl) rfl
theorem q3501 : (Jvm.Cond.instanceMethod ({ cls := "SearchHouseModel", name := "groupOf", desc := "(II)J" } : Jvm.MethodName)) ∈ lw_all := lw_g (lw_at lw_m14 129 rfl) rfl
theorem q3502 : (Jvm.Cond.selects "SearchHouseModel" ({ cls := "SearchHouseModel", name := "groupOf", desc := "(II)J" } : Jvm.MethodName) ({ cls := "SearchHouseModel", name := "groupOf", desc := "(II)J" } : Jvm.MethodName)) ∈ lw_all := lw_g (lw_at lw_m14 130 rfl) rfl
theorem q3503 : (Jvm.Cond.code ({ cls := "SearchHouseModel", name := "groupOf", desc := "(II)J" } : Jvm.MethodName) prog_14_method_180_code (3 : Nat) (Option.some Jvm.ClassFile.FieldType.long)) ∈ lw_all := lw_g (lw_at lw_m14 131 rfl) rfl
theorem q3504 : (Jvm.Cond.methodLink "SearchHouseLaw" (198 : Nat) ({ cls := "SearchHouseModel", name := "suggest", desc := "(II)I" } : Jvm.MethodName)) ∈ lw_all := lw_g (lw_at lw_m14 132 rfl) rfl
theorem q3505 : (Jvm.Cond.instanceMethod ({ cls := "SearchHouseModel", name := "suggest", desc := "(II)I" } : Jvm.MethodName)) ∈ lw_all := lw_g (lw_at lw_m14 133 rfl) rfl
theorem q3506 : (Jvm.Cond.selects "SearchHouseModel" ({ cls := "SearchHouseModel", name := "suggest", desc := "(II)I" } : Jvm.MethodName) ({ cls := "SearchHouseModel", name := "suggest", desc := "(II)I" } : Jvm.MethodName)) ∈ lw_all := lw_g (lw_at lw_m14 134 rfl) rfl
theorem q3507 : (Jvm.Cond.code ({ cls := "SearchHouseModel", name := "suggest", desc := "(II)I" } : Jvm.MethodName) prog_14_method_187_code (3 : Nat) (Option.some Jvm.ClassFile.FieldType.int)) ∈ lw_all := lw_g (lw_at lw_m14 135 rfl) rfl
theorem q3508 : (Jvm.Cond.methodLink "SearchHouseModel" (1078 : Nat) ({ cls := "SearchHouseModel", name := "termsOf", desc := "(IIZ)I" } : Jvm.MethodName)) ∈ lw_all := lw_g (lw_at lw_m14 136 rfl) rfl
theorem q3509 : (Jvm.Cond.privateMethod ({ cls := "SearchHouseModel", name := "termsOf", desc := "(IIZ)I" } : Jvm.MethodName)) ∈ lw_tbl := lw_at lw_m14 137 rfl
theorem q3510 : (Jvm.Cond.instanceMethod ({ cls := "SearchHouseModel", name := "termsOf", desc := "(IIZ)I" } : Jvm.MethodName)) ∈ lw_all := lw_g (lw_at lw_m14 138 rfl) rfl
theorem q3511 : (Jvm.Cond.code ({ cls := "SearchHouseModel", name := "termsOf", desc := "(IIZ)I" } : Jvm.MethodName) prog_14_method_186_code (9 : Nat) (Option.some Jvm.ClassFile.FieldType.int)) ∈ lw_all := lw_g (lw_at lw_m14 139 rfl) rfl
theorem q3512 : (Jvm.Cond.methodLink "SearchHouseModel" (1072 : Nat) ({ cls := "SearchHouseModel", name := "listAll", desc := "(I)V" } : Jvm.MethodName)) ∈ lw_all := lw_g (lw_at lw_m14 140 rfl) rfl
theorem q3513 : (Jvm.Cond.privateMethod ({ cls := "SearchHouseModel", name := "listAll", desc := "(I)V" } : Jvm.MethodName)) ∈ lw_tbl := lw_at lw_m14 141 rfl
theorem q3514 : (Jvm.Cond.instanceMethod ({ cls := "SearchHouseModel", name := "listAll", desc := "(I)V" } : Jvm.MethodName)) ∈ lw_all := lw_g (lw_at lw_m14 142 rfl) rfl
theorem q3515 : (Jvm.Cond.code ({ cls := "SearchHouseModel", name := "listAll", desc := "(I)V" } : Jvm.MethodName) prog_14_method_182_code (7 : Nat) (Option.none : Option Jvm.ClassFile.FieldType)) ∈ lw_all := lw_g (lw_at lw_m14 143 rfl) rfl
theorem q3516 : (Jvm.Cond.methodLink "SearchHouseModel" (1060 : Nat) ({ cls := "SearchHouseModel", name := "list", desc := "(III)V" } : Jvm.MethodName)) ∈ lw_all := lw_g (lw_at lw_m14 144 rfl) rfl
theorem q3517 : (Jvm.Cond.privateMethod ({ cls := "SearchHouseModel", name := "list", desc := "(III)V" } : Jvm.MethodName)) ∈ lw_tbl := lw_at lw_m14 145 rfl
theorem q3518 : (Jvm.Cond.instanceMethod ({ cls := "SearchHouseModel", name := "list", desc := "(III)V" } : Jvm.MethodName)) ∈ lw_all := lw_g (lw_at lw_m14 146 rfl) rfl
theorem q3519 : (Jvm.Cond.code ({ cls := "SearchHouseModel", name := "list", desc := "(III)V" } : Jvm.MethodName) prog_14_method_183_code (6 : Nat) (Option.none : Option Jvm.ClassFile.FieldType)) ∈ lw_all := lw_g (lw_at lw_m14 147 rfl) rfl
theorem q3520 : (Jvm.Cond.methodLink "SearchHouseModel" (1063 : Nat) ({ cls := "SearchHouseModel", name := "slotOf", desc := "(II)I" } : Jvm.MethodName)) ∈ lw_all := lw_g (lw_at lw_m14 148 rfl) rfl
theorem q3521 : (Jvm.Cond.privateMethod ({ cls := "SearchHouseModel", name := "slotOf", desc := "(II)I" } : Jvm.MethodName)) ∈ lw_tbl := lw_at lw_m14 149 rfl
theorem q3522 : (Jvm.Cond.instanceMethod ({ cls := "SearchHouseModel", name := "slotOf", desc := "(II)I" } : Jvm.MethodName)) ∈ lw_all := lw_g (lw_at lw_m14 150 rfl) rfl
theorem q3523 : (Jvm.Cond.code ({ cls := "SearchHouseModel", name := "slotOf", desc := "(II)I" } : Jvm.MethodName) prog_14_method_181_code (5 : Nat) (Option.some Jvm.ClassFile.FieldType.int)) ∈ lw_all := lw_g (lw_at lw_m14 151 rfl) rfl
theorem q3524 : (Jvm.Cond.constant "SearchHouseModel" (1055 : Nat) (-1640531535 : Int32)) ∈ lw_all := lw_g (lw_at lw_m14 152 rfl) rfl
theorem q3525 : (Jvm.Cond.constant "SearchHouseModel" (1056 : Nat) (65535 : Int32)) ∈ lw_all := lw_g (lw_at lw_m14 153 rfl) rfl
theorem q3526 : (Jvm.Cond.methodLink "SearchHouseModel" (1075 : Nat) ({ cls := "SearchHouseModel", name := "keepFirst", desc := "()I" } : Jvm.MethodName)) ∈ lw_all := lw_g (lw_at lw_m14 154 rfl) rfl
theorem q3527 : (Jvm.Cond.privateMethod ({ cls := "SearchHouseModel", name := "keepFirst", desc := "()I" } : Jvm.MethodName)) ∈ lw_tbl := lw_at lw_m14 155 rfl
theorem q3528 : (Jvm.Cond.instanceMethod ({ cls := "SearchHouseModel", name := "keepFirst", desc := "()I" } : Jvm.MethodName)) ∈ lw_all := lw_g (lw_at lw_m14 156 rfl) rfl
theorem q3529 : (Jvm.Cond.code ({ cls := "SearchHouseModel", name := "keepFirst", desc := "()I" } : Jvm.MethodName) prog_14_method_185_code (4 : Nat) (Option.some Jvm.ClassFile.FieldType.int)) ∈ lw_all := lw_g (lw_at lw_m14 157 rfl) rfl
theorem q3530 : (Jvm.Cond.methodLink "SearchHouseModel" (1069 : Nat) ({ cls := "SearchHouseModel", name := "isListedBefore", desc := "(II)Z" } : Jvm.MethodName)) ∈ lw_all := lw_g (lw_at lw_m14 158 rfl) rfl
theorem q3531 : (Jvm.Cond.privateMethod ({ cls := "SearchHouseModel", name := "isListedBefore", desc := "(II)Z" } : Jvm.MethodName)) ∈ lw_tbl := lw_at lw_m14 159 rfl
theorem q3532 : (Jvm.Cond.instanceMethod ({ cls := "SearchHouseModel", name := "isListedBefore", desc := "(II)Z" } : Jvm.MethodName)) ∈ lw_all := lw_g (lw_at lw_m14 160 rfl) rfl
theorem q3533 : (Jvm.Cond.code ({ cls := "SearchHouseModel", name := "isListedBefore", desc := "(II)Z" } : Jvm.MethodName) prog_14_method_184_code (3 : Nat) (Option.some Jvm.ClassFile.FieldType.boolean)) ∈ lw_all := lw_g (lw_at lw_m14 161 rfl) rfl
theorem q3534 : (Jvm.Cond.methodLink "SearchHouseLaw" (202 : Nat) ({ cls := "SearchHouseModel", name := "spell", desc := "(II)I" } : Jvm.MethodName)) ∈ lw_all := lw_g (lw_at lw_m14 162 rfl) rfl
theorem q3535 : (Jvm.Cond.instanceMethod ({ cls := "SearchHouseModel", name := "spell", desc := "(II)I" } : Jvm.MethodName)) ∈ lw_all := lw_g (lw_at lw_m14 163 rfl) rfl
theorem q3536 : (Jvm.Cond.selects "SearchHouseModel" ({ cls := "SearchHouseModel", name := "spell", desc := "(II)I" } : Jvm.MethodName) ({ cls := "SearchHouseModel", name := "spell", desc := "(II)I" } : Jvm.MethodName)) ∈ lw_all := lw_g (lw_at lw_m14 164 rfl) rfl
theorem q3537 : (Jvm.Cond.code ({ cls := "SearchHouseModel", name := "spell", desc := "(II)I" } : Jvm.MethodName) prog_14_method_188_code (3 : Nat) (Option.some Jvm.ClassFile.FieldType.int)) ∈ lw_all := lw_g (lw_at lw_m14 165 rfl) rfl
theorem q3538 : (Jvm.Cond.methodLink "SearchHouseLaw" (206 : Nat) ({ cls := "SearchHouseModel", name := "term", desc := "(II)I" } : Jvm.MethodName)) ∈ lw_all := lw_g (lw_at lw_m14 166 rfl) rfl
theorem q3539 : (Jvm.Cond.instanceMethod ({ cls := "SearchHouseModel", name := "term", desc := "(II)I" } : Jvm.MethodName)) ∈ lw_all := lw_g (lw_at lw_m14 167 rfl) rfl
theorem q3540 : (Jvm.Cond.selects "SearchHouseModel" ({ cls := "SearchHouseModel", name := "term", desc := "(II)I" } : Jvm.MethodName) ({ cls := "SearchHouseModel", name := "term", desc := "(II)I" } : Jvm.MethodName)) ∈ lw_all := lw_g (lw_at lw_m14 168 rfl) rfl
theorem q3541 : (Jvm.Cond.code ({ cls := "SearchHouseModel", name := "term", desc := "(II)I" } : Jvm.MethodName) prog_14_method_189_code (3 : Nat) (Option.some Jvm.ClassFile.FieldType.int)) ∈ lw_all := lw_g (lw_at lw_m14 169 rfl) rfl
theorem q3542 : (Jvm.Cond.methodLink "SearchHouseLaw" (210 : Nat) ({ cls := "SearchHouseModel", name := "termByte", desc := "(II)I" } : Jvm.MethodName)) ∈ lw_all := lw_g (lw_at lw_m14 170 rfl) rfl
theorem q3543 : (Jvm.Cond.instanceMethod ({ cls := "SearchHouseModel", name := "termByte", desc := "(II)I" } : Jvm.MethodName)) ∈ lw_all := lw_g (lw_at lw_m14 171 rfl) rfl
theorem q3544 : (Jvm.Cond.selects "SearchHouseModel" ({ cls := "SearchHouseModel", name := "termByte", desc := "(II)I" } : Jvm.MethodName) ({ cls := "SearchHouseModel", name := "termByte", desc := "(II)I" } : Jvm.MethodName)) ∈ lw_all := lw_g (lw_at lw_m14 172 rfl) rfl
theorem q3545 : (Jvm.Cond.code ({ cls := "SearchHouseModel", name := "termByte", desc := "(II)I" } : Jvm.MethodName) prog_14_method_190_code (3 : Nat) (Option.some Jvm.ClassFile.FieldType.int)) ∈ lw_all := lw_g (lw_at lw_m14 173 rfl) rfl
theorem q3546 : (Jvm.Cond.methodLink "SearchHouseLaw" (214 : Nat) ({ cls := "SearchHouseModel", name := "like", desc := "(II)I" } : Jvm.MethodName)) ∈ lw_all := lw_g (lw_at lw_m14 174 rfl) rfl
theorem q3547 : (Jvm.Cond.instanceMethod ({ cls := "SearchHouseModel", name := "like", desc := "(II)I" } : Jvm.MethodName)) ∈ lw_all := lw_g (lw_at lw_m14 175 rfl) rfl
theorem q3548 : (Jvm.Cond.selects "SearchHouseModel" ({ cls := "SearchHouseModel", name := "like", desc := "(II)I" } : Jvm.MethodName) ({ cls := "SearchHouseModel", name := "like", desc := "(II)I" } : Jvm.MethodName)) ∈ lw_all := lw_g (lw_at lw_m14 176 rfl) rfl
theorem q3549 : (Jvm.Cond.code ({ cls := "SearchHouseModel", name := "like", desc := "(II)I" } : Jvm.MethodName) prog_14_method_193_code (8 : Nat) (Option.some Jvm.ClassFile.FieldType.int)) ∈ lw_all := lw_g (lw_at lw_m14 177 rfl) rfl
theorem q3550 : (Jvm.Cond.methodLink "SearchHouseModel" (1082 : Nat) ({ cls := "SearchHouseModel", name := "countIn", desc := "(IIIZ)I" } : Jvm.MethodName)) ∈ lw_all := lw_g (lw_at lw_m14 178 rfl) rfl
theorem q3551 : (Jvm.Cond.privateMethod ({ cls := "SearchHouseModel", name := "countIn", desc := "(IIIZ)I" } : Jvm.MethodName)) ∈ lw_tbl := lw_at lw_m14 179 rfl
theorem q3552 : (Jvm.Cond.instanceMethod ({ cls := "SearchHouseModel", name := "countIn", desc := "(IIIZ)I" } : Jvm.MethodName)) ∈ lw_all := lw_g (lw_at lw_m14 180 rfl) rfl
theorem q3553 : (Jvm.Cond.code ({ cls := "SearchHouseModel", name := "countIn", desc := "(IIIZ)I" } : Jvm.MethodName) prog_14_method_192_code (9 : Nat) (Option.some Jvm.ClassFile.FieldType.int)) ∈ lw_all := lw_g (lw_at lw_m14 181 rfl) rfl
theorem q3554 : (Jvm.Cond.methodLink "SearchHouseModel" (1086 : Nat) ({ cls := "SearchHouseModel", name := "isHeavier", desc := "(II)Z" } : Jvm.MethodName)) ∈ lw_all := lw_g (lw_at lw_m14 182 rfl) rfl
theorem q3555 : (Jvm.Cond.privateMethod ({ cls := "SearchHouseModel", name := "isHeavier", desc := "(II)Z" } : Jvm.MethodName)) ∈ lw_tbl := lw_at lw_m14 183 rfl
theorem q3556 : (Jvm.Cond.instanceMethod ({ cls := "SearchHouseModel", name := "isHeavier", desc := "(II)Z" } : Jvm.MethodName)) ∈ lw_all := lw_g (lw_at lw_m14 184 rfl) rfl
theorem q3557 : (Jvm.Cond.code ({ cls := "SearchHouseModel", name := "isHeavier", desc := "(II)Z" } : Jvm.MethodName) prog_14_method_191_code (3 : Nat) (Option.some Jvm.ClassFile.FieldType.boolean)) ∈ lw_all := lw_g (lw_at lw_m14 185 rfl) rfl
theorem q3558 : (Jvm.Cond.methodLink "SearchHouseModel" (1089 : Nat) ({ cls := "SearchHouseModel", name := "likeOne", desc := "(II)V" } : Jvm.MethodName)) ∈ lw_all := lw_g (lw_at lw_m14 186 rfl) rfl
theorem q3559 : (Jvm.Cond.privateMethod ({ cls := "SearchHouseModel", name := "likeOne", desc := "(II)V" } : Jvm.MethodName)) ∈ lw_tbl := lw_at lw_m14 187 rfl
theorem q3560 : (Jvm.Cond.instanceMethod ({ cls := "SearchHouseModel", name := "likeOne", desc := "(II)V" } : Jvm.MethodName)) ∈ lw_all := lw_g (lw_at lw_m14 188 rfl) rfl
theorem q3561 : (Jvm.Cond.code ({ cls := "SearchHouseModel", name := "likeOne", desc := "(II)V" } : Jvm.MethodName) prog_14_method_194_code (12 : Nat) (Option.none : Option Jvm.ClassFile.FieldType)) ∈ lw_all := lw_g (lw_at lw_m14 189 rfl) rfl
theorem q3562 : (Jvm.Cond.methodLink "SearchHouseLaw" (219 : Nat) ({ cls := "SearchHouseModel", name := "near", desc := "(IIIIIII)I" } : Jvm.MethodName)) ∈ lw_all := lw_g (lw_at lw_m14 190 rfl) rfl
theorem q3563 : (Jvm.Cond.instanceMethod ({ cls := "SearchHouseModel", name := "near", desc := "(IIIIIII)I" } : Jvm.MethodName)) ∈ lw_all := lw_g (lw_at lw_m14 191 rfl) rfl
theorem q3564 : (Jvm.Cond.selects "SearchHouseModel" ({ cls := "SearchHouseModel", name := "near", desc := "(IIIIIII)I" } : Jvm.MethodName) ({ cls := "SearchHouseModel", name := "near", desc := "(IIIIIII)I" } : Jvm.MethodName)) ∈ lw_all := lw_g (lw_at lw_m14 192 rfl) rfl
theorem q3565 : (Jvm.Cond.code ({ cls := "SearchHouseModel", name := "near", desc := "(IIIIIII)I" } : Jvm.MethodName) prog_14_method_195_code (15 : Nat) (Option.some Jvm.ClassFile.FieldType.int)) ∈ lw_all := lw_g (lw_at lw_m14 193 rfl) rfl
theorem q3566 : (Jvm.Cond.methodLink "SearchHouseModel" (1092 : Nat) ({ cls := "SearchHouseModel", name := "square", desc := "(III)J" } : Jvm.MethodName)) ∈ lw_all := lw_g (lw_at lw_m14 194 rfl) rfl
theorem q3567 : (Jvm.Cond.privateMethod ({ cls := "SearchHouseModel", name := "square", desc := "(III)J" } : Jvm.MethodName)) ∈ lw_tbl := lw_at lw_m14 195 rfl
theorem q3568 : (Jvm.Cond.instanceMethod ({ cls := "SearchHouseModel", name := "square", desc := "(III)J" } : Jvm.MethodName)) ∈ lw_all := lw_g (lw_at lw_m14 196 rfl) rfl
theorem q3569 : (Jvm.Cond.code ({ cls := "SearchHouseModel", name := "square", desc := "(III)J" } : Jvm.MethodName) prog_14_method_196_code (6 : Nat) (Option.some Jvm.ClassFile.FieldType.long)) ∈ lw_all := lw_g (lw_at lw_m14 197 rfl) rfl
theorem q3570 : (Jvm.Cond.methodLink "SearchHouseModel" (1096 : Nat) ({ cls := "SearchHouseModel", name := "addNear", desc := "(IJI)V" } : Jvm.MethodName)) ∈ lw_all := lw_g (lw_at lw_m14 198 rfl) rfl
theorem q3571 : (Jvm.Cond.privateMethod ({ cls := "SearchHouseModel", name := "addNear", desc := "(IJI)V" } : Jvm.MethodName)) ∈ lw_tbl := lw_at lw_m14 199 rfl
theorem q3572 : (Jvm.Cond.instanceMethod ({ cls := "SearchHouseModel", name := "addNear", desc := "(IJI)V" } : Jvm.MethodName)) ∈ lw_all := lw_g (lw_at lw_m14 200 rfl) rfl
theorem q3573 : (Jvm.Cond.code ({ cls := "SearchHouseModel", name := "addNear", desc := "(IJI)V" } : Jvm.MethodName) prog_14_method_197_code (6 : Nat) (Option.none : Option Jvm.ClassFile.FieldType)) ∈ lw_all := lw_g (lw_at lw_m14 201 rfl) rfl
theorem q3574 : (Jvm.Cond.methodLink "SearchHouseLaw" (223 : Nat) ({ cls := "SearchHouseModel", name := "percolate", desc := "()I" } : Jvm.MethodName)) ∈ lw_all := lw_g (lw_at lw_m14 202 rfl) rfl
theorem q3575 : (Jvm.Cond.instanceMethod ({ cls := "SearchHouseModel", name := "percolate", desc := "()I" } : Jvm.MethodName)) ∈ lw_all := lw_g (lw_at lw_m14 203 rfl) rfl
theorem q3576 : (Jvm.Cond.selects "SearchHouseModel" ({ cls := "SearchHouseModel", name := "percolate", desc := "()I" } : Jvm.MethodName) ({ cls := "SearchHouseModel", name := "percolate", desc := "()I" } : Jvm.MethodName)) ∈ lw_all := lw_g (lw_at lw_m14 204 rfl) rfl
theorem q3577 : (Jvm.Cond.code ({ cls := "SearchHouseModel", name := "percolate", desc := "()I" } : Jvm.MethodName) prog_14_method_198_code (2 : Nat) (Option.some Jvm.ClassFile.FieldType.int)) ∈ lw_all := lw_g (lw_at lw_m14 205 rfl) rfl
theorem q3578 : (Jvm.Cond.methodLink "SearchHouseLaw" (227 : Nat) ({ cls := "SearchHouseModel", name := "matched", desc := "(I)I" } : Jvm.MethodName)) ∈ lw_all := lw_g (lw_at lw_m14 206 rfl) rfl
theorem q3579 : (Jvm.Cond.instanceMethod ({ cls := "SearchHouseModel", name := "matched", desc := "(I)I" } : Jvm.MethodName)) ∈ lw_all := lw_g (lw_at lw_m14 207 rfl) rfl
theorem q3580 : (Jvm.Cond.selects "SearchHouseModel" ({ cls := "SearchHouseModel", name := "matched", desc := "(I)I" } : Jvm.MethodName) ({ cls := "SearchHouseModel", name := "matched", desc := "(I)I" } : Jvm.MethodName)) ∈ lw_all := lw_g (lw_at lw_m14 208 rfl) rfl
theorem q3581 : (Jvm.Cond.code ({ cls := "SearchHouseModel", name := "matched", desc := "(I)I" } : Jvm.MethodName) prog_14_method_199_code (2 : Nat) (Option.some Jvm.ClassFile.FieldType.int)) ∈ lw_all := lw_g (lw_at lw_m14 209 rfl) rfl
theorem q3582 : (Jvm.Cond.methodLink "SearchHouseLaw" (247 : Nat) ({ cls := "SearchHouseModel", name := "export", desc := "()I" } : Jvm.MethodName)) ∈ lw_all := lw_g (lw_at lw_m14 210 rfl) rfl
theorem q3583 : (Jvm.Cond.instanceMethod ({ cls := "SearchHouseModel", name := "export", desc := "()I" } : Jvm.MethodName)) ∈ lw_all := lw_g (lw_at lw_m14 211 rfl) rfl
theorem q3584 : (Jvm.Cond.selects "SearchHouseModel" ({ cls := "SearchHouseModel", name := "export", desc := "()I" } : Jvm.MethodName) ({ cls := "SearchHouseModel", name := "export", desc := "()I" } : Jvm.MethodName)) ∈ lw_all := lw_g (lw_at lw_m14 212 rfl) rfl
theorem q3585 : (Jvm.Cond.code ({ cls := "SearchHouseModel", name := "export", desc := "()I" } : Jvm.MethodName) prog_14_method_205_code (4 : Nat) (Option.some Jvm.ClassFile.FieldType.int)) ∈ lw_all := lw_g (lw_at lw_m14 213 rfl) rfl
theorem q3586 : (Jvm.Cond.constantLong "SearchHouseModel" (1113 : Nat) (83 : Int64)) ∈ lw_all := lw_g (lw_at lw_m14 214 rfl) rfl
theorem q3587 : (Jvm.Cond.methodLink "SearchHouseModel" (1106 : Nat) ({ cls := "SearchHouseModel", name := "put", desc := "(JI)V" } : Jvm.MethodName)) ∈ lw_all := lw_g (lw_at lw_m14 215 rfl) rfl
theorem q3588 : (Jvm.Cond.privateMethod ({ cls := "SearchHouseModel", name := "put", desc := "(JI)V" } : Jvm.MethodName)) ∈ lw_tbl := lw_at lw_m14 216 rfl
theorem q3589 : (Jvm.Cond.instanceMethod ({ cls := "SearchHouseModel", name := "put", desc := "(JI)V" } : Jvm.MethodName)) ∈ lw_all := lw_g (lw_at lw_m14 217 rfl) rfl
theorem q3590 : (Jvm.Cond.code ({ cls := "SearchHouseModel", name := "put", desc := "(JI)V" } : Jvm.MethodName) prog_14_method_200_code (5 : Nat) (Option.none : Option Jvm.ClassFile.FieldType)) ∈ lw_all := lw_g (lw_at lw_m14 218 rfl) rfl
theorem q3591 : (Jvm.Cond.constantLong "SearchHouseModel" (1115 : Nat) (72 : Int64)) ∈ lw_all := lw_g (lw_at lw_m14 219 rfl) rfl
theorem q3592 : (Jvm.Cond.methodLink "SearchHouseModel" (1117 : Nat) ({ cls := "SearchHouseModel", name := "putAnalyser", desc := "(I)V" } : Jvm.MethodName)) ∈ lw_all := lw_g (lw_at lw_m14 220 rfl) rfl
theorem q3593 : (Jvm.Cond.privateMethod ({ cls := "SearchHouseModel", name := "putAnalyser", desc := "(I)V" } : Jvm.MethodName)) ∈ lw_tbl := lw_at lw_m14 221 rfl
theorem q3594 : (Jvm.Cond.instanceMethod ({ cls := "SearchHouseModel", name := "putAnalyser", desc := "(I)V" } : Jvm.MethodName)) ∈ lw_all := lw_g (lw_at lw_m14 222 rfl) rfl
theorem q3595 : (Jvm.Cond.code ({ cls := "SearchHouseModel", name := "putAnalyser", desc := "(I)V" } : Jvm.MethodName) prog_14_method_202_code (3 : Nat) (Option.none : Option Jvm.ClassFile.FieldType)) ∈ lw_all := lw_g (lw_at lw_m14 223 rfl) rfl
theorem q3596 : (Jvm.Cond.methodLink "SearchHouseModel" (1110 : Nat) ({ cls := "SearchHouseModel", name := "putTold", desc := "(I)V" } : Jvm.MethodName)) ∈ lw_all := lw_g (lw_at lw_m14 224 rfl) rfl
theorem q3597 : (Jvm.Cond.privateMethod ({ cls := "SearchHouseModel", name := "putTold", desc := "(I)V" } : Jvm.MethodName)) ∈ lw_tbl := lw_at lw_m14 225 rfl
theorem q3598 : (Jvm.Cond.instanceMethod ({ cls := "SearchHouseModel", name := "putTold", desc := "(I)V" } : Jvm.MethodName)) ∈ lw_all := lw_g (lw_at lw_m14 226 rfl) rfl
theorem q3599 : (Jvm.Cond.code ({ cls := "SearchHouseModel", name := "putTold", desc := "(I)V" } : Jvm.MethodName) prog_14_method_201_code (3 : Nat) (Option.none : Option Jvm.ClassFile.FieldType)) ∈ lw_all := lw_g (lw_at lw_m14 227 rfl) rfl
theorem q3600 : (Jvm.Cond.methodLink "SearchHouseModel" (1120 : Nat) ({ cls := "SearchHouseModel", name := "putValue", desc := "(I)V" } : Jvm.MethodName)) ∈ lw_all := lw_g (lw_at lw_m14 228 rfl) rfl
theorem q3601 : (Jvm.Cond.privateMethod ({ cls := "SearchHouseModel", name := "putValue", desc := "(I)V" } : Jvm.MethodName)) ∈ lw_tbl := lw_at lw_m14 229 rfl
theorem q3602 : (Jvm.Cond.instanceMethod ({ cls := "SearchHouseModel", name := "putValue", desc := "(I)V" } : Jvm.MethodName)) ∈ lw_all := lw_g (lw_at lw_m14 230 rfl) rfl
theorem q3603 : (Jvm.Cond.code ({ cls := "SearchHouseModel", name := "putValue", desc := "(I)V" } : Jvm.MethodName) prog_14_method_203_code (4 : Nat) (Option.none : Option Jvm.ClassFile.FieldType)) ∈ lw_all := lw_g (lw_at lw_m14 231 rfl) rfl
theorem q3604 : (Jvm.Cond.methodLink "SearchHouseModel" (1123 : Nat) ({ cls := "SearchHouseModel", name := "sumOf", desc := "([BI)I" } : Jvm.MethodName)) ∈ lw_all := lw_g (lw_at lw_m14 232 rfl) rfl
theorem q3605 : (Jvm.Cond.static ({ cls := "SearchHouseModel", name := "sumOf", desc := "([BI)I" } : Jvm.MethodName)) ∈ lw_all := lw_g (lw_at lw_m14 233 rfl) rfl
theorem q3606 : (Jvm.Cond.code ({ cls := "SearchHouseModel", name := "sumOf", desc := "([BI)I" } : Jvm.MethodName) prog_14_method_204_code (4 : Nat) (Option.some Jvm.ClassFile.FieldType.int)) ∈ lw_all := lw_g (lw_at lw_m14 234 rfl) rfl
theorem q3607 : (Jvm.Cond.methodLink "SearchHouseLaw" (251 : Nat) ({ cls := "SearchHouseModel", name := "written", desc := "(I)I" } : Jvm.MethodName)) ∈ lw_all := lw_g (lw_at lw_m14 235 rfl) rfl
theorem q3608 : (Jvm.Cond.instanceMethod ({ cls := "SearchHouseModel", name := "written", desc := "(I)I" } : Jvm.MethodName)) ∈ lw_all := lw_g (lw_at lw_m14 236 rfl) rfl
theorem q3609 : (Jvm.Cond.selects "SearchHouseModel" ({ cls := "SearchHouseModel", name := "written", desc := "(I)I" } : Jvm.MethodName) ({ cls := "SearchHouseModel", name := "written", desc := "(I)I" } : Jvm.MethodName)) ∈ lw_all := lw_g (lw_at lw_m14 237 rfl) rfl
theorem q3610 : (Jvm.Cond.code ({ cls := "SearchHouseModel", name := "written", desc := "(I)I" } : Jvm.MethodName) prog_14_method_206_code (2 : Nat) (Option.some Jvm.ClassFile.FieldType.int)) ∈ lw_all := lw_g (lw_at lw_m14 238 rfl) rfl
theorem q3611 : (Jvm.Cond.methodLink "SearchHouseLaw" (255 : Nat) ({ cls := "SearchHouseModel", name := "imported", desc := "()I" } : Jvm.MethodName)) ∈ lw_all := lw_g (lw_at lw_m14 239 rfl) rfl
theorem q3612 : (Jvm.Cond.instanceMethod ({ cls := "SearchHouseModel", name := "imported", desc := "()I" } : Jvm.MethodName)) ∈ lw_all := lw_g (lw_at lw_m15 0 rfl) rfl
theorem q3613 : (Jvm.Cond.selects "SearchHouseModel" ({ cls := "SearchHouseModel", name := "imported", desc := "()I" } : Jvm.MethodName) ({ cls := "SearchHouseModel", name := "imported", desc := "()I" } : Jvm.MethodName)) ∈ lw_all := lw_g (lw_at lw_m15 1 rfl) rfl
theorem q3614 : (Jvm.Cond.codeWith ({ cls := "SearchHouseModel", name := "imported", desc := "()I" } : Jvm.MethodName) prog_14_method_216_code (6 : Nat) (Option.some Jvm.ClassFile.FieldType.int) [((122 : Nat), (141 : Nat), (144 : Nat), (11 : Nat))]) ∈ lw_all := lw_g (lw_at lw_m15 2 rfl) rfl
theorem q3615 : (Jvm.Cond.methodLink "SearchHouseModel" (1136 : Nat) ({ cls := "SearchHouseModel", name := "must", desc := "(Z)V" } : Jvm.MethodName)) ∈ lw_all := lw_g (lw_at lw_m15 3 rfl) rfl
theorem q3616 : (Jvm.Cond.privateMethod ({ cls := "SearchHouseModel", name := "must", desc := "(Z)V" } : Jvm.MethodName)) ∈ lw_tbl := lw_at lw_m15 4 rfl
theorem q3617 : (Jvm.Cond.instanceMethod ({ cls := "SearchHouseModel", name := "must", desc := "(Z)V" } : Jvm.MethodName)) ∈ lw_all := lw_g (lw_at lw_m15 5 rfl) rfl
theorem q3618 : (Jvm.Cond.code ({ cls := "SearchHouseModel", name := "must", desc := "(Z)V" } : Jvm.MethodName) prog_14_method_209_code (2 : Nat) (Option.none : Option Jvm.ClassFile.FieldType)) ∈ lw_all := lw_g (lw_at lw_m15 6 rfl) rfl
theorem q3619 : (Jvm.Cond.methodLink "SearchHouseModel" (1165 : Nat) ({ cls := "SearchHouseModel", name := "readAll", desc := "()I" } : Jvm.MethodName)) ∈ lw_all := lw_g (lw_at lw_m15 7 rfl) rfl
theorem q3620 : (Jvm.Cond.privateMethod ({ cls := "SearchHouseModel", name := "readAll", desc := "()I" } : Jvm.MethodName)) ∈ lw_tbl := lw_at lw_m15 8 rfl
theorem q3621 : (Jvm.Cond.instanceMethod ({ cls := "SearchHouseModel", name := "readAll", desc := "()I" } : Jvm.MethodName)) ∈ lw_all := lw_g (lw_at lw_m15 9 rfl) rfl
theorem q3622 : (Jvm.Cond.code ({ cls := "SearchHouseModel", name := "readAll", desc := "()I" } : Jvm.MethodName) prog_14_method_215_code (6 : Nat) (Option.some Jvm.ClassFile.FieldType.int)) ∈ lw_all := lw_g (lw_at lw_m15 10 rfl) rfl
theorem q3623 : (Jvm.Cond.methodLink "SearchHouseModel" (1133 : Nat) ({ cls := "SearchHouseModel", name := "count", desc := "(I)I" } : Jvm.MethodName)) ∈ lw_all := lw_g (lw_at lw_m15 11 rfl) rfl
theorem q3624 : (Jvm.Cond.privateMethod ({ cls := "SearchHouseModel", name := "count", desc := "(I)I" } : Jvm.MethodName)) ∈ lw_tbl := lw_at lw_m15 12 rfl
theorem q3625 : (Jvm.Cond.instanceMethod ({ cls := "SearchHouseModel", name := "count", desc := "(I)I" } : Jvm.MethodName)) ∈ lw_all := lw_g (lw_at lw_m15 13 rfl) rfl
theorem q3626 : (Jvm.Cond.code ({ cls := "SearchHouseModel", name := "count", desc := "(I)I" } : Jvm.MethodName) prog_14_method_208_code (3 : Nat) (Option.some Jvm.ClassFile.FieldType.int)) ∈ lw_all := lw_g (lw_at lw_m15 14 rfl) rfl
theorem q3627 : (Jvm.Cond.methodLink "SearchHouseModel" (1130 : Nat) ({ cls := "SearchHouseModel", name := "get", desc := "(I)J" } : Jvm.MethodName)) ∈ lw_all := lw_g (lw_at lw_m15 15 rfl) rfl
theorem q3628 : (Jvm.Cond.privateMethod ({ cls := "SearchHouseModel", name := "get", desc := "(I)J" } : Jvm.MethodName)) ∈ lw_tbl := lw_at lw_m15 16 rfl
theorem q3629 : (Jvm.Cond.instanceMethod ({ cls := "SearchHouseModel", name := "get", desc := "(I)J" } : Jvm.MethodName)) ∈ lw_all := lw_g (lw_at lw_m15 17 rfl) rfl
theorem q3630 : (Jvm.Cond.code ({ cls := "SearchHouseModel", name := "get", desc := "(I)J" } : Jvm.MethodName) prog_14_method_207_code (5 : Nat) (Option.some Jvm.ClassFile.FieldType.long)) ∈ lw_all := lw_g (lw_at lw_m15 18 rfl) rfl
theorem q3631 : (Jvm.Cond.methodLink "SearchHouseModel" (1156 : Nat) ({ cls := "SearchHouseModel", name := "readAnalyser", desc := "(I)V" } : Jvm.MethodName)) ∈ lw_all := lw_g (lw_at lw_m15 19 rfl) rfl
theorem q3632 : (Jvm.Cond.privateMethod ({ cls := "SearchHouseModel", name := "readAnalyser", desc := "(I)V" } : Jvm.MethodName)) ∈ lw_tbl := lw_at lw_m15 20 rfl
theorem q3633 : (Jvm.Cond.instanceMethod ({ cls := "SearchHouseModel", name := "readAnalyser", desc := "(I)V" } : Jvm.MethodName)) ∈ lw_all := lw_g (lw_at lw_m15 21 rfl) rfl
theorem q3634 : (Jvm.Cond.code ({ cls := "SearchHouseModel", name := "readAnalyser", desc := "(I)V" } : Jvm.MethodName) prog_14_method_211_code (6 : Nat) (Option.none : Option Jvm.ClassFile.FieldType)) ∈ lw_all := lw_g (lw_at lw_m15 22 rfl) rfl
theorem q3635 : (Jvm.Cond.methodLink "SearchHouseModel" (1140 : Nat) ({ cls := "SearchHouseModel", name := "toldRow", desc := "(I)I" } : Jvm.MethodName)) ∈ lw_all := lw_g (lw_at lw_m15 23 rfl) rfl
theorem q3636 : (Jvm.Cond.privateMethod ({ cls := "SearchHouseModel", name := "toldRow", desc := "(I)I" } : Jvm.MethodName)) ∈ lw_tbl := lw_at lw_m15 24 rfl
theorem q3637 : (Jvm.Cond.instanceMethod ({ cls := "SearchHouseModel", name := "toldRow", desc := "(I)I" } : Jvm.MethodName)) ∈ lw_all := lw_g (lw_at lw_m15 25 rfl) rfl
theorem q3638 : (Jvm.Cond.code ({ cls := "SearchHouseModel", name := "toldRow", desc := "(I)I" } : Jvm.MethodName) prog_14_method_210_code (3 : Nat) (Option.some Jvm.ClassFile.FieldType.int)) ∈ lw_all := lw_g (lw_at lw_m15 26 rfl) rfl
theorem q3639 : (Jvm.Cond.methodLink "SearchHouseModel" (1159 : Nat) ({ cls := "SearchHouseModel", name := "readField", desc := "(I)V" } : Jvm.MethodName)) ∈ lw_all := lw_g (lw_at lw_m15 27 rfl) rfl
theorem q3640 : (Jvm.Cond.privateMethod ({ cls := "SearchHouseModel", name := "readField", desc := "(I)V" } : Jvm.MethodName)) ∈ lw_tbl := lw_at lw_m15 28 rfl
theorem q3641 : (Jvm.Cond.instanceMethod ({ cls := "SearchHouseModel", name := "readField", desc := "(I)V" } : Jvm.MethodName)) ∈ lw_all := lw_g (lw_at lw_m15 29 rfl) rfl
theorem q3642 : (Jvm.Cond.code ({ cls := "SearchHouseModel", name := "readField", desc := "(I)V" } : Jvm.MethodName) prog_14_method_212_code (2 : Nat) (Option.none : Option Jvm.ClassFile.FieldType)) ∈ lw_all := lw_g (lw_at lw_m15 30 rfl) rfl
theorem q3643 : (Jvm.Cond.methodLink "SearchHouseModel" (1162 : Nat) ({ cls := "SearchHouseModel", name := "readObject", desc := "(II)V" } : Jvm.MethodName)) ∈ lw_all := lw_g (lw_at lw_m15 31 rfl) rfl
theorem q3644 : (Jvm.Cond.privateMethod ({ cls := "SearchHouseModel", name := "readObject", desc := "(II)V" } : Jvm.MethodName)) ∈ lw_tbl := lw_at lw_m15 32 rfl
theorem q3645 : (Jvm.Cond.instanceMethod ({ cls := "SearchHouseModel", name := "readObject", desc := "(II)V" } : Jvm.MethodName)) ∈ lw_all := lw_g (lw_at lw_m15 33 rfl) rfl
theorem q3646 : (Jvm.Cond.code ({ cls := "SearchHouseModel", name := "readObject", desc := "(II)V" } : Jvm.MethodName) prog_14_method_214_code (7 : Nat) (Option.none : Option Jvm.ClassFile.FieldType)) ∈ lw_all := lw_g (lw_at lw_m15 34 rfl) rfl
theorem q3647 : (Jvm.Cond.methodLink "SearchHouseModel" (1153 : Nat) ({ cls := "SearchHouseModel", name := "readValue", desc := "()I" } : Jvm.MethodName)) ∈ lw_all := lw_g (lw_at lw_m15 35 rfl) rfl
theorem q3648 : (Jvm.Cond.privateMethod ({ cls := "SearchHouseModel", name := "readValue", desc := "()I" } : Jvm.MethodName)) ∈ lw_tbl := lw_at lw_m15 36 rfl
theorem q3649 : (Jvm.Cond.instanceMethod ({ cls := "SearchHouseModel", name := "readValue", desc := "()I" } : Jvm.MethodName)) ∈ lw_all := lw_g (lw_at lw_m15 37 rfl) rfl
theorem q3650 : (Jvm.Cond.code ({ cls := "SearchHouseModel", name := "readValue", desc := "()I" } : Jvm.MethodName) prog_14_method_213_code (5 : Nat) (Option.some Jvm.ClassFile.FieldType.int)) ∈ lw_all := lw_g (lw_at lw_m15 38 rfl) rfl
theorem q3651 : (Jvm.Cond.methodLink "SearchHouseModel" (1143 : Nat) ({ cls := "SearchHouseModel", name := "number", desc := "(IJ)I" } : Jvm.MethodName)) ∈ lw_all := lw_g (lw_at lw_m15 39 rfl) rfl
theorem q3652 : (Jvm.Cond.methodLink "SearchHouseModel" (1147 : Nat) ({ cls := "SearchHouseModel", name := "place", desc := "(III)I" } : Jvm.MethodName)) ∈ lw_all := lw_g (lw_at lw_m15 40 rfl) rfl
theorem q3653 : (Jvm.Cond.methodLink "SearchHouseModel" (1150 : Nat) ({ cls := "SearchHouseModel", name := "row", desc := "(IIIII)I" } : Jvm.MethodName)) ∈ lw_all := lw_g (lw_at lw_m15 41 rfl) rfl
theorem q3654 : (Jvm.Cond.constantLong "SearchHouseLaw" (57 : Nat) (4294967295 : Int64)) ∈ lw_all := lw_g (lw_at lw_m15 42 rfl) rfl
theorem q3655 : (Jvm.Cond.sameMethod "java/lang/Throwable" "java/lang/Throwable" "fillInStackTrace" "(I)Ljava/lang/Throwable;") ∈ lw_all := lw_g (lw_at lw_m15 43 rfl) rfl
theorem q3656 : (Jvm.Cond.fieldLink "java/lang/String" (9 : Nat) "java/lang/String" "value" "[B") ∈ lw_all := lw_g (lw_at lw_m15 44 rfl) rfl
theorem q3657 : (Jvm.Cond.fieldLink "java/lang/String" (15 : Nat) "java/lang/String" "coder" "B") ∈ lw_all := lw_g (lw_at lw_m15 45 rfl) rfl
