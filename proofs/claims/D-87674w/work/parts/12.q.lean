set_option maxRecDepth 100000
theorem q172 : (Jvm.Cond.initialized "SpendHouseLaw") ∈ lw_all := lw_g (lw_at lw_m1 0 rfl) rfl
theorem q173 : (Jvm.Cond.initialized "SpendHouse") ∈ lw_all := lw_g (lw_at lw_m1 1 rfl) rfl
theorem q174 : (Jvm.Cond.initialized "SpendHouse$Hashes") ∈ lw_all := lw_g (lw_at lw_m1 2 rfl) rfl
theorem q175 : (Jvm.Cond.initialized "SpendHouse$Code") ∈ lw_all := lw_g (lw_at lw_m1 3 rfl) rfl
theorem q176 : (Jvm.Cond.initialized "SpendHouse$Item") ∈ lw_all := lw_g (lw_at lw_m1 4 rfl) rfl
theorem q177 : (Jvm.Cond.initialized "SpendHouse$Ways") ∈ lw_all := lw_g (lw_at lw_m1 5 rfl) rfl
theorem q178 : (Jvm.Cond.initialized "SpendHouse$Machine") ∈ lw_all := lw_g (lw_at lw_m1 6 rfl) rfl
theorem q179 : (Jvm.Cond.initialized "java/lang/String") ∈ lw_all := lw_g (lw_at lw_m1 7 rfl) rfl
theorem q180 : (Jvm.Cond.initialized "java/lang/StringLatin1") ∈ lw_all := lw_g (lw_at lw_m1 8 rfl) rfl
theorem q181 : (Jvm.Cond.initialized "jdk/internal/util/Preconditions") ∈ lw_all := lw_g (lw_at lw_m1 9 rfl) rfl
theorem q182 : (Jvm.Cond.initialized "java/lang/StringUTF16") ∈ lw_all := lw_g (lw_at lw_m1 10 rfl) rfl
theorem q183 : (Jvm.Cond.initialized "SpendHouseModel") ∈ lw_all := lw_g (lw_at lw_m1 11 rfl) rfl
theorem q184 : (Jvm.Cond.initialized "SpendHouse$Reader") ∈ lw_all := lw_g (lw_at lw_m1 12 rfl) rfl
theorem q185 : (Jvm.Cond.initialized "java/lang/Throwable") ∈ lw_all := lw_g (lw_at lw_m1 13 rfl) rfl
theorem q186 : (Jvm.Cond.initialized "java/lang/Exception") ∈ lw_all := lw_g (lw_at lw_m1 14 rfl) rfl
theorem q187 : (Jvm.Cond.initialized "SpendHouse$Fault") ∈ lw_all := lw_g (lw_at lw_m1 15 rfl) rfl
theorem q188 : (Jvm.Cond.initialized "java/lang/AbstractStringBuilder") ∈ lw_all := lw_g (lw_at lw_m1 16 rfl) rfl
theorem q189 : (Jvm.Cond.initialized "java/lang/StringBuilder") ∈ lw_all := lw_g (lw_at lw_m1 17 rfl) rfl
theorem q190 : (Jvm.Cond.initialized "jdk/internal/util/ArraysSupport") ∈ lw_all := lw_g (lw_at lw_m1 18 rfl) rfl
theorem q191 : (Jvm.Cond.initialized "java/lang/Math") ∈ lw_all := lw_g (lw_at lw_m1 19 rfl) rfl
theorem q192 : (Jvm.Cond.initialized "java/util/Arrays") ∈ lw_all := lw_g (lw_at lw_m1 20 rfl) rfl
theorem q193 : (Jvm.Cond.initialized "java/lang/System") ∈ lw_all := lw_g (lw_at lw_m1 21 rfl) rfl
theorem q194 : (Jvm.Cond.initialized "SpendHouse$Policy") ∈ lw_all := lw_g (lw_at lw_m1 22 rfl) rfl
theorem q195 : (Jvm.Cond.initialized "SpendHouse$Node") ∈ lw_all := lw_g (lw_at lw_m1 23 rfl) rfl
theorem q196 : (Jvm.Cond.initialized "SpendHouse$Wrapper") ∈ lw_all := lw_g (lw_at lw_m1 24 rfl) rfl
theorem q197 : (Jvm.Cond.initialized "SpendHouse$Leaf") ∈ lw_all := lw_g (lw_at lw_m1 25 rfl) rfl
theorem q198 : (Jvm.Cond.initialized "SpendHouse$Key") ∈ lw_all := lw_g (lw_at lw_m1 26 rfl) rfl
theorem q199 : (Jvm.Cond.initialized "SpendHouse$Lock") ∈ lw_all := lw_g (lw_at lw_m1 27 rfl) rfl
theorem q200 : (Jvm.Cond.initialized "SpendHouse$Image") ∈ lw_all := lw_g (lw_at lw_m1 28 rfl) rfl
theorem q201 : (Jvm.Cond.initialized "SpendHouse$Truth") ∈ lw_all := lw_g (lw_at lw_m1 29 rfl) rfl
theorem q202 : (Jvm.Cond.initialized "SpendHouse$Multi") ∈ lw_all := lw_g (lw_at lw_m1 30 rfl) rfl
theorem q203 : (Jvm.Cond.initialized "SpendHouse$Thresh") ∈ lw_all := lw_g (lw_at lw_m1 31 rfl) rfl
theorem q204 : (Jvm.Cond.initialized "SpendHouse$AndOr") ∈ lw_all := lw_g (lw_at lw_m1 32 rfl) rfl
theorem q205 : (Jvm.Cond.initialized "SpendHouse$Pair") ∈ lw_all := lw_g (lw_at lw_m1 33 rfl) rfl
theorem q206 : (Jvm.Cond.initialized "java/lang/Character") ∈ lw_all := lw_g (lw_at lw_m1 34 rfl) rfl
theorem q207 : (Jvm.Cond.initialized "java/lang/Number") ∈ lw_all := lw_g (lw_at lw_m1 35 rfl) rfl
theorem q208 : (Jvm.Cond.initialized "java/lang/Integer") ∈ lw_all := lw_g (lw_at lw_m1 36 rfl) rfl
theorem q209 : (Jvm.Cond.initialized "SpendHouse$Way") ∈ lw_all := lw_g (lw_at lw_m1 37 rfl) rfl
theorem q210 : (Jvm.Cond.classLink "SpendHouseLaw" (7 : Nat) "SpendHouse") ∈ lw_all := lw_g (lw_at lw_m1 38 rfl) rfl
theorem q211 : (Jvm.Cond.instantiable "SpendHouse" (25 : Nat)) ∈ lw_all := lw_g (lw_at lw_m1 39 rfl) rfl
theorem q212 : (Jvm.Cond.methodLink "SpendHouseLaw" (9 : Nat) ({ cls := "SpendHouse", name := "<init>", desc := "()V" } : Jvm.MethodName)) ∈ lw_all := lw_g (lw_at lw_m1 40 rfl) rfl
theorem q213 : (Jvm.Cond.instanceMethod ({ cls := "SpendHouse", name := "<init>", desc := "()V" } : Jvm.MethodName)) ∈ lw_all := lw_g (lw_at lw_m1 41 rfl) rfl
theorem q214 : (Jvm.Cond.code ({ cls := "SpendHouse", name := "<init>", desc := "()V" } : Jvm.MethodName) prog_1_method_2_code (5 : Nat) (Option.none : Option Jvm.ClassFile.FieldType)) ∈ lw_all := lw_g (lw_at lw_m1 42 rfl) rfl
theorem q215 : (Jvm.Cond.methodLink "SpendHouse" (1 : Nat) ({ cls := "java/lang/Object", name := "<init>", desc := "()V" } : Jvm.MethodName)) ∈ lw_all := lw_g (lw_at lw_m1 43 rfl) rfl
theorem q216 : (Jvm.Cond.instanceMethod ({ cls := "java/lang/Object", name := "<init>", desc := "()V" } : Jvm.MethodName)) ∈ lw_all := lw_g (lw_at lw_m1 44 rfl) rfl
theorem q217 : (Jvm.Cond.code ({ cls := "java/lang/Object", name := "<init>", desc := "()V" } : Jvm.MethodName) object_method_1_code (1 : Nat) (Option.none : Option Jvm.ClassFile.FieldType)) ∈ lw_all := lw_g (lw_at lw_m1 45 rfl) rfl
theorem q218 : (Jvm.Cond.classLink "SpendHouse" (7 : Nat) "SpendHouse$Hashes") ∈ lw_all := lw_g (lw_at lw_m1 46 rfl) rfl
theorem q219 : (Jvm.Cond.instantiable "SpendHouse$Hashes" (10 : Nat)) ∈ lw_all := lw_g (lw_at lw_m1 47 rfl) rfl
theorem q220 : (Jvm.Cond.methodLink "SpendHouse" (9 : Nat) ({ cls := "SpendHouse$Hashes", name := "<init>", desc := "()V" } : Jvm.MethodName)) ∈ lw_all := lw_g (lw_at lw_m1 48 rfl) rfl
theorem q221 : (Jvm.Cond.instanceMethod ({ cls := "SpendHouse$Hashes", name := "<init>", desc := "()V" } : Jvm.MethodName)) ∈ lw_all := lw_g (lw_at lw_m1 49 rfl) rfl
theorem q222 : (Jvm.Cond.code ({ cls := "SpendHouse$Hashes", name := "<init>", desc := "()V" } : Jvm.MethodName) prog_5_method_1_code (5 : Nat) (Option.none : Option Jvm.ClassFile.FieldType)) ∈ lw_all := lw_g (lw_at lw_m1 50 rfl) rfl
theorem q223 : (Jvm.Cond.methodLink "SpendHouse$Hashes" (3 : Nat) ({ cls := "java/lang/Object", name := "<init>", desc := "()V" } : Jvm.MethodName)) ∈ lw_all := lw_g (lw_at lw_m1 51 rfl) rfl
theorem q224 : (Jvm.Cond.methodLink "SpendHouse$Hashes" (44 : Nat) ({ cls := "SpendHouse$Hashes", name := "fraction", desc := "(II)I" } : Jvm.MethodName)) ∈ lw_all := lw_g (lw_at lw_m1 52 rfl) rfl
theorem q225 : (Jvm.Cond.privateMethod ({ cls := "SpendHouse$Hashes", name := "fraction", desc := "(II)I" } : Jvm.MethodName)) ∈ lw_tbl := lw_at lw_m1 53 rfl
theorem q226 : (Jvm.Cond.instanceMethod ({ cls := "SpendHouse$Hashes", name := "fraction", desc := "(II)I" } : Jvm.MethodName)) ∈ lw_all := lw_g (lw_at lw_m1 54 rfl) rfl
theorem q227 : (Jvm.Cond.code ({ cls := "SpendHouse$Hashes", name := "fraction", desc := "(II)I" } : Jvm.MethodName) prog_5_method_2_code (9 : Nat) (Option.some Jvm.ClassFile.FieldType.int)) ∈ lw_all := lw_g (lw_at lw_m1 55 rfl) rfl
theorem q228 : (Jvm.Cond.constantLong "SpendHouse$Hashes" (48 : Nat) (137438953472 : Int64)) ∈ lw_all := lw_g (lw_at lw_m1 56 rfl) rfl
theorem q229 : (Jvm.Cond.methodLink "SpendHouse$Hashes" (50 : Nat) ({ cls := "SpendHouse$Hashes", name := "isAbove", desc := "(JII)Z" } : Jvm.MethodName)) ∈ lw_all := lw_g (lw_at lw_m1 57 rfl) rfl
theorem q230 : (Jvm.Cond.privateMethod ({ cls := "SpendHouse$Hashes", name := "isAbove", desc := "(JII)Z" } : Jvm.MethodName)) ∈ lw_tbl := lw_at lw_m1 58 rfl
theorem q231 : (Jvm.Cond.instanceMethod ({ cls := "SpendHouse$Hashes", name := "isAbove", desc := "(JII)Z" } : Jvm.MethodName)) ∈ lw_all := lw_g (lw_at lw_m1 59 rfl) rfl
theorem q232 : (Jvm.Cond.code ({ cls := "SpendHouse$Hashes", name := "isAbove", desc := "(JII)Z" } : Jvm.MethodName) prog_5_method_3_code (8 : Nat) (Option.some Jvm.ClassFile.FieldType.boolean)) ∈ lw_all := lw_g (lw_at lw_m1 60 rfl) rfl
theorem q233 : (Jvm.Cond.methodLink "SpendHouse$Hashes" (54 : Nat) ({ cls := "SpendHouse$Hashes", name := "times", desc := "(J)V" } : Jvm.MethodName)) ∈ lw_all := lw_g (lw_at lw_m1 61 rfl) rfl
theorem q234 : (Jvm.Cond.privateMethod ({ cls := "SpendHouse$Hashes", name := "times", desc := "(J)V" } : Jvm.MethodName)) ∈ lw_tbl := lw_at lw_m1 62 rfl
theorem q235 : (Jvm.Cond.instanceMethod ({ cls := "SpendHouse$Hashes", name := "times", desc := "(J)V" } : Jvm.MethodName)) ∈ lw_all := lw_g (lw_at lw_m1 63 rfl) rfl
theorem q236 : (Jvm.Cond.code ({ cls := "SpendHouse$Hashes", name := "times", desc := "(J)V" } : Jvm.MethodName) prog_5_method_4_code (5 : Nat) (Option.none : Option Jvm.ClassFile.FieldType)) ∈ lw_all := lw_g (lw_at lw_m1 64 rfl) rfl
theorem q237 : (Jvm.Cond.constantLong "SpendHouse$Hashes" (58 : Nat) (65535 : Int64)) ∈ lw_all := lw_g (lw_at lw_m1 65 rfl) rfl
theorem q238 : (Jvm.Cond.fieldLink "SpendHouse$Hashes" (9 : Nat) "SpendHouse$Hashes" "sha" "[I") ∈ lw_all := lw_g (lw_at lw_m1 66 rfl) rfl
theorem q239 : (Jvm.Cond.fieldLink "SpendHouse$Hashes" (15 : Nat) "SpendHouse$Hashes" "first" "[I") ∈ lw_all := lw_g (lw_at lw_m1 67 rfl) rfl
theorem q240 : (Jvm.Cond.fieldLink "SpendHouse$Hashes" (18 : Nat) "SpendHouse$Hashes" "state" "[I") ∈ lw_all := lw_g (lw_at lw_m1 68 rfl) rfl
theorem q241 : (Jvm.Cond.fieldLink "SpendHouse$Hashes" (21 : Nat) "SpendHouse$Hashes" "words" "[I") ∈ lw_all := lw_g (lw_at lw_m1 69 rfl) rfl
theorem q242 : (Jvm.Cond.fieldLink "SpendHouse$Hashes" (24 : Nat) "SpendHouse$Hashes" "left" "[I") ∈ lw_all := lw_g (lw_at lw_m1 70 rfl) rfl
theorem q243 : (Jvm.Cond.fieldLink "SpendHouse$Hashes" (27 : Nat) "SpendHouse$Hashes" "right" "[I") ∈ lw_all := lw_g (lw_at lw_m1 71 rfl) rfl
theorem q244 : (Jvm.Cond.fieldLink "SpendHouse$Hashes" (30 : Nat) "SpendHouse$Hashes" "block" "[B") ∈ lw_all := lw_g (lw_at lw_m1 72 rfl) rfl
theorem q245 : (Jvm.Cond.fieldLink "SpendHouse$Hashes" (34 : Nat) "SpendHouse$Hashes" "between" "[B") ∈ lw_all := lw_g (lw_at lw_m1 73 rfl) rfl
theorem q246 : (Jvm.Cond.fieldLink "SpendHouse$Hashes" (37 : Nat) "SpendHouse$Hashes" "one" "[J") ∈ lw_all := lw_g (lw_at lw_m1 74 rfl) rfl
theorem q247 : (Jvm.Cond.fieldLink "SpendHouse$Hashes" (41 : Nat) "SpendHouse$Hashes" "other" "[J") ∈ lw_all := lw_g (lw_at lw_m1 75 rfl) rfl
theorem q248 : (Jvm.Cond.laysFinal "SpendHouse$Hashes" "SpendHouse$Hashes" "sha" "[I") ∈ lw_all := lw_g (lw_at lw_m1 76 rfl) rfl
theorem q250 : (Jvm.Cond.laysFinal "SpendHouse$Hashes" "SpendHouse$Hashes" "first" "[I") ∈ lw_all := lw_g (lw_at lw_m1 78 rfl) rfl
theorem q252 : (Jvm.Cond.laysFinal "SpendHouse$Hashes" "SpendHouse$Hashes" "state" "[I") ∈ lw_all := lw_g (lw_at lw_m1 80 rfl) rfl
theorem q254 : (Jvm.Cond.laysFinal "SpendHouse$Hashes" "SpendHouse$Hashes" "words" "[I") ∈ lw_all := lw_g (lw_at lw_m1 82 rfl) rfl
theorem q256 : (Jvm.Cond.laysFinal "SpendHouse$Hashes" "SpendHouse$Hashes" "left" "[I") ∈ lw_all := lw_g (lw_at lw_m1 84 rfl) rfl
theorem q258 : (Jvm.Cond.laysFinal "SpendHouse$Hashes" "SpendHouse$Hashes" "right" "[I") ∈ lw_all := lw_g (lw_at lw_m1 86 rfl) rfl
theorem q260 : (Jvm.Cond.laysFinal "SpendHouse$Hashes" "SpendHouse$Hashes" "block" "[B") ∈ lw_all := lw_g (lw_at lw_m1 88 rfl) rfl
theorem q262 : (Jvm.Cond.laysFinal "SpendHouse$Hashes" "SpendHouse$Hashes" "between" "[B") ∈ lw_all := lw_g (lw_at lw_m1 90 rfl) rfl
theorem q264 : (Jvm.Cond.laysFinal "SpendHouse$Hashes" "SpendHouse$Hashes" "one" "[J") ∈ lw_all := lw_g (lw_at lw_m1 92 rfl) rfl
theorem q266 : (Jvm.Cond.laysFinal "SpendHouse$Hashes" "SpendHouse$Hashes" "other" "[J") ∈ lw_all := lw_g (lw_at lw_m1 94 rfl) rfl
theorem q268 : (Jvm.Cond.superclass "SpendHouse$Hashes" "java/lang/Object") ∈ lw_all := lw_g (lw_at lw_m1 96 rfl) rfl
theorem q269 : (Jvm.Cond.arrayClass Jvm.ClassFile.FieldType.int) ∈ lw_all := lw_g (lw_at lw_m1 97 rfl) rfl
theorem q270 : (Jvm.Cond.arrayClass Jvm.ClassFile.FieldType.byte) ∈ lw_all := lw_g (lw_at lw_m1 98 rfl) rfl
theorem q271 : (Jvm.Cond.arrayClass Jvm.ClassFile.FieldType.long) ∈ lw_all := lw_g (lw_at lw_m1 99 rfl) rfl
theorem q272 : (Jvm.Cond.classLink "SpendHouse" (16 : Nat) "[[B") ∈ lw_all := lw_g (lw_at lw_m1 100 rfl) rfl
theorem q273 : (Jvm.Cond.arrayOver (Jvm.ClassFile.FieldType.array Jvm.ClassFile.FieldType.byte)) ∈ lw_tbl := lw_at lw_m1 101 rfl
theorem q274 : (Jvm.Cond.classLink "SpendHouse" (35 : Nat) "SpendHouse$Code") ∈ lw_all := lw_g (lw_at lw_m1 102 rfl) rfl
theorem q275 : (Jvm.Cond.instantiable "SpendHouse$Code" (4 : Nat)) ∈ lw_all := lw_g (lw_at lw_m1 103 rfl) rfl
theorem q276 : (Jvm.Cond.methodLinkNest "SpendHouse" (37 : Nat) ({ cls := "SpendHouse$Code", name := "<init>", desc := "()V" } : Jvm.MethodName) "SpendHouse") ∈ lw_tbl := lw_at lw_m1 104 rfl
theorem q277 : (Jvm.Cond.instanceMethod ({ cls := "SpendHouse$Code", name := "<init>", desc := "()V" } : Jvm.MethodName)) ∈ lw_all := lw_g (lw_at lw_m1 105 rfl) rfl
theorem q278 : (Jvm.Cond.code ({ cls := "SpendHouse$Code", name := "<init>", desc := "()V" } : Jvm.MethodName) prog_3_method_1_code (1 : Nat) (Option.none : Option Jvm.ClassFile.FieldType)) ∈ lw_all := lw_g (lw_at lw_m1 106 rfl) rfl
theorem q279 : (Jvm.Cond.methodLink "SpendHouse$Code" (3 : Nat) ({ cls := "java/lang/Object", name := "<init>", desc := "()V" } : Jvm.MethodName)) ∈ lw_all := lw_g (lw_at lw_m1 107 rfl) rfl
theorem q280 : (Jvm.Cond.fieldLink "SpendHouse$Code" (9 : Nat) "SpendHouse$Code" "bytes" "[B") ∈ lw_all := lw_g (lw_at lw_m1 108 rfl) rfl
theorem q281 : (Jvm.Cond.fieldLinkNest "SpendHouse$Machine" (91 : Nat) "SpendHouse$Code" "bytes" "[B" "SpendHouse") ∈ lw_tbl := lw_at lw_m1 109 rfl
theorem q282 : (Jvm.Cond.fieldLinkNest "SpendHouse" (285 : Nat) "SpendHouse$Code" "bytes" "[B" "SpendHouse") ∈ lw_tbl := lw_at lw_m1 110 rfl
theorem q283 : (Jvm.Cond.fieldLink "SpendHouse$Code" (15 : Nat) "SpendHouse$Code" "size" "I") ∈ lw_all := lw_g (lw_at lw_m1 111 rfl) rfl
theorem q284 : (Jvm.Cond.fieldLinkNest "SpendHouse$Machine" (88 : Nat) "SpendHouse$Code" "size" "I" "SpendHouse") ∈ lw_tbl := lw_at lw_m1 112 rfl
theorem q285 : (Jvm.Cond.fieldLinkNest "SpendHouse" (200 : Nat) "SpendHouse$Code" "size" "I" "SpendHouse") ∈ lw_tbl := lw_at lw_m1 113 rfl
theorem q286 : (Jvm.Cond.fieldLink "SpendHouse$Code" (23 : Nat) "SpendHouse$Code" "ops" "I") ∈ lw_all := lw_g (lw_at lw_m1 114 rfl) rfl
theorem q287 : (Jvm.Cond.fieldLinkNest "SpendHouse$Multi" (51 : Nat) "SpendHouse$Code" "ops" "I" "SpendHouse") ∈ lw_tbl := lw_at lw_m1 115 rfl
theorem q288 : (Jvm.Cond.fieldLinkNest "SpendHouse" (203 : Nat) "SpendHouse$Code" "ops" "I" "SpendHouse") ∈ lw_tbl := lw_at lw_m1 116 rfl
theorem q289 : (Jvm.Cond.fieldLink "SpendHouse$Code" (26 : Nat) "SpendHouse$Code" "endsWithOp" "Z") ∈ lw_all := lw_g (lw_at lw_m1 117 rfl) rfl
theorem q290 : (Jvm.Cond.fieldLinkNest "SpendHouse" (206 : Nat) "SpendHouse$Code" "endsWithOp" "Z" "SpendHouse") ∈ lw_tbl := lw_at lw_m1 118 rfl
theorem q291 : (Jvm.Cond.laysFinal "SpendHouse$Code" "SpendHouse$Code" "bytes" "[B") ∈ lw_all := lw_g (lw_at lw_m1 119 rfl) rfl
theorem q293 : (Jvm.Cond.lays "SpendHouse$Code" "SpendHouse$Code" "size" "I") ∈ lw_all := lw_g (lw_at lw_m1 121 rfl) rfl
theorem q295 : (Jvm.Cond.lays "SpendHouse$Code" "SpendHouse$Code" "ops" "I") ∈ lw_all := lw_g (lw_at lw_m1 123 rfl) rfl
theorem q297 : (Jvm.Cond.lays "SpendHouse$Code" "SpendHouse$Code" "endsWithOp" "Z") ∈ lw_all := lw_g (lw_at lw_m1 125 rfl) rfl
theorem q299 : (Jvm.Cond.superclass "SpendHouse$Code" "java/lang/Object") ∈ lw_all := lw_g (lw_at lw_m1 127 rfl) rfl
theorem q300 : (Jvm.Cond.arrayClass Jvm.ClassFile.FieldType.boolean) ∈ lw_all := lw_g (lw_at lw_m1 128 rfl) rfl
theorem q301 : (Jvm.Cond.stringRef "SpendHouse" (46 : Nat) "") ∈ lw_tbl := lw_at lw_m1 129 rfl
theorem q302 : (Jvm.Cond.methodLink "SpendHouse" (56 : Nat) ({ cls := "SpendHouse", name := "rowOf", desc := "(I)[LSpendHouse$Item;" } : Jvm.MethodName)) ∈ lw_all := lw_g (lw_at lw_m1 130 rfl) rfl
theorem q303 : (Jvm.Cond.static ({ cls := "SpendHouse", name := "rowOf", desc := "(I)[LSpendHouse$Item;" } : Jvm.MethodName)) ∈ lw_all := lw_g (lw_at lw_m1 131 rfl) rfl
theorem q304 : (Jvm.Cond.code ({ cls := "SpendHouse", name := "rowOf", desc := "(I)[LSpendHouse$Item;" } : Jvm.MethodName) prog_1_method_30_code (3 : Nat) (Option.some (Jvm.ClassFile.FieldType.array (Jvm.ClassFile.FieldType.object "SpendHouse$Item")))) ∈ lw_all := lw_g (lw_at lw_m1 132 rfl) rfl
theorem q305 : (Jvm.Cond.classLink "SpendHouse" (292 : Nat) "SpendHouse$Item") ∈ lw_all := lw_g (lw_at lw_m1 133 rfl) rfl
theorem q306 : (Jvm.Cond.arrayOver (Jvm.ClassFile.FieldType.object "SpendHouse$Item")) ∈ lw_tbl := lw_at lw_m1 134 rfl
theorem q307 : (Jvm.Cond.instantiable "SpendHouse$Item" (2 : Nat)) ∈ lw_all := lw_g (lw_at lw_m1 135 rfl) rfl
theorem q308 : (Jvm.Cond.methodLinkNest "SpendHouse" (294 : Nat) ({ cls := "SpendHouse$Item", name := "<init>", desc := "()V" } : Jvm.MethodName) "SpendHouse") ∈ lw_tbl := lw_at lw_m1 136 rfl
theorem q309 : (Jvm.Cond.instanceMethod ({ cls := "SpendHouse$Item", name := "<init>", desc := "()V" } : Jvm.MethodName)) ∈ lw_all := lw_g (lw_at lw_m1 137 rfl) rfl
theorem q310 : (Jvm.Cond.code ({ cls := "SpendHouse$Item", name := "<init>", desc := "()V" } : Jvm.MethodName) prog_7_method_1_code (1 : Nat) (Option.none : Option Jvm.ClassFile.FieldType)) ∈ lw_all := lw_g (lw_at lw_m1 138 rfl) rfl
theorem q311 : (Jvm.Cond.methodLink "SpendHouse$Item" (3 : Nat) ({ cls := "java/lang/Object", name := "<init>", desc := "()V" } : Jvm.MethodName)) ∈ lw_all := lw_g (lw_at lw_m1 139 rfl) rfl
theorem q312 : (Jvm.Cond.fieldLink "SpendHouse$Item" (9 : Nat) "SpendHouse$Item" "bytes" "[B") ∈ lw_all := lw_g (lw_at lw_m1 140 rfl) rfl
theorem q313 : (Jvm.Cond.fieldLinkNest "SpendHouse$Machine" (119 : Nat) "SpendHouse$Item" "bytes" "[B" "SpendHouse") ∈ lw_tbl := lw_at lw_m1 141 rfl
theorem q314 : (Jvm.Cond.fieldLinkNest "SpendHouse" (325 : Nat) "SpendHouse$Item" "bytes" "[B" "SpendHouse") ∈ lw_tbl := lw_at lw_m1 142 rfl
theorem q315 : (Jvm.Cond.fieldLink "SpendHouse$Item" (15 : Nat) "SpendHouse$Item" "size" "I") ∈ lw_all := lw_g (lw_at lw_m1 143 rfl) rfl
theorem q316 : (Jvm.Cond.fieldLinkNest "SpendHouse$Machine" (44 : Nat) "SpendHouse$Item" "size" "I" "SpendHouse") ∈ lw_tbl := lw_at lw_m1 144 rfl
theorem q317 : (Jvm.Cond.fieldLinkNest "SpendHouse" (309 : Nat) "SpendHouse$Item" "size" "I" "SpendHouse") ∈ lw_tbl := lw_at lw_m1 145 rfl
theorem q318 : (Jvm.Cond.laysFinal "SpendHouse$Item" "SpendHouse$Item" "bytes" "[B") ∈ lw_all := lw_g (lw_at lw_m1 146 rfl) rfl
theorem q320 : (Jvm.Cond.lays "SpendHouse$Item" "SpendHouse$Item" "size" "I") ∈ lw_all := lw_g (lw_at lw_m1 148 rfl) rfl
theorem q322 : (Jvm.Cond.superclass "SpendHouse$Item" "java/lang/Object") ∈ lw_all := lw_g (lw_at lw_m1 150 rfl) rfl
theorem q323 : (Jvm.Cond.classLink "SpendHouse" (64 : Nat) "SpendHouse$Ways") ∈ lw_all := lw_g (lw_at lw_m1 151 rfl) rfl
theorem q324 : (Jvm.Cond.instantiable "SpendHouse$Ways" (2 : Nat)) ∈ lw_all := lw_g (lw_at lw_m1 152 rfl) rfl
theorem q325 : (Jvm.Cond.methodLinkNest "SpendHouse" (66 : Nat) ({ cls := "SpendHouse$Ways", name := "<init>", desc := "()V" } : Jvm.MethodName) "SpendHouse") ∈ lw_tbl := lw_at lw_m1 153 rfl
theorem q326 : (Jvm.Cond.instanceMethod ({ cls := "SpendHouse$Ways", name := "<init>", desc := "()V" } : Jvm.MethodName)) ∈ lw_all := lw_g (lw_at lw_m1 154 rfl) rfl
theorem q327 : (Jvm.Cond.code ({ cls := "SpendHouse$Ways", name := "<init>", desc := "()V" } : Jvm.MethodName) prog_20_method_1_code (1 : Nat) (Option.none : Option Jvm.ClassFile.FieldType)) ∈ lw_all := lw_g (lw_at lw_m1 155 rfl) rfl
theorem q328 : (Jvm.Cond.methodLink "SpendHouse$Ways" (3 : Nat) ({ cls := "java/lang/Object", name := "<init>", desc := "()V" } : Jvm.MethodName)) ∈ lw_all := lw_g (lw_at lw_m1 156 rfl) rfl
theorem q329 : (Jvm.Cond.classLink "SpendHouse$Ways" (9 : Nat) "SpendHouse$Way") ∈ lw_all := lw_g (lw_at lw_m1 157 rfl) rfl
theorem q330 : (Jvm.Cond.arrayOver (Jvm.ClassFile.FieldType.object "SpendHouse$Way")) ∈ lw_tbl := lw_at lw_m1 158 rfl
theorem q331 : (Jvm.Cond.fieldLink "SpendHouse$Ways" (11 : Nat) "SpendHouse$Ways" "all" "[LSpendHouse$Way;") ∈ lw_all := lw_g (lw_at lw_m1 159 rfl) rfl
theorem q332 : (Jvm.Cond.fieldLink "SpendHouse$Ways" (17 : Nat) "SpendHouse$Ways" "used" "I") ∈ lw_all := lw_g (lw_at lw_m1 160 rfl) rfl
theorem q333 : (Jvm.Cond.fieldLinkNest "SpendHouse" (330 : Nat) "SpendHouse$Ways" "used" "I" "SpendHouse") ∈ lw_tbl := lw_at lw_m1 161 rfl
theorem q334 : (Jvm.Cond.laysFinal "SpendHouse$Ways" "SpendHouse$Ways" "all" "[LSpendHouse$Way;") ∈ lw_all := lw_g (lw_at lw_m1 162 rfl) rfl
theorem q336 : (Jvm.Cond.lays "SpendHouse$Ways" "SpendHouse$Ways" "used" "I") ∈ lw_all := lw_g (lw_at lw_m1 164 rfl) rfl
theorem q338 : (Jvm.Cond.superclass "SpendHouse$Ways" "java/lang/Object") ∈ lw_all := lw_g (lw_at lw_m1 166 rfl) rfl
theorem q339 : (Jvm.Cond.classLink "SpendHouse" (71 : Nat) "SpendHouse$Machine") ∈ lw_all := lw_g (lw_at lw_m1 167 rfl) rfl
theorem q340 : (Jvm.Cond.instantiable "SpendHouse$Machine" (11 : Nat)) ∈ lw_all := lw_g (lw_at lw_m1 168 rfl) rfl
theorem q341 : (Jvm.Cond.methodLinkNest "SpendHouse" (73 : Nat) ({ cls := "SpendHouse$Machine", name := "<init>", desc := "(LSpendHouse;)V" } : Jvm.MethodName) "SpendHouse") ∈ lw_tbl := lw_at lw_m1 169 rfl
theorem q342 : (Jvm.Cond.instanceMethod ({ cls := "SpendHouse$Machine", name := "<init>", desc := "(LSpendHouse;)V" } : Jvm.MethodName)) ∈ lw_all := lw_g (lw_at lw_m1 170 rfl) rfl
theorem q343 : (Jvm.Cond.code ({ cls := "SpendHouse$Machine", name := "<init>", desc := "(LSpendHouse;)V" } : Jvm.MethodName) prog_11_method_1_code (2 : Nat) (Option.none : Option Jvm.ClassFile.FieldType)) ∈ lw_all := lw_g (lw_at lw_m1 171 rfl) rfl
theorem q344 : (Jvm.Cond.methodLink "SpendHouse$Machine" (9 : Nat) ({ cls := "java/lang/Object", name := "<init>", desc := "()V" } : Jvm.MethodName)) ∈ lw_all := lw_g (lw_at lw_m1 172 rfl) rfl
theorem q345 : (Jvm.Cond.methodLinkNest "SpendHouse$Machine" (15 : Nat) ({ cls := "SpendHouse", name := "rowOf", desc := "(I)[LSpendHouse$Item;" } : Jvm.MethodName) "SpendHouse") ∈ lw_tbl := lw_at lw_m1 173 rfl
theorem q346 : (Jvm.Cond.classLink "SpendHouse$Machine" (30 : Nat) "SpendHouse$Item") ∈ lw_all := lw_g (lw_at lw_m1 174 rfl) rfl
theorem q347 : (Jvm.Cond.methodLinkNest "SpendHouse$Machine" (32 : Nat) ({ cls := "SpendHouse$Item", name := "<init>", desc := "()V" } : Jvm.MethodName) "SpendHouse") ∈ lw_tbl := lw_at lw_m1 175 rfl
theorem q348 : (Jvm.Cond.fieldLink "SpendHouse$Machine" (19 : Nat) "SpendHouse$Machine" "items" "[LSpendHouse$Item;") ∈ lw_all := lw_g (lw_at lw_m1 176 rfl) rfl
theorem q349 : (Jvm.Cond.fieldLink "SpendHouse$Machine" (23 : Nat) "SpendHouse$Machine" "others" "[LSpendHouse$Item;") ∈ lw_all := lw_g (lw_at lw_m1 177 rfl) rfl
theorem q350 : (Jvm.Cond.fieldLink "SpendHouse$Machine" (26 : Nat) "SpendHouse$Machine" "runs" "[Z") ∈ lw_all := lw_g (lw_at lw_m1 178 rfl) rfl
theorem q351 : (Jvm.Cond.fieldLink "SpendHouse$Machine" (33 : Nat) "SpendHouse$Machine" "spare" "LSpendHouse$Item;") ∈ lw_all := lw_g (lw_at lw_m1 179 rfl) rfl
theorem q352 : (Jvm.Cond.fieldLink "SpendHouse$Machine" (37 : Nat) "SpendHouse$Machine" "many" "I") ∈ lw_all := lw_g (lw_at lw_m1 180 rfl) rfl
theorem q353 : (Jvm.Cond.fieldLink "SpendHouse$Machine" (70 : Nat) "SpendHouse$Machine" "aside" "I") ∈ lw_all := lw_g (lw_at lw_m1 181 rfl) rfl
theorem q354 : (Jvm.Cond.fieldLink "SpendHouse$Machine" (55 : Nat) "SpendHouse$Machine" "open" "I") ∈ lw_all := lw_g (lw_at lw_m1 182 rfl) rfl
theorem q355 : (Jvm.Cond.fieldLink "SpendHouse$Machine" (73 : Nat) "SpendHouse$Machine" "at" "I") ∈ lw_all := lw_g (lw_at lw_m1 183 rfl) rfl
theorem q356 : (Jvm.Cond.fieldLinkNest "SpendHouse" (350 : Nat) "SpendHouse$Machine" "at" "I" "SpendHouse") ∈ lw_tbl := lw_at lw_m1 184 rfl
theorem q357 : (Jvm.Cond.fieldLink "SpendHouse$Machine" (41 : Nat) "SpendHouse$Machine" "verdict" "I") ∈ lw_all := lw_g (lw_at lw_m1 185 rfl) rfl
theorem q358 : (Jvm.Cond.fieldLink "SpendHouse$Machine" (78 : Nat) "SpendHouse$Machine" "most" "I") ∈ lw_all := lw_g (lw_at lw_m1 186 rfl) rfl
theorem q359 : (Jvm.Cond.fieldLinkNest "SpendHouse" (353 : Nat) "SpendHouse$Machine" "most" "I" "SpendHouse") ∈ lw_tbl := lw_at lw_m1 187 rfl
theorem q360 : (Jvm.Cond.fieldLink "SpendHouse$Machine" (3 : Nat) "SpendHouse$Machine" "this$0" "LSpendHouse;") ∈ lw_all := lw_g (lw_at lw_m1 188 rfl) rfl
theorem q361 : (Jvm.Cond.lays "SpendHouse$Machine" "SpendHouse$Machine" "items" "[LSpendHouse$Item;") ∈ lw_all := lw_g (lw_at lw_m1 189 rfl) rfl
theorem q363 : (Jvm.Cond.laysFinal "SpendHouse$Machine" "SpendHouse$Machine" "others" "[LSpendHouse$Item;") ∈ lw_all := lw_g (lw_at lw_m1 191 rfl) rfl
theorem q365 : (Jvm.Cond.laysFinal "SpendHouse$Machine" "SpendHouse$Machine" "runs" "[Z") ∈ lw_all := lw_g (lw_at lw_m1 193 rfl) rfl
theorem q367 : (Jvm.Cond.laysFinal "SpendHouse$Machine" "SpendHouse$Machine" "spare" "LSpendHouse$Item;") ∈ lw_all := lw_g (lw_at lw_m1 195 rfl) rfl
theorem q369 : (Jvm.Cond.lays "SpendHouse$Machine" "SpendHouse$Machine" "many" "I") ∈ lw_all := lw_g (lw_at lw_m1 197 rfl) rfl
theorem q371 : (Jvm.Cond.lays "SpendHouse$Machine" "SpendHouse$Machine" "aside" "I") ∈ lw_all := lw_g (lw_at lw_m1 199 rfl) rfl
theorem q373 : (Jvm.Cond.lays "SpendHouse$Machine" "SpendHouse$Machine" "open" "I") ∈ lw_all := lw_g (lw_at lw_m1 201 rfl) rfl
theorem q375 : (Jvm.Cond.lays "SpendHouse$Machine" "SpendHouse$Machine" "at" "I") ∈ lw_all := lw_g (lw_at lw_m1 203 rfl) rfl
theorem q377 : (Jvm.Cond.lays "SpendHouse$Machine" "SpendHouse$Machine" "verdict" "I") ∈ lw_all := lw_g (lw_at lw_m1 205 rfl) rfl
theorem q379 : (Jvm.Cond.lays "SpendHouse$Machine" "SpendHouse$Machine" "most" "I") ∈ lw_all := lw_g (lw_at lw_m1 207 rfl) rfl
theorem q381 : (Jvm.Cond.laysFinal "SpendHouse$Machine" "SpendHouse$Machine" "this$0" "LSpendHouse;") ∈ lw_all := lw_g (lw_at lw_m1 209 rfl) rfl
theorem q383 : (Jvm.Cond.superclass "SpendHouse$Machine" "java/lang/Object") ∈ lw_all := lw_g (lw_at lw_m1 211 rfl) rfl
theorem q384 : (Jvm.Cond.methodLink "SpendHouse" (89 : Nat) ({ cls := "SpendHouse$Hashes", name := "sha", desc := "([BI[B)V" } : Jvm.MethodName)) ∈ lw_all := lw_g (lw_at lw_m1 212 rfl) rfl
theorem q385 : (Jvm.Cond.instanceMethod ({ cls := "SpendHouse$Hashes", name := "sha", desc := "([BI[B)V" } : Jvm.MethodName)) ∈ lw_all := lw_g (lw_at lw_m1 213 rfl) rfl
theorem q386 : (Jvm.Cond.selects "SpendHouse$Hashes" ({ cls := "SpendHouse$Hashes", name := "sha", desc := "([BI[B)V" } : Jvm.MethodName) ({ cls := "SpendHouse$Hashes", name := "sha", desc := "([BI[B)V" } : Jvm.MethodName)) ∈ lw_all := lw_g (lw_at lw_m1 214 rfl) rfl
theorem q387 : (Jvm.Cond.code ({ cls := "SpendHouse$Hashes", name := "sha", desc := "([BI[B)V" } : Jvm.MethodName) prog_5_method_14_code (5 : Nat) (Option.none : Option Jvm.ClassFile.FieldType)) ∈ lw_all := lw_g (lw_at lw_m1 215 rfl) rfl
theorem q388 : (Jvm.Cond.methodLink "SpendHouse$Hashes" (110 : Nat) ({ cls := "SpendHouse$Hashes", name := "take", desc := "([BIZ)V" } : Jvm.MethodName)) ∈ lw_all := lw_g (lw_at lw_m1 216 rfl) rfl
theorem q389 : (Jvm.Cond.privateMethod ({ cls := "SpendHouse$Hashes", name := "take", desc := "([BIZ)V" } : Jvm.MethodName)) ∈ lw_tbl := lw_at lw_m1 217 rfl
theorem q390 : (Jvm.Cond.instanceMethod ({ cls := "SpendHouse$Hashes", name := "take", desc := "([BIZ)V" } : Jvm.MethodName)) ∈ lw_all := lw_g (lw_at lw_m1 218 rfl) rfl
theorem q391 : (Jvm.Cond.code ({ cls := "SpendHouse$Hashes", name := "take", desc := "([BIZ)V" } : Jvm.MethodName) prog_5_method_7_code (10 : Nat) (Option.none : Option Jvm.ClassFile.FieldType)) ∈ lw_all := lw_g (lw_at lw_m1 219 rfl) rfl
theorem q392 : (Jvm.Cond.constantLong "SpendHouse$Hashes" (60 : Nat) (8 : Int64)) ∈ lw_all := lw_g (lw_at lw_m1 220 rfl) rfl
theorem q393 : (Jvm.Cond.methodLink "SpendHouse$Hashes" (62 : Nat) ({ cls := "SpendHouse$Hashes", name := "turnSha", desc := "()V" } : Jvm.MethodName)) ∈ lw_all := lw_g (lw_at lw_m1 221 rfl) rfl
theorem q394 : (Jvm.Cond.privateMethod ({ cls := "SpendHouse$Hashes", name := "turnSha", desc := "()V" } : Jvm.MethodName)) ∈ lw_tbl := lw_at lw_m1 222 rfl
theorem q395 : (Jvm.Cond.instanceMethod ({ cls := "SpendHouse$Hashes", name := "turnSha", desc := "()V" } : Jvm.MethodName)) ∈ lw_all := lw_g (lw_at lw_m1 223 rfl) rfl
theorem q396 : (Jvm.Cond.code ({ cls := "SpendHouse$Hashes", name := "turnSha", desc := "()V" } : Jvm.MethodName) prog_5_method_8_code (12 : Nat) (Option.none : Option Jvm.ClassFile.FieldType)) ∈ lw_all := lw_g (lw_at lw_m1 224 rfl) rfl
theorem q397 : (Jvm.Cond.methodLink "SpendHouse$Hashes" (68 : Nat) ({ cls := "SpendHouse$Hashes", name := "right", desc := "(II)I" } : Jvm.MethodName)) ∈ lw_all := lw_g (lw_at lw_m1 225 rfl) rfl
theorem q398 : (Jvm.Cond.static ({ cls := "SpendHouse$Hashes", name := "right", desc := "(II)I" } : Jvm.MethodName)) ∈ lw_all := lw_g (lw_at lw_m1 226 rfl) rfl
theorem q399 : (Jvm.Cond.code ({ cls := "SpendHouse$Hashes", name := "right", desc := "(II)I" } : Jvm.MethodName) prog_5_method_5_code (2 : Nat) (Option.some Jvm.ClassFile.FieldType.int)) ∈ lw_all := lw_g (lw_at lw_m1 227 rfl) rfl
theorem q400 : (Jvm.Cond.methodLink "SpendHouse$Hashes" (65 : Nat) ({ cls := "SpendHouse$Hashes", name := "turnRipemd", desc := "()V" } : Jvm.MethodName)) ∈ lw_all := lw_g (lw_at lw_m1 228 rfl) rfl
theorem q401 : (Jvm.Cond.privateMethod ({ cls := "SpendHouse$Hashes", name := "turnRipemd", desc := "()V" } : Jvm.MethodName)) ∈ lw_tbl := lw_at lw_m1 229 rfl
theorem q402 : (Jvm.Cond.instanceMethod ({ cls := "SpendHouse$Hashes", name := "turnRipemd", desc := "()V" } : Jvm.MethodName)) ∈ lw_all := lw_g (lw_at lw_m1 230 rfl) rfl
theorem q403 : (Jvm.Cond.code ({ cls := "SpendHouse$Hashes", name := "turnRipemd", desc := "()V" } : Jvm.MethodName) prog_5_method_13_code (2 : Nat) (Option.none : Option Jvm.ClassFile.FieldType)) ∈ lw_all := lw_g (lw_at lw_m1 231 rfl) rfl
theorem q404 : (Jvm.Cond.methodLink "SpendHouse$Hashes" (106 : Nat) ({ cls := "SpendHouse$Hashes", name := "goRound", desc := "([IIZ)V" } : Jvm.MethodName)) ∈ lw_all := lw_g (lw_at lw_m1 232 rfl) rfl
theorem q405 : (Jvm.Cond.privateMethod ({ cls := "SpendHouse$Hashes", name := "goRound", desc := "([IIZ)V" } : Jvm.MethodName)) ∈ lw_tbl := lw_at lw_m1 233 rfl
theorem q406 : (Jvm.Cond.instanceMethod ({ cls := "SpendHouse$Hashes", name := "goRound", desc := "([IIZ)V" } : Jvm.MethodName)) ∈ lw_all := lw_g (lw_at lw_m1 234 rfl) rfl
theorem q407 : (Jvm.Cond.code ({ cls := "SpendHouse$Hashes", name := "goRound", desc := "([IIZ)V" } : Jvm.MethodName) prog_5_method_12_code (9 : Nat) (Option.none : Option Jvm.ClassFile.FieldType)) ∈ lw_all := lw_g (lw_at lw_m1 235 rfl) rfl
theorem q408 : (Jvm.Cond.stringRef "SpendHouse$Hashes" (84 : Nat) "0123456789abcdef74d1a6f3c0952eb83ae49f812706db5c19ba08c4d37fe56240597c2ae138b6fd") ∈ lw_tbl := lw_at lw_m1 236 rfl
theorem q409 : (Jvm.Cond.stringRef "SpendHouse$Hashes" (86 : Nat) "5e7092b4d6f81a3c6b370d5aef8c4912f5137e69b8c2a04d86413bf05c2d97aecfa4158762de039b") ∈ lw_tbl := lw_at lw_m1 237 rfl
theorem q410 : (Jvm.Cond.methodLink "SpendHouse$Hashes" (88 : Nat) ({ cls := "SpendHouse$Hashes", name := "at", desc := "(Ljava/lang/String;I)I" } : Jvm.MethodName)) ∈ lw_all := lw_g (lw_at lw_m1 238 rfl) rfl
theorem q411 : (Jvm.Cond.static ({ cls := "SpendHouse$Hashes", name := "at", desc := "(Ljava/lang/String;I)I" } : Jvm.MethodName)) ∈ lw_all := lw_g (lw_at lw_m1 239 rfl) rfl
theorem q412 : (Jvm.Cond.code ({ cls := "SpendHouse$Hashes", name := "at", desc := "(Ljava/lang/String;I)I" } : Jvm.MethodName) prog_5_method_11_code (3 : Nat) (Option.some Jvm.ClassFile.FieldType.int)) ∈ lw_all := lw_g (lw_at lw_m2 0 rfl) rfl
theorem q413 : (Jvm.Cond.methodLink "SpendHouse$Hashes" (78 : Nat) ({ cls := "java/lang/String", name := "charAt", desc := "(I)C" } : Jvm.MethodName)) ∈ lw_all := lw_g (lw_at lw_m2 1 rfl) rfl
theorem q414 : (Jvm.Cond.instanceMethod ({ cls := "java/lang/String", name := "charAt", desc := "(I)C" } : Jvm.MethodName)) ∈ lw_all := lw_g (lw_at lw_m2 2 rfl) rfl
theorem q415 : (Jvm.Cond.selects "java/lang/String" ({ cls := "java/lang/String", name := "charAt", desc := "(I)C" } : Jvm.MethodName) ({ cls := "java/lang/String", name := "charAt", desc := "(I)C" } : Jvm.MethodName)) ∈ lw_all := lw_g (lw_at lw_m2 3 rfl) rfl
theorem q416 : (Jvm.Cond.code ({ cls := "java/lang/String", name := "charAt", desc := "(I)C" } : Jvm.MethodName) prog_31_method_56_code (2 : Nat) (Option.some Jvm.ClassFile.FieldType.char)) ∈ lw_all := lw_g (lw_at lw_m2 4 rfl) rfl
theorem q417 : (Jvm.Cond.methodLink "java/lang/String" (492 : Nat) ({ cls := "java/lang/String", name := "isLatin1", desc := "()Z" } : Jvm.MethodName)) ∈ lw_all := lw_g (lw_at lw_m2 5 rfl) rfl
theorem q418 : (Jvm.Cond.instanceMethod ({ cls := "java/lang/String", name := "isLatin1", desc := "()Z" } : Jvm.MethodName)) ∈ lw_all := lw_g (lw_at lw_m2 6 rfl) rfl
theorem q419 : (Jvm.Cond.selects "java/lang/String" ({ cls := "java/lang/String", name := "isLatin1", desc := "()Z" } : Jvm.MethodName) ({ cls := "java/lang/String", name := "isLatin1", desc := "()Z" } : Jvm.MethodName)) ∈ lw_all := lw_g (lw_at lw_m2 7 rfl) rfl
theorem q420 : (Jvm.Cond.code ({ cls := "java/lang/String", name := "isLatin1", desc := "()Z" } : Jvm.MethodName) prog_31_method_154_code (1 : Nat) (Option.some Jvm.ClassFile.FieldType.boolean)) ∈ lw_all := lw_g (lw_at lw_m2 8 rfl) rfl
theorem q421 : (Jvm.Cond.fieldLink "java/lang/String" (38 : Nat) "java/lang/String" "COMPACT_STRINGS" "Z") ∈ lw_all := lw_g (lw_at lw_m2 9 rfl) rfl
theorem q422 : (Jvm.Cond.laysStatic "java/lang/String" "COMPACT_STRINGS" "Z") ∈ lw_tbl := lw_at lw_m2 10 rfl
theorem q423 : (Jvm.Cond.methodLink "java/lang/String" (495 : Nat) ({ cls := "java/lang/StringLatin1", name := "charAt", desc := "([BI)C" } : Jvm.MethodName)) ∈ lw_all := lw_g (lw_at lw_m2 11 rfl) rfl
theorem q424 : (Jvm.Cond.static ({ cls := "java/lang/StringLatin1", name := "charAt", desc := "([BI)C" } : Jvm.MethodName)) ∈ lw_all := lw_g (lw_at lw_m2 12 rfl) rfl
theorem q425 : (Jvm.Cond.code ({ cls := "java/lang/StringLatin1", name := "charAt", desc := "([BI)C" } : Jvm.MethodName) prog_33_method_2_code (2 : Nat) (Option.some Jvm.ClassFile.FieldType.char)) ∈ lw_all := lw_g (lw_at lw_m2 13 rfl) rfl
theorem q426 : (Jvm.Cond.methodLink "java/lang/StringLatin1" (9 : Nat) ({ cls := "java/lang/String", name := "checkIndex", desc := "(II)V" } : Jvm.MethodName)) ∈ lw_all := lw_g (lw_at lw_m2 14 rfl) rfl
theorem q427 : (Jvm.Cond.static ({ cls := "java/lang/String", name := "checkIndex", desc := "(II)V" } : Jvm.MethodName)) ∈ lw_all := lw_g (lw_at lw_m2 15 rfl) rfl
theorem q428 : (Jvm.Cond.code ({ cls := "java/lang/String", name := "checkIndex", desc := "(II)V" } : Jvm.MethodName) prog_31_method_155_code (2 : Nat) (Option.none : Option Jvm.ClassFile.FieldType)) ∈ lw_all := lw_g (lw_at lw_m2 16 rfl) rfl
theorem q429 : (Jvm.Cond.fieldLink "java/lang/String" (1053 : Nat) "jdk/internal/util/Preconditions" "SIOOBE_FORMATTER" "Ljava/util/function/BiFunction;") ∈ lw_all := lw_g (lw_at lw_m2 17 rfl) rfl
theorem q430 : (Jvm.Cond.laysStatic "jdk/internal/util/Preconditions" "SIOOBE_FORMATTER" "Ljava/util/function/BiFunction;") ∈ lw_tbl := lw_at lw_m2 18 rfl
theorem q431 : (Jvm.Cond.methodLink "java/lang/String" (1059 : Nat) ({ cls := "jdk/internal/util/Preconditions", name := "checkIndex", desc := "(IILjava/util/function/BiFunction;)I" } : Jvm.MethodName)) ∈ lw_all := lw_g (lw_at lw_m2 19 rfl) rfl
theorem q432 : (Jvm.Cond.static ({ cls := "jdk/internal/util/Preconditions", name := "checkIndex", desc := "(IILjava/util/function/BiFunction;)I" } : Jvm.MethodName)) ∈ lw_all := lw_g (lw_at lw_m2 20 rfl) rfl
theorem q433 : (Jvm.Cond.code ({ cls := "jdk/internal/util/Preconditions", name := "checkIndex", desc := "(IILjava/util/function/BiFunction;)I" } : Jvm.MethodName) prog_41_method_11_code (3 : Nat) (Option.some Jvm.ClassFile.FieldType.int)) ∈ lw_all := lw_g (lw_at lw_m2 21 rfl) rfl
theorem q434 : (Jvm.Cond.methodLink "java/lang/String" (498 : Nat) ({ cls := "java/lang/StringUTF16", name := "charAt", desc := "([BI)C" } : Jvm.MethodName)) ∈ lw_all := lw_g (lw_at lw_m2 22 rfl) rfl
theorem q435 : (Jvm.Cond.static ({ cls := "java/lang/StringUTF16", name := "charAt", desc := "([BI)C" } : Jvm.MethodName)) ∈ lw_all := lw_g (lw_at lw_m2 23 rfl) rfl
theorem q436 : (Jvm.Cond.code ({ cls := "java/lang/StringUTF16", name := "charAt", desc := "([BI)C" } : Jvm.MethodName) prog_34_method_83_code (2 : Nat) (Option.some Jvm.ClassFile.FieldType.char)) ∈ lw_all := lw_g (lw_at lw_m2 24 rfl) rfl
theorem q437 : (Jvm.Cond.methodLink "java/lang/StringUTF16" (67 : Nat) ({ cls := "java/lang/StringUTF16", name := "checkIndex", desc := "(I[B)V" } : Jvm.MethodName)) ∈ lw_all := lw_g (lw_at lw_m2 25 rfl) rfl
theorem q438 : (Jvm.Cond.static ({ cls := "java/lang/StringUTF16", name := "checkIndex", desc := "(I[B)V" } : Jvm.MethodName)) ∈ lw_all := lw_g (lw_at lw_m2 26 rfl) rfl
theorem q439 : (Jvm.Cond.code ({ cls := "java/lang/StringUTF16", name := "checkIndex", desc := "(I[B)V" } : Jvm.MethodName) prog_34_method_91_code (2 : Nat) (Option.none : Option Jvm.ClassFile.FieldType)) ∈ lw_all := lw_g (lw_at lw_m2 27 rfl) rfl
theorem q440 : (Jvm.Cond.methodLink "java/lang/StringUTF16" (48 : Nat) ({ cls := "java/lang/StringUTF16", name := "length", desc := "([B)I" } : Jvm.MethodName)) ∈ lw_all := lw_g (lw_at lw_m2 28 rfl) rfl
theorem q441 : (Jvm.Cond.static ({ cls := "java/lang/StringUTF16", name := "length", desc := "([B)I" } : Jvm.MethodName)) ∈ lw_all := lw_g (lw_at lw_m2 29 rfl) rfl
theorem q442 : (Jvm.Cond.code ({ cls := "java/lang/StringUTF16", name := "length", desc := "([B)I" } : Jvm.MethodName) prog_34_method_6_code (1 : Nat) (Option.some Jvm.ClassFile.FieldType.int)) ∈ lw_all := lw_g (lw_at lw_m2 30 rfl) rfl
theorem q443 : (Jvm.Cond.methodLink "java/lang/StringUTF16" (414 : Nat) ({ cls := "java/lang/String", name := "checkIndex", desc := "(II)V" } : Jvm.MethodName)) ∈ lw_all := lw_g (lw_at lw_m2 31 rfl) rfl
theorem q444 : (Jvm.Cond.methodLink "java/lang/StringUTF16" (71 : Nat) ({ cls := "java/lang/StringUTF16", name := "getChar", desc := "([BI)C" } : Jvm.MethodName)) ∈ lw_all := lw_g (lw_at lw_m2 32 rfl) rfl
theorem q445 : (Jvm.Cond.static ({ cls := "java/lang/StringUTF16", name := "getChar", desc := "([BI)C" } : Jvm.MethodName)) ∈ lw_all := lw_g (lw_at lw_m2 33 rfl) rfl
theorem q446 : (Jvm.Cond.code ({ cls := "java/lang/StringUTF16", name := "getChar", desc := "([BI)C" } : Jvm.MethodName) prog_34_method_5_code (2 : Nat) (Option.some Jvm.ClassFile.FieldType.char)) ∈ lw_all := lw_g (lw_at lw_m2 34 rfl) rfl
theorem q447 : (Jvm.Cond.fieldLink "java/lang/StringUTF16" (44 : Nat) "java/lang/StringUTF16" "$assertionsDisabled" "Z") ∈ lw_all := lw_g (lw_at lw_m2 35 rfl) rfl
theorem q448 : (Jvm.Cond.laysStatic "java/lang/StringUTF16" "$assertionsDisabled" "Z") ∈ lw_tbl := lw_at lw_m2 36 rfl
theorem q449 : (Jvm.Cond.fieldLink "java/lang/StringUTF16" (59 : Nat) "java/lang/StringUTF16" "HI_BYTE_SHIFT" "I") ∈ lw_all := lw_g (lw_at lw_m2 37 rfl) rfl
theorem q450 : (Jvm.Cond.laysStatic "java/lang/StringUTF16" "HI_BYTE_SHIFT" "I") ∈ lw_tbl := lw_at lw_m2 38 rfl
theorem q451 : (Jvm.Cond.fieldLink "java/lang/StringUTF16" (63 : Nat) "java/lang/StringUTF16" "LO_BYTE_SHIFT" "I") ∈ lw_all := lw_g (lw_at lw_m2 39 rfl) rfl
theorem q452 : (Jvm.Cond.laysStatic "java/lang/StringUTF16" "LO_BYTE_SHIFT" "I") ∈ lw_tbl := lw_at lw_m2 40 rfl
theorem q453 : (Jvm.Cond.methodLink "SpendHouse$Hashes" (92 : Nat) ({ cls := "SpendHouse$Hashes", name := "mixed", desc := "(IIII)I" } : Jvm.MethodName)) ∈ lw_all := lw_g (lw_at lw_m2 41 rfl) rfl
theorem q454 : (Jvm.Cond.static ({ cls := "SpendHouse$Hashes", name := "mixed", desc := "(IIII)I" } : Jvm.MethodName)) ∈ lw_all := lw_g (lw_at lw_m2 42 rfl) rfl
theorem q455 : (Jvm.Cond.code ({ cls := "SpendHouse$Hashes", name := "mixed", desc := "(IIII)I" } : Jvm.MethodName) prog_5_method_9_code (4 : Nat) (Option.some Jvm.ClassFile.FieldType.int)) ∈ lw_all := lw_g (lw_at lw_m2 43 rfl) rfl
theorem q456 : (Jvm.Cond.methodLink "SpendHouse$Hashes" (96 : Nat) ({ cls := "SpendHouse$Hashes", name := "constant", desc := "(IZ)I" } : Jvm.MethodName)) ∈ lw_all := lw_g (lw_at lw_m2 44 rfl) rfl
theorem q457 : (Jvm.Cond.static ({ cls := "SpendHouse$Hashes", name := "constant", desc := "(IZ)I" } : Jvm.MethodName)) ∈ lw_all := lw_g (lw_at lw_m2 45 rfl) rfl
theorem q458 : (Jvm.Cond.code ({ cls := "SpendHouse$Hashes", name := "constant", desc := "(IZ)I" } : Jvm.MethodName) prog_5_method_10_code (2 : Nat) (Option.some Jvm.ClassFile.FieldType.int)) ∈ lw_all := lw_g (lw_at lw_m2 46 rfl) rfl
theorem q459 : (Jvm.Cond.constant "SpendHouse$Hashes" (70 : Nat) (1518500249 : Int32)) ∈ lw_all := lw_g (lw_at lw_m2 47 rfl) rfl
theorem q460 : (Jvm.Cond.constant "SpendHouse$Hashes" (71 : Nat) (2053994217 : Int32)) ∈ lw_all := lw_g (lw_at lw_m2 48 rfl) rfl
theorem q461 : (Jvm.Cond.constant "SpendHouse$Hashes" (72 : Nat) (1859775393 : Int32)) ∈ lw_all := lw_g (lw_at lw_m2 49 rfl) rfl
theorem q462 : (Jvm.Cond.constant "SpendHouse$Hashes" (73 : Nat) (1836072691 : Int32)) ∈ lw_all := lw_g (lw_at lw_m2 50 rfl) rfl
theorem q463 : (Jvm.Cond.constant "SpendHouse$Hashes" (74 : Nat) (-1894007588 : Int32)) ∈ lw_all := lw_g (lw_at lw_m2 51 rfl) rfl
theorem q464 : (Jvm.Cond.constant "SpendHouse$Hashes" (75 : Nat) (1548603684 : Int32)) ∈ lw_all := lw_g (lw_at lw_m2 52 rfl) rfl
theorem q465 : (Jvm.Cond.constant "SpendHouse$Hashes" (76 : Nat) (-1454113458 : Int32)) ∈ lw_all := lw_g (lw_at lw_m2 53 rfl) rfl
theorem q466 : (Jvm.Cond.constant "SpendHouse$Hashes" (77 : Nat) (1352829926 : Int32)) ∈ lw_all := lw_g (lw_at lw_m2 54 rfl) rfl
theorem q467 : (Jvm.Cond.stringRef "SpendHouse$Hashes" (100 : Nat) "befc5879bdef6798768db97f7cf9b7dcbd67e9dfe8d65c75bcefef989e56865c9f5b68dc5cdeb856") ∈ lw_tbl := lw_at lw_m2 55 rfl
theorem q468 : (Jvm.Cond.stringRef "SpendHouse$Hashes" (102 : Nat) "899bdff5778beec69df7c89b77c76fdb97fb866ecd5edd75f58bee6e69c9c5f885c9c5e68d65fdbb") ∈ lw_tbl := lw_at lw_m2 56 rfl
theorem q469 : (Jvm.Cond.methodLink "SpendHouse$Hashes" (104 : Nat) ({ cls := "SpendHouse$Hashes", name := "left", desc := "(II)I" } : Jvm.MethodName)) ∈ lw_all := lw_g (lw_at lw_m2 57 rfl) rfl
theorem q470 : (Jvm.Cond.static ({ cls := "SpendHouse$Hashes", name := "left", desc := "(II)I" } : Jvm.MethodName)) ∈ lw_all := lw_g (lw_at lw_m2 58 rfl) rfl
theorem q471 : (Jvm.Cond.code ({ cls := "SpendHouse$Hashes", name := "left", desc := "(II)I" } : Jvm.MethodName) prog_5_method_6_code (2 : Nat) (Option.some Jvm.ClassFile.FieldType.int)) ∈ lw_all := lw_g (lw_at lw_m2 59 rfl) rfl
theorem q472 : (Jvm.Cond.fieldLink "SpendHouse" (10 : Nat) "SpendHouse" "hashes" "LSpendHouse$Hashes;") ∈ lw_all := lw_g (lw_at lw_m2 60 rfl) rfl
theorem q473 : (Jvm.Cond.fieldLinkNest "SpendHouse$Image" (30 : Nat) "SpendHouse" "hashes" "LSpendHouse$Hashes;" "SpendHouse") ∈ lw_tbl := lw_at lw_m2 61 rfl
theorem q474 : (Jvm.Cond.fieldLinkNest "SpendHouse$Key" (41 : Nat) "SpendHouse" "hashes" "LSpendHouse$Hashes;" "SpendHouse") ∈ lw_tbl := lw_at lw_m2 62 rfl
theorem q475 : (Jvm.Cond.fieldLinkNest "SpendHouse$Machine" (142 : Nat) "SpendHouse" "hashes" "LSpendHouse$Hashes;" "SpendHouse") ∈ lw_tbl := lw_at lw_m2 63 rfl
theorem q476 : (Jvm.Cond.fieldLink "SpendHouse" (18 : Nat) "SpendHouse" "keys" "[[B") ∈ lw_all := lw_g (lw_at lw_m2 64 rfl) rfl
theorem q477 : (Jvm.Cond.fieldLinkNest "SpendHouse$Key" (31 : Nat) "SpendHouse" "keys" "[[B" "SpendHouse") ∈ lw_tbl := lw_at lw_m2 65 rfl
theorem q478 : (Jvm.Cond.fieldLinkNest "SpendHouse$Multi" (40 : Nat) "SpendHouse" "keys" "[[B" "SpendHouse") ∈ lw_tbl := lw_at lw_m2 66 rfl
theorem q479 : (Jvm.Cond.fieldLinkNest "SpendHouse$Machine" (169 : Nat) "SpendHouse" "keys" "[[B" "SpendHouse") ∈ lw_tbl := lw_at lw_m2 67 rfl
theorem q480 : (Jvm.Cond.fieldLink "SpendHouse" (21 : Nat) "SpendHouse" "secrets" "[[B") ∈ lw_all := lw_g (lw_at lw_m2 68 rfl) rfl
theorem q481 : (Jvm.Cond.fieldLinkNest "SpendHouse$Image" (38 : Nat) "SpendHouse" "secrets" "[[B" "SpendHouse") ∈ lw_tbl := lw_at lw_m2 69 rfl
theorem q482 : (Jvm.Cond.fieldLink "SpendHouse" (24 : Nat) "SpendHouse" "hasSignature" "[Z") ∈ lw_all := lw_g (lw_at lw_m2 70 rfl) rfl
theorem q483 : (Jvm.Cond.fieldLinkNest "SpendHouse$Key" (68 : Nat) "SpendHouse" "hasSignature" "[Z" "SpendHouse") ∈ lw_tbl := lw_at lw_m2 71 rfl
theorem q484 : (Jvm.Cond.fieldLinkNest "SpendHouse$Multi" (68 : Nat) "SpendHouse" "hasSignature" "[Z" "SpendHouse") ∈ lw_tbl := lw_at lw_m2 72 rfl
theorem q485 : (Jvm.Cond.fieldLinkNest "SpendHouse$Machine" (177 : Nat) "SpendHouse" "hasSignature" "[Z" "SpendHouse") ∈ lw_tbl := lw_at lw_m2 73 rfl
theorem q486 : (Jvm.Cond.fieldLink "SpendHouse" (28 : Nat) "SpendHouse" "hasSecret" "[Z") ∈ lw_all := lw_g (lw_at lw_m2 74 rfl) rfl
theorem q487 : (Jvm.Cond.fieldLinkNest "SpendHouse$Image" (77 : Nat) "SpendHouse" "hasSecret" "[Z" "SpendHouse") ∈ lw_tbl := lw_at lw_m2 75 rfl
theorem q488 : (Jvm.Cond.fieldLink "SpendHouse" (98 : Nat) "SpendHouse" "locktime" "I") ∈ lw_all := lw_g (lw_at lw_m2 76 rfl) rfl
theorem q489 : (Jvm.Cond.fieldLink "SpendHouse" (104 : Nat) "SpendHouse" "sequence" "I") ∈ lw_all := lw_g (lw_at lw_m2 77 rfl) rfl
theorem q490 : (Jvm.Cond.fieldLinkNest "SpendHouse$Reader" (22 : Nat) "SpendHouse" "tape" "[B" "SpendHouse") ∈ lw_tbl := lw_at lw_m2 78 rfl
theorem q491 : (Jvm.Cond.fieldLink "SpendHouse" (31 : Nat) "SpendHouse" "tape" "[B") ∈ lw_all := lw_g (lw_at lw_m2 79 rfl) rfl
theorem q492 : (Jvm.Cond.fieldLinkNest "SpendHouse$Reader" (19 : Nat) "SpendHouse" "taped" "I" "SpendHouse") ∈ lw_tbl := lw_at lw_m2 80 rfl
theorem q493 : (Jvm.Cond.fieldLink "SpendHouse" (133 : Nat) "SpendHouse" "taped" "I") ∈ lw_all := lw_g (lw_at lw_m2 81 rfl) rfl
theorem q494 : (Jvm.Cond.fieldLink "SpendHouse" (192 : Nat) "SpendHouse" "hand" "LSpendHouse$Node;") ∈ lw_all := lw_g (lw_at lw_m2 82 rfl) rfl
theorem q495 : (Jvm.Cond.fieldLink "SpendHouse" (196 : Nat) "SpendHouse" "meant" "LSpendHouse$Policy;") ∈ lw_all := lw_g (lw_at lw_m2 83 rfl) rfl
theorem q496 : (Jvm.Cond.fieldLink "SpendHouse" (38 : Nat) "SpendHouse" "script" "LSpendHouse$Code;") ∈ lw_all := lw_g (lw_at lw_m2 84 rfl) rfl
theorem q497 : (Jvm.Cond.fieldLink "SpendHouse" (42 : Nat) "SpendHouse" "times" "[I") ∈ lw_all := lw_g (lw_at lw_m2 85 rfl) rfl
theorem q498 : (Jvm.Cond.fieldLink "SpendHouse" (48 : Nat) "SpendHouse" "written" "Ljava/lang/String;") ∈ lw_all := lw_g (lw_at lw_m2 86 rfl) rfl
theorem q499 : (Jvm.Cond.fieldLink "SpendHouse" (229 : Nat) "SpendHouse" "twice" "Z") ∈ lw_all := lw_g (lw_at lw_m2 87 rfl) rfl
theorem q500 : (Jvm.Cond.fieldLink "SpendHouse" (144 : Nat) "SpendHouse" "fault" "I") ∈ lw_all := lw_g (lw_at lw_m2 88 rfl) rfl
theorem q501 : (Jvm.Cond.fieldLink "SpendHouse" (52 : Nat) "SpendHouse" "faultAt" "I") ∈ lw_all := lw_g (lw_at lw_m2 89 rfl) rfl
theorem q502 : (Jvm.Cond.fieldLink "SpendHouse" (60 : Nat) "SpendHouse" "witness" "[LSpendHouse$Item;") ∈ lw_all := lw_g (lw_at lw_m2 90 rfl) rfl
theorem q503 : (Jvm.Cond.fieldLinkNest "SpendHouse$Machine" (81 : Nat) "SpendHouse" "witness" "[LSpendHouse$Item;" "SpendHouse") ∈ lw_tbl := lw_at lw_m2 91 rfl
theorem q504 : (Jvm.Cond.fieldLink "SpendHouse" (67 : Nat) "SpendHouse" "ways" "LSpendHouse$Ways;") ∈ lw_all := lw_g (lw_at lw_m2 92 rfl) rfl
theorem q505 : (Jvm.Cond.fieldLinkNest "SpendHouse$Machine" (76 : Nat) "SpendHouse" "items" "I" "SpendHouse") ∈ lw_tbl := lw_at lw_m2 93 rfl
theorem q506 : (Jvm.Cond.fieldLink "SpendHouse" (232 : Nat) "SpendHouse" "items" "I") ∈ lw_all := lw_g (lw_at lw_m2 94 rfl) rfl
theorem q507 : (Jvm.Cond.fieldLink "SpendHouse" (76 : Nat) "SpendHouse" "machine" "LSpendHouse$Machine;") ∈ lw_all := lw_g (lw_at lw_m2 95 rfl) rfl
theorem q508 : (Jvm.Cond.fieldLink "SpendHouse" (80 : Nat) "SpendHouse" "ran" "I") ∈ lw_all := lw_g (lw_at lw_m2 96 rfl) rfl
theorem q509 : (Jvm.Cond.fieldLink "SpendHouse" (83 : Nat) "SpendHouse" "ranAt" "I") ∈ lw_all := lw_g (lw_at lw_m2 97 rfl) rfl
theorem q510 : (Jvm.Cond.fieldLink "SpendHouse" (356 : Nat) "SpendHouse" "ranMost" "I") ∈ lw_all := lw_g (lw_at lw_m2 98 rfl) rfl
theorem q511 : (Jvm.Cond.fieldLink "SpendHouse" (86 : Nat) "SpendHouse" "told" "[B") ∈ lw_all := lw_g (lw_at lw_m2 99 rfl) rfl
theorem q512 : (Jvm.Cond.laysFinal "SpendHouse" "SpendHouse" "hashes" "LSpendHouse$Hashes;") ∈ lw_all := lw_g (lw_at lw_m2 100 rfl) rfl
theorem q514 : (Jvm.Cond.laysFinal "SpendHouse" "SpendHouse" "keys" "[[B") ∈ lw_all := lw_g (lw_at lw_m2 102 rfl) rfl
theorem q516 : (Jvm.Cond.laysFinal "SpendHouse" "SpendHouse" "secrets" "[[B") ∈ lw_all := lw_g (lw_at lw_m2 104 rfl) rfl
theorem q518 : (Jvm.Cond.laysFinal "SpendHouse" "SpendHouse" "hasSignature" "[Z") ∈ lw_all := lw_g (lw_at lw_m2 106 rfl) rfl
theorem q520 : (Jvm.Cond.laysFinal "SpendHouse" "SpendHouse" "hasSecret" "[Z") ∈ lw_all := lw_g (lw_at lw_m2 108 rfl) rfl
theorem q522 : (Jvm.Cond.lays "SpendHouse" "SpendHouse" "locktime" "I") ∈ lw_all := lw_g (lw_at lw_m2 110 rfl) rfl
theorem q524 : (Jvm.Cond.lays "SpendHouse" "SpendHouse" "sequence" "I") ∈ lw_all := lw_g (lw_at lw_m2 112 rfl) rfl
theorem q526 : (Jvm.Cond.laysFinal "SpendHouse" "SpendHouse" "tape" "[B") ∈ lw_all := lw_g (lw_at lw_m2 114 rfl) rfl
theorem q528 : (Jvm.Cond.lays "SpendHouse" "SpendHouse" "taped" "I") ∈ lw_all := lw_g (lw_at lw_m2 116 rfl) rfl
theorem q530 : (Jvm.Cond.lays "SpendHouse" "SpendHouse" "hand" "LSpendHouse$Node;") ∈ lw_all := lw_g (lw_at lw_m2 118 rfl) rfl
theorem q532 : (Jvm.Cond.lays "SpendHouse" "SpendHouse" "meant" "LSpendHouse$Policy;") ∈ lw_all := lw_g (lw_at lw_m2 120 rfl) rfl
theorem q534 : (Jvm.Cond.laysFinal "SpendHouse" "SpendHouse" "script" "LSpendHouse$Code;") ∈ lw_all := lw_g (lw_at lw_m2 122 rfl) rfl
theorem q536 : (Jvm.Cond.laysFinal "SpendHouse" "SpendHouse" "times" "[I") ∈ lw_all := lw_g (lw_at lw_m2 124 rfl) rfl
theorem q538 : (Jvm.Cond.lays "SpendHouse" "SpendHouse" "written" "Ljava/lang/String;") ∈ lw_all := lw_g (lw_at lw_m2 126 rfl) rfl
theorem q540 : (Jvm.Cond.lays "SpendHouse" "SpendHouse" "twice" "Z") ∈ lw_all := lw_g (lw_at lw_m2 128 rfl) rfl
theorem q542 : (Jvm.Cond.lays "SpendHouse" "SpendHouse" "fault" "I") ∈ lw_all := lw_g (lw_at lw_m2 130 rfl) rfl
theorem q544 : (Jvm.Cond.lays "SpendHouse" "SpendHouse" "faultAt" "I") ∈ lw_all := lw_g (lw_at lw_m2 132 rfl) rfl
theorem q546 : (Jvm.Cond.laysFinal "SpendHouse" "SpendHouse" "witness" "[LSpendHouse$Item;") ∈ lw_all := lw_g (lw_at lw_m2 134 rfl) rfl
theorem q548 : (Jvm.Cond.laysFinal "SpendHouse" "SpendHouse" "ways" "LSpendHouse$Ways;") ∈ lw_all := lw_g (lw_at lw_m2 136 rfl) rfl
theorem q550 : (Jvm.Cond.lays "SpendHouse" "SpendHouse" "items" "I") ∈ lw_all := lw_g (lw_at lw_m2 138 rfl) rfl
theorem q552 : (Jvm.Cond.laysFinal "SpendHouse" "SpendHouse" "machine" "LSpendHouse$Machine;") ∈ lw_all := lw_g (lw_at lw_m2 140 rfl) rfl
theorem q554 : (Jvm.Cond.lays "SpendHouse" "SpendHouse" "ran" "I") ∈ lw_all := lw_g (lw_at lw_m2 142 rfl) rfl
theorem q556 : (Jvm.Cond.lays "SpendHouse" "SpendHouse" "ranAt" "I") ∈ lw_all := lw_g (lw_at lw_m2 144 rfl) rfl
theorem q558 : (Jvm.Cond.lays "SpendHouse" "SpendHouse" "ranMost" "I") ∈ lw_all := lw_g (lw_at lw_m2 146 rfl) rfl
theorem q560 : (Jvm.Cond.laysFinal "SpendHouse" "SpendHouse" "told" "[B") ∈ lw_all := lw_g (lw_at lw_m2 148 rfl) rfl
theorem q562 : (Jvm.Cond.superclass "SpendHouse" "java/lang/Object") ∈ lw_all := lw_g (lw_at lw_m2 150 rfl) rfl
theorem q563 : (Jvm.Cond.methodLink "SpendHouseLaw" (13 : Nat) ({ cls := "SpendHouse", name := "feed", desc := "(IIIII)I" } : Jvm.MethodName)) ∈ lw_all := lw_g (lw_at lw_m2 151 rfl) rfl
theorem q564 : (Jvm.Cond.instanceMethod ({ cls := "SpendHouse", name := "feed", desc := "(IIIII)I" } : Jvm.MethodName)) ∈ lw_all := lw_g (lw_at lw_m2 152 rfl) rfl
theorem q565 : (Jvm.Cond.selects "SpendHouse" ({ cls := "SpendHouse", name := "feed", desc := "(IIIII)I" } : Jvm.MethodName) ({ cls := "SpendHouse", name := "feed", desc := "(IIIII)I" } : Jvm.MethodName)) ∈ lw_all := lw_g (lw_at lw_m2 153 rfl) rfl
theorem q566 : (Jvm.Cond.code ({ cls := "SpendHouse", name := "feed", desc := "(IIIII)I" } : Jvm.MethodName) prog_1_method_12_code (6 : Nat) (Option.some Jvm.ClassFile.FieldType.int)) ∈ lw_all := lw_g (lw_at lw_m2 154 rfl) rfl
theorem q567 : (Jvm.Cond.methodLink "SpendHouse" (136 : Nat) ({ cls := "SpendHouse", name := "four", desc := "(I)V" } : Jvm.MethodName)) ∈ lw_all := lw_g (lw_at lw_m2 155 rfl) rfl
theorem q568 : (Jvm.Cond.privateMethod ({ cls := "SpendHouse", name := "four", desc := "(I)V" } : Jvm.MethodName)) ∈ lw_tbl := lw_at lw_m2 156 rfl
theorem q569 : (Jvm.Cond.instanceMethod ({ cls := "SpendHouse", name := "four", desc := "(I)V" } : Jvm.MethodName)) ∈ lw_all := lw_g (lw_at lw_m2 157 rfl) rfl
theorem q570 : (Jvm.Cond.code ({ cls := "SpendHouse", name := "four", desc := "(I)V" } : Jvm.MethodName) prog_1_method_13_code (3 : Nat) (Option.none : Option Jvm.ClassFile.FieldType)) ∈ lw_all := lw_g (lw_at lw_m2 158 rfl) rfl
theorem q571 : (Jvm.Cond.methodLink "SpendHouseLaw" (18 : Nat) ({ cls := "SpendHouse", name := "end", desc := "(I)I" } : Jvm.MethodName)) ∈ lw_all := lw_g (lw_at lw_m2 159 rfl) rfl
theorem q572 : (Jvm.Cond.instanceMethod ({ cls := "SpendHouse", name := "end", desc := "(I)I" } : Jvm.MethodName)) ∈ lw_all := lw_g (lw_at lw_m2 160 rfl) rfl
theorem q573 : (Jvm.Cond.selects "SpendHouse" ({ cls := "SpendHouse", name := "end", desc := "(I)I" } : Jvm.MethodName) ({ cls := "SpendHouse", name := "end", desc := "(I)I" } : Jvm.MethodName)) ∈ lw_all := lw_g (lw_at lw_m2 161 rfl) rfl
theorem q574 : (Jvm.Cond.code ({ cls := "SpendHouse", name := "end", desc := "(I)I" } : Jvm.MethodName) prog_1_method_14_code (2 : Nat) (Option.some Jvm.ClassFile.FieldType.int)) ∈ lw_all := lw_g (lw_at lw_m2 162 rfl) rfl
theorem q575 : (Jvm.Cond.methodLink "SpendHouse" (140 : Nat) ({ cls := "SpendHouse", name := "in", desc := "(III)Z" } : Jvm.MethodName)) ∈ lw_all := lw_g (lw_at lw_m2 163 rfl) rfl
theorem q576 : (Jvm.Cond.static ({ cls := "SpendHouse", name := "in", desc := "(III)Z" } : Jvm.MethodName)) ∈ lw_all := lw_g (lw_at lw_m2 164 rfl) rfl
theorem q577 : (Jvm.Cond.code ({ cls := "SpendHouse", name := "in", desc := "(III)Z" } : Jvm.MethodName) prog_1_method_1_code (3 : Nat) (Option.some Jvm.ClassFile.FieldType.boolean)) ∈ lw_all := lw_g (lw_at lw_m2 165 rfl) rfl
theorem q578 : (Jvm.Cond.methodLink "SpendHouseLaw" (23 : Nat) ({ cls := "SpendHouse", name := "fragment", desc := "()I" } : Jvm.MethodName)) ∈ lw_all := lw_g (lw_at lw_m2 166 rfl) rfl
theorem q579 : (Jvm.Cond.instanceMethod ({ cls := "SpendHouse", name := "fragment", desc := "()I" } : Jvm.MethodName)) ∈ lw_all := lw_g (lw_at lw_m2 167 rfl) rfl
theorem q580 : (Jvm.Cond.selects "SpendHouse" ({ cls := "SpendHouse", name := "fragment", desc := "()I" } : Jvm.MethodName) ({ cls := "SpendHouse", name := "fragment", desc := "()I" } : Jvm.MethodName)) ∈ lw_all := lw_g (lw_at lw_m2 168 rfl) rfl
theorem q581 : (Jvm.Cond.code ({ cls := "SpendHouse", name := "fragment", desc := "()I" } : Jvm.MethodName) prog_1_method_17_code (1 : Nat) (Option.some Jvm.ClassFile.FieldType.int)) ∈ lw_all := lw_g (lw_at lw_m2 169 rfl) rfl
theorem q582 : (Jvm.Cond.methodLink "SpendHouse" (235 : Nat) ({ cls := "SpendHouse", name := "isRead", desc := "(Z)I" } : Jvm.MethodName)) ∈ lw_all := lw_g (lw_at lw_m2 170 rfl) rfl
theorem q583 : (Jvm.Cond.privateMethod ({ cls := "SpendHouse", name := "isRead", desc := "(Z)I" } : Jvm.MethodName)) ∈ lw_tbl := lw_at lw_m2 171 rfl
theorem q584 : (Jvm.Cond.instanceMethod ({ cls := "SpendHouse", name := "isRead", desc := "(Z)I" } : Jvm.MethodName)) ∈ lw_all := lw_g (lw_at lw_m2 172 rfl) rfl
theorem q585 : (Jvm.Cond.codeWith ({ cls := "SpendHouse", name := "isRead", desc := "(Z)I" } : Jvm.MethodName) prog_1_method_15_code (6 : Nat) (Option.some Jvm.ClassFile.FieldType.int) [((10 : Nat), (122 : Nat), (130 : Nat), (170 : Nat)), ((10 : Nat), (122 : Nat), (155 : Nat), (0 : Nat)), ((130 : Nat), (147 : Nat), (155 : Nat), (0 : Nat)), ((155 : Nat), (157 : Nat), (155 : Nat), (0 : Nat))]) ∈ lw_all := lw_g (lw_at lw_m2 173 rfl) rfl
theorem q586 : (Jvm.Cond.classLink "SpendHouse" (170 : Nat) "SpendHouse$Fault") ∈ lw_all := lw_g (lw_at lw_m2 174 rfl) rfl
theorem q587 : (Jvm.Cond.classLink "SpendHouse" (147 : Nat) "SpendHouse$Reader") ∈ lw_all := lw_g (lw_at lw_m2 175 rfl) rfl
theorem q588 : (Jvm.Cond.instantiable "SpendHouse$Reader" (3 : Nat)) ∈ lw_all := lw_g (lw_at lw_m2 176 rfl) rfl
theorem q589 : (Jvm.Cond.methodLinkNest "SpendHouse" (149 : Nat) ({ cls := "SpendHouse$Reader", name := "<init>", desc := "(LSpendHouse;)V" } : Jvm.MethodName) "SpendHouse") ∈ lw_tbl := lw_at lw_m2 177 rfl
theorem q590 : (Jvm.Cond.instanceMethod ({ cls := "SpendHouse$Reader", name := "<init>", desc := "(LSpendHouse;)V" } : Jvm.MethodName)) ∈ lw_all := lw_g (lw_at lw_m2 178 rfl) rfl
theorem q591 : (Jvm.Cond.code ({ cls := "SpendHouse$Reader", name := "<init>", desc := "(LSpendHouse;)V" } : Jvm.MethodName) prog_16_method_1_code (2 : Nat) (Option.none : Option Jvm.ClassFile.FieldType)) ∈ lw_all := lw_g (lw_at lw_m2 179 rfl) rfl
theorem q592 : (Jvm.Cond.methodLink "SpendHouse$Reader" (9 : Nat) ({ cls := "java/lang/Object", name := "<init>", desc := "()V" } : Jvm.MethodName)) ∈ lw_all := lw_g (lw_at lw_m2 180 rfl) rfl
theorem q593 : (Jvm.Cond.fieldLink "SpendHouse$Reader" (15 : Nat) "SpendHouse$Reader" "at" "I") ∈ lw_all := lw_g (lw_at lw_m2 181 rfl) rfl
theorem q594 : (Jvm.Cond.fieldLink "SpendHouse$Reader" (58 : Nat) "SpendHouse$Reader" "nodes" "I") ∈ lw_all := lw_g (lw_at lw_m2 182 rfl) rfl
theorem q595 : (Jvm.Cond.fieldLink "SpendHouse$Reader" (3 : Nat) "SpendHouse$Reader" "this$0" "LSpendHouse;") ∈ lw_all := lw_g (lw_at lw_m2 183 rfl) rfl
theorem q596 : (Jvm.Cond.lays "SpendHouse$Reader" "SpendHouse$Reader" "at" "I") ∈ lw_all := lw_g (lw_at lw_m2 184 rfl) rfl
theorem q598 : (Jvm.Cond.lays "SpendHouse$Reader" "SpendHouse$Reader" "nodes" "I") ∈ lw_all := lw_g (lw_at lw_m2 186 rfl) rfl
theorem q600 : (Jvm.Cond.laysFinal "SpendHouse$Reader" "SpendHouse$Reader" "this$0" "LSpendHouse;") ∈ lw_all := lw_g (lw_at lw_m2 188 rfl) rfl
theorem q602 : (Jvm.Cond.superclass "SpendHouse$Reader" "java/lang/Object") ∈ lw_all := lw_g (lw_at lw_m2 190 rfl) rfl
theorem q603 : (Jvm.Cond.methodLink "SpendHouse" (150 : Nat) ({ cls := "SpendHouse$Reader", name := "policy", desc := "(I)LSpendHouse$Policy;" } : Jvm.MethodName)) ∈ lw_all := lw_g (lw_at lw_m2 191 rfl) rfl
theorem q604 : (Jvm.Cond.instanceMethod ({ cls := "SpendHouse$Reader", name := "policy", desc := "(I)LSpendHouse$Policy;" } : Jvm.MethodName)) ∈ lw_all := lw_g (lw_at lw_m2 192 rfl) rfl
theorem q605 : (Jvm.Cond.selects "SpendHouse$Reader" ({ cls := "SpendHouse$Reader", name := "policy", desc := "(I)LSpendHouse$Policy;" } : Jvm.MethodName) ({ cls := "SpendHouse$Reader", name := "policy", desc := "(I)LSpendHouse$Policy;" } : Jvm.MethodName)) ∈ lw_all := lw_g (lw_at lw_m2 193 rfl) rfl
theorem q606 : (Jvm.Cond.code ({ cls := "SpendHouse$Reader", name := "policy", desc := "(I)LSpendHouse$Policy;" } : Jvm.MethodName) prog_16_method_24_code (11 : Nat) (Option.some (Jvm.ClassFile.FieldType.object "SpendHouse$Policy"))) ∈ lw_all := lw_g (lw_at lw_m2 194 rfl) rfl
theorem q607 : (Jvm.Cond.methodLink "SpendHouse$Reader" (72 : Nat) ({ cls := "SpendHouse$Reader", name := "word", desc := "()Ljava/lang/String;" } : Jvm.MethodName)) ∈ lw_all := lw_g (lw_at lw_m2 195 rfl) rfl
theorem q608 : (Jvm.Cond.privateMethod ({ cls := "SpendHouse$Reader", name := "word", desc := "()Ljava/lang/String;" } : Jvm.MethodName)) ∈ lw_tbl := lw_at lw_m2 196 rfl
theorem q609 : (Jvm.Cond.instanceMethod ({ cls := "SpendHouse$Reader", name := "word", desc := "()Ljava/lang/String;" } : Jvm.MethodName)) ∈ lw_all := lw_g (lw_at lw_m2 197 rfl) rfl
theorem q610 : (Jvm.Cond.code ({ cls := "SpendHouse$Reader", name := "word", desc := "()Ljava/lang/String;" } : Jvm.MethodName) prog_16_method_6_code (5 : Nat) (Option.some (Jvm.ClassFile.FieldType.object "java/lang/String"))) ∈ lw_all := lw_g (lw_at lw_m2 198 rfl) rfl
theorem q611 : (Jvm.Cond.methodLink "SpendHouse$Reader" (43 : Nat) ({ cls := "SpendHouse$Reader", name := "isOfWord", desc := "(I)Z" } : Jvm.MethodName)) ∈ lw_all := lw_g (lw_at lw_m2 199 rfl) rfl
theorem q612 : (Jvm.Cond.privateMethod ({ cls := "SpendHouse$Reader", name := "isOfWord", desc := "(I)Z" } : Jvm.MethodName)) ∈ lw_tbl := lw_at lw_m2 200 rfl
theorem q613 : (Jvm.Cond.instanceMethod ({ cls := "SpendHouse$Reader", name := "isOfWord", desc := "(I)Z" } : Jvm.MethodName)) ∈ lw_all := lw_g (lw_at lw_m2 201 rfl) rfl
theorem q614 : (Jvm.Cond.code ({ cls := "SpendHouse$Reader", name := "isOfWord", desc := "(I)Z" } : Jvm.MethodName) prog_16_method_5_code (2 : Nat) (Option.some Jvm.ClassFile.FieldType.boolean)) ∈ lw_all := lw_g (lw_at lw_m2 202 rfl) rfl
theorem q615 : (Jvm.Cond.methodLinkNest "SpendHouse$Reader" (39 : Nat) ({ cls := "SpendHouse", name := "in", desc := "(III)Z" } : Jvm.MethodName) "SpendHouse") ∈ lw_tbl := lw_at lw_m2 203 rfl
theorem q616 : (Jvm.Cond.methodLink "SpendHouse$Reader" (35 : Nat) ({ cls := "SpendHouse$Reader", name := "form", desc := "()LSpendHouse$Fault;" } : Jvm.MethodName)) ∈ lw_all := lw_g (lw_at lw_m2 204 rfl) rfl
theorem q617 : (Jvm.Cond.privateMethod ({ cls := "SpendHouse$Reader", name := "form", desc := "()LSpendHouse$Fault;" } : Jvm.MethodName)) ∈ lw_tbl := lw_at lw_m2 205 rfl
theorem q618 : (Jvm.Cond.instanceMethod ({ cls := "SpendHouse$Reader", name := "form", desc := "()LSpendHouse$Fault;" } : Jvm.MethodName)) ∈ lw_all := lw_g (lw_at lw_m2 206 rfl) rfl
theorem q619 : (Jvm.Cond.code ({ cls := "SpendHouse$Reader", name := "form", desc := "()LSpendHouse$Fault;" } : Jvm.MethodName) prog_16_method_3_code (1 : Nat) (Option.some (Jvm.ClassFile.FieldType.object "SpendHouse$Fault"))) ∈ lw_all := lw_g (lw_at lw_m2 207 rfl) rfl
theorem q620 : (Jvm.Cond.classLink "SpendHouse$Reader" (26 : Nat) "SpendHouse$Fault") ∈ lw_all := lw_g (lw_at lw_m2 208 rfl) rfl
theorem q621 : (Jvm.Cond.instantiable "SpendHouse$Fault" (8 : Nat)) ∈ lw_all := lw_g (lw_at lw_m2 209 rfl) rfl
theorem q622 : (Jvm.Cond.castable "SpendHouse$Fault" "SpendHouse$Fault") ∈ lw_tbl := lw_at lw_m2 210 rfl
theorem q623 : (Jvm.Cond.declares ({ cls := "java/lang/Exception", name := "<init>", desc := "()V" } : Jvm.MethodName)) ∈ lw_tbl := lw_at lw_m2 211 rfl
theorem q624 : (Jvm.Cond.declares ({ cls := "java/lang/Exception", name := "<init>", desc := "(Ljava/lang/String;)V" } : Jvm.MethodName)) ∈ lw_tbl := lw_at lw_m2 212 rfl
theorem q625 : (Jvm.Cond.declares ({ cls := "java/lang/Throwable", name := "<init>", desc := "()V" } : Jvm.MethodName)) ∈ lw_tbl := lw_at lw_m2 213 rfl
theorem q626 : (Jvm.Cond.declares ({ cls := "java/lang/Throwable", name := "<init>", desc := "(Ljava/lang/String;)V" } : Jvm.MethodName)) ∈ lw_tbl := lw_at lw_m2 214 rfl
theorem q627 : (Jvm.Cond.selects "SpendHouse$Fault" ({ cls := "java/lang/Throwable", name := "fillInStackTrace", desc := "(I)Ljava/lang/Throwable;" } : Jvm.MethodName) ({ cls := "java/lang/Throwable", name := "fillInStackTrace", desc := "(I)Ljava/lang/Throwable;" } : Jvm.MethodName)) ∈ lw_all := lw_g (lw_at lw_m2 215 rfl) rfl
theorem q628 : (Jvm.Cond.selects "SpendHouse$Fault" ({ cls := "java/lang/Throwable", name := "fillInStackTrace", desc := "()Ljava/lang/Throwable;" } : Jvm.MethodName) ({ cls := "java/lang/Throwable", name := "fillInStackTrace", desc := "()Ljava/lang/Throwable;" } : Jvm.MethodName)) ∈ lw_all := lw_g (lw_at lw_m2 216 rfl) rfl
theorem q629 : (Jvm.Cond.lays "SpendHouse$Fault" "java/lang/Throwable" "cause" "Ljava/lang/Throwable;") ∈ lw_all := lw_g (lw_at lw_m2 217 rfl) rfl
theorem q630 : (Jvm.Cond.lays "java/lang/Throwable" "java/lang/Throwable" "cause" "Ljava/lang/Throwable;") ∈ lw_all := lw_g (lw_at lw_m2 218 rfl) rfl
theorem q631 : (Jvm.Cond.lays "SpendHouse$Fault" "java/lang/Throwable" "stackTrace" "[Ljava/lang/StackTraceElement;") ∈ lw_all := lw_g (lw_at lw_m2 219 rfl) rfl
theorem q632 : (Jvm.Cond.lays "java/lang/Throwable" "java/lang/Throwable" "stackTrace" "[Ljava/lang/StackTraceElement;") ∈ lw_all := lw_g (lw_at lw_m2 220 rfl) rfl
theorem q633 : (Jvm.Cond.lays "SpendHouse$Fault" "java/lang/Throwable" "suppressedExceptions" "Ljava/util/List;") ∈ lw_all := lw_g (lw_at lw_m2 221 rfl) rfl
theorem q634 : (Jvm.Cond.lays "java/lang/Throwable" "java/lang/Throwable" "suppressedExceptions" "Ljava/util/List;") ∈ lw_all := lw_g (lw_at lw_m2 222 rfl) rfl
theorem q635 : (Jvm.Cond.lays "SpendHouse$Fault" "java/lang/Throwable" "detailMessage" "Ljava/lang/String;") ∈ lw_all := lw_g (lw_at lw_m2 223 rfl) rfl
theorem q636 : (Jvm.Cond.lays "java/lang/Throwable" "java/lang/Throwable" "detailMessage" "Ljava/lang/String;") ∈ lw_all := lw_g (lw_at lw_m2 224 rfl) rfl
theorem q637 : (Jvm.Cond.lays "SpendHouse$Fault" "java/lang/Throwable" "backtrace" "Ljava/lang/Object;") ∈ lw_all := lw_g (lw_at lw_m2 225 rfl) rfl
theorem q638 : (Jvm.Cond.lays "java/lang/Throwable" "java/lang/Throwable" "backtrace" "Ljava/lang/Object;") ∈ lw_all := lw_g (lw_at lw_m2 226 rfl) rfl
theorem q639 : (Jvm.Cond.fieldLink "java/lang/Throwable" (198 : Nat) "java/lang/Throwable" "backtrace" "Ljava/lang/Object;") ∈ lw_all := lw_g (lw_at lw_m2 227 rfl) rfl
theorem q640 : (Jvm.Cond.superclass "java/lang/Throwable" "java/lang/Object") ∈ lw_all := lw_g (lw_at lw_m2 228 rfl) rfl
theorem q641 : (Jvm.Cond.instanceMethod ({ cls := "java/lang/Throwable", name := "<init>", desc := "()V" } : Jvm.MethodName)) ∈ lw_all := lw_g (lw_at lw_m2 229 rfl) rfl
theorem q642 : (Jvm.Cond.code ({ cls := "java/lang/Throwable", name := "<init>", desc := "()V" } : Jvm.MethodName) prog_37_method_1_code (1 : Nat) (Option.none : Option Jvm.ClassFile.FieldType)) ∈ lw_all := lw_g (lw_at lw_m2 230 rfl) rfl
theorem q643 : (Jvm.Cond.methodLink "java/lang/Throwable" (1 : Nat) ({ cls := "java/lang/Object", name := "<init>", desc := "()V" } : Jvm.MethodName)) ∈ lw_all := lw_g (lw_at lw_m2 231 rfl) rfl
theorem q644 : (Jvm.Cond.fieldLink "java/lang/Throwable" (13 : Nat) "java/lang/Throwable" "UNASSIGNED_STACK" "[Ljava/lang/StackTraceElement;") ∈ lw_all := lw_g (lw_at lw_m2 232 rfl) rfl
theorem q645 : (Jvm.Cond.laysStatic "java/lang/Throwable" "UNASSIGNED_STACK" "[Ljava/lang/StackTraceElement;") ∈ lw_tbl := lw_at lw_m2 233 rfl
theorem q646 : (Jvm.Cond.fieldLink "java/lang/Throwable" (20 : Nat) "java/lang/Throwable" "SUPPRESSED_SENTINEL" "Ljava/util/List;") ∈ lw_all := lw_g (lw_at lw_m2 234 rfl) rfl
theorem q647 : (Jvm.Cond.laysStatic "java/lang/Throwable" "SUPPRESSED_SENTINEL" "Ljava/util/List;") ∈ lw_tbl := lw_at lw_m2 235 rfl
theorem q648 : (Jvm.Cond.methodLink "java/lang/Throwable" (27 : Nat) ({ cls := "java/lang/Throwable", name := "fillInStackTrace", desc := "()Ljava/lang/Throwable;" } : Jvm.MethodName)) ∈ lw_all := lw_g (lw_at lw_m2 236 rfl) rfl
theorem q649 : (Jvm.Cond.instanceMethod ({ cls := "java/lang/Throwable", name := "fillInStackTrace", desc := "()Ljava/lang/Throwable;" } : Jvm.MethodName)) ∈ lw_all := lw_g (lw_at lw_m2 237 rfl) rfl
theorem q650 : (Jvm.Cond.sameMethod "java/lang/Throwable" "java/lang/Throwable" "fillInStackTrace" "()Ljava/lang/Throwable;") ∈ lw_all := lw_g (lw_at lw_m2 238 rfl) rfl
theorem q651 : (Jvm.Cond.codeSync ({ cls := "java/lang/Throwable", name := "fillInStackTrace", desc := "()Ljava/lang/Throwable;" } : Jvm.MethodName) prog_37_method_18_code (1 : Nat) (Option.some (Jvm.ClassFile.FieldType.object "java/lang/Throwable"))) ∈ lw_all := lw_g (lw_at lw_m2 239 rfl) rfl
theorem q652 : (Jvm.Cond.methodLink "java/lang/Throwable" (202 : Nat) ({ cls := "java/lang/Throwable", name := "fillInStackTrace", desc := "(I)Ljava/lang/Throwable;" } : Jvm.MethodName)) ∈ lw_all := lw_g (lw_at lw_m3 0 rfl) rfl
theorem q653 : (Jvm.Cond.privateMethod ({ cls := "java/lang/Throwable", name := "fillInStackTrace", desc := "(I)Ljava/lang/Throwable;" } : Jvm.MethodName)) ∈ lw_tbl := lw_at lw_m3 1 rfl
theorem q654 : (Jvm.Cond.instanceMethod ({ cls := "java/lang/Throwable", name := "fillInStackTrace", desc := "(I)Ljava/lang/Throwable;" } : Jvm.MethodName)) ∈ lw_all := lw_g (lw_at lw_m3 2 rfl) rfl
theorem q655 : (Jvm.Cond.instantiable "java/lang/Throwable" (6 : Nat)) ∈ lw_all := lw_g (lw_at lw_m3 3 rfl) rfl
theorem q656 : (Jvm.Cond.native ({ cls := "java/lang/Throwable", name := "fillInStackTrace", desc := "(I)Ljava/lang/Throwable;" } : Jvm.MethodName)) ∈ lw_all := lw_g (lw_at lw_m3 4 rfl) rfl
theorem q657 : (Jvm.Cond.methodLink "SpendHouse$Reader" (28 : Nat) ({ cls := "SpendHouse$Fault", name := "<init>", desc := "(II)V" } : Jvm.MethodName)) ∈ lw_all := lw_g (lw_at lw_m3 5 rfl) rfl
theorem q658 : (Jvm.Cond.instanceMethod ({ cls := "SpendHouse$Fault", name := "<init>", desc := "(II)V" } : Jvm.MethodName)) ∈ lw_all := lw_g (lw_at lw_m3 6 rfl) rfl
theorem q659 : (Jvm.Cond.code ({ cls := "SpendHouse$Fault", name := "<init>", desc := "(II)V" } : Jvm.MethodName) prog_4_method_1_code (3 : Nat) (Option.none : Option Jvm.ClassFile.FieldType)) ∈ lw_all := lw_g (lw_at lw_m3 7 rfl) rfl
theorem q660 : (Jvm.Cond.methodLink "SpendHouse$Fault" (1 : Nat) ({ cls := "java/lang/Exception", name := "<init>", desc := "()V" } : Jvm.MethodName)) ∈ lw_all := lw_g (lw_at lw_m3 8 rfl) rfl
theorem q661 : (Jvm.Cond.instanceMethod ({ cls := "java/lang/Exception", name := "<init>", desc := "()V" } : Jvm.MethodName)) ∈ lw_all := lw_g (lw_at lw_m3 9 rfl) rfl
theorem q662 : (Jvm.Cond.code ({ cls := "java/lang/Exception", name := "<init>", desc := "()V" } : Jvm.MethodName) prog_27_method_1_code (1 : Nat) (Option.none : Option Jvm.ClassFile.FieldType)) ∈ lw_all := lw_g (lw_at lw_m3 10 rfl) rfl
theorem q663 : (Jvm.Cond.methodLink "java/lang/Exception" (1 : Nat) ({ cls := "java/lang/Throwable", name := "<init>", desc := "()V" } : Jvm.MethodName)) ∈ lw_all := lw_g (lw_at lw_m3 11 rfl) rfl
theorem q664 : (Jvm.Cond.fieldLink "SpendHouse$Fault" (7 : Nat) "SpendHouse$Fault" "kind" "I") ∈ lw_all := lw_g (lw_at lw_m3 12 rfl) rfl
theorem q665 : (Jvm.Cond.fieldLinkNest "SpendHouse" (186 : Nat) "SpendHouse$Fault" "kind" "I" "SpendHouse") ∈ lw_tbl := lw_at lw_m3 13 rfl
theorem q666 : (Jvm.Cond.fieldLink "SpendHouse$Fault" (13 : Nat) "SpendHouse$Fault" "place" "I") ∈ lw_all := lw_g (lw_at lw_m3 14 rfl) rfl
theorem q667 : (Jvm.Cond.fieldLinkNest "SpendHouse" (189 : Nat) "SpendHouse$Fault" "place" "I" "SpendHouse") ∈ lw_tbl := lw_at lw_m3 15 rfl
theorem q668 : (Jvm.Cond.fieldLink "java/lang/Throwable" (198 : Nat) "java/lang/Throwable" "backtrace" "Ljava/lang/Object;") ∈ lw_all := lw_g (lw_at lw_m3 16 rfl) rfl
theorem q669 : (Jvm.Cond.fieldLink "java/lang/Throwable" (7 : Nat) "java/lang/Throwable" "cause" "Ljava/lang/Throwable;") ∈ lw_all := lw_g (lw_at lw_m3 17 rfl) rfl
theorem q670 : (Jvm.Cond.fieldLink "java/lang/Throwable" (17 : Nat) "java/lang/Throwable" "stackTrace" "[Ljava/lang/StackTraceElement;") ∈ lw_all := lw_g (lw_at lw_m3 18 rfl) rfl
theorem q671 : (Jvm.Cond.fieldLink "java/lang/Throwable" (24 : Nat) "java/lang/Throwable" "suppressedExceptions" "Ljava/util/List;") ∈ lw_all := lw_g (lw_at lw_m3 19 rfl) rfl
theorem q672 : (Jvm.Cond.laysFinal "SpendHouse$Fault" "SpendHouse$Fault" "kind" "I") ∈ lw_all := lw_g (lw_at lw_m3 20 rfl) rfl
theorem q674 : (Jvm.Cond.laysFinal "SpendHouse$Fault" "SpendHouse$Fault" "place" "I") ∈ lw_all := lw_g (lw_at lw_m3 22 rfl) rfl
theorem q680 : (Jvm.Cond.lays "SpendHouse$Fault" "java/lang/Throwable" "depth" "I") ∈ lw_all := lw_g (lw_at lw_m3 28 rfl) rfl
theorem q683 : (Jvm.Cond.superclass "SpendHouse$Fault" "java/lang/Exception") ∈ lw_all := lw_g (lw_at lw_m3 31 rfl) rfl
theorem q684 : (Jvm.Cond.classLink "SpendHouse$Reader" (47 : Nat) "java/lang/StringBuilder") ∈ lw_all := lw_g (lw_at lw_m3 32 rfl) rfl
theorem q685 : (Jvm.Cond.instantiable "java/lang/StringBuilder" (4 : Nat)) ∈ lw_all := lw_g (lw_at lw_m3 33 rfl) rfl
theorem q686 : (Jvm.Cond.methodLink "SpendHouse$Reader" (49 : Nat) ({ cls := "java/lang/StringBuilder", name := "<init>", desc := "()V" } : Jvm.MethodName)) ∈ lw_all := lw_g (lw_at lw_m3 34 rfl) rfl
theorem q687 : (Jvm.Cond.instanceMethod ({ cls := "java/lang/StringBuilder", name := "<init>", desc := "()V" } : Jvm.MethodName)) ∈ lw_all := lw_g (lw_at lw_m3 35 rfl) rfl
theorem q688 : (Jvm.Cond.code ({ cls := "java/lang/StringBuilder", name := "<init>", desc := "()V" } : Jvm.MethodName) prog_32_method_1_code (1 : Nat) (Option.none : Option Jvm.ClassFile.FieldType)) ∈ lw_all := lw_g (lw_at lw_m3 36 rfl) rfl
theorem q689 : (Jvm.Cond.methodLink "java/lang/StringBuilder" (1 : Nat) ({ cls := "java/lang/AbstractStringBuilder", name := "<init>", desc := "(I)V" } : Jvm.MethodName)) ∈ lw_all := lw_g (lw_at lw_m3 37 rfl) rfl
theorem q690 : (Jvm.Cond.instanceMethod ({ cls := "java/lang/AbstractStringBuilder", name := "<init>", desc := "(I)V" } : Jvm.MethodName)) ∈ lw_all := lw_g (lw_at lw_m3 38 rfl) rfl
theorem q691 : (Jvm.Cond.code ({ cls := "java/lang/AbstractStringBuilder", name := "<init>", desc := "(I)V" } : Jvm.MethodName) prog_24_method_2_code (2 : Nat) (Option.none : Option Jvm.ClassFile.FieldType)) ∈ lw_all := lw_g (lw_at lw_m3 39 rfl) rfl
theorem q692 : (Jvm.Cond.methodLink "java/lang/AbstractStringBuilder" (3 : Nat) ({ cls := "java/lang/Object", name := "<init>", desc := "()V" } : Jvm.MethodName)) ∈ lw_all := lw_g (lw_at lw_m3 40 rfl) rfl
theorem q693 : (Jvm.Cond.fieldLink "java/lang/AbstractStringBuilder" (18 : Nat) "java/lang/String" "COMPACT_STRINGS" "Z") ∈ lw_all := lw_g (lw_at lw_m3 41 rfl) rfl
theorem q694 : (Jvm.Cond.methodLink "java/lang/AbstractStringBuilder" (26 : Nat) ({ cls := "java/lang/StringUTF16", name := "newBytesFor", desc := "(I)[B" } : Jvm.MethodName)) ∈ lw_all := lw_g (lw_at lw_m3 42 rfl) rfl
theorem q695 : (Jvm.Cond.static ({ cls := "java/lang/StringUTF16", name := "newBytesFor", desc := "(I)[B" } : Jvm.MethodName)) ∈ lw_all := lw_g (lw_at lw_m3 43 rfl) rfl
theorem q696 : (Jvm.Cond.code ({ cls := "java/lang/StringUTF16", name := "newBytesFor", desc := "(I)[B" } : Jvm.MethodName) prog_34_method_2_code (1 : Nat) (Option.some (Jvm.ClassFile.FieldType.array Jvm.ClassFile.FieldType.byte))) ∈ lw_all := lw_g (lw_at lw_m3 44 rfl) rfl
theorem q697 : (Jvm.Cond.methodLink "java/lang/StringUTF16" (11 : Nat) ({ cls := "java/lang/StringUTF16", name := "newBytesLength", desc := "(I)I" } : Jvm.MethodName)) ∈ lw_all := lw_g (lw_at lw_m3 45 rfl) rfl
theorem q698 : (Jvm.Cond.static ({ cls := "java/lang/StringUTF16", name := "newBytesLength", desc := "(I)I" } : Jvm.MethodName)) ∈ lw_all := lw_g (lw_at lw_m3 46 rfl) rfl
theorem q699 : (Jvm.Cond.code ({ cls := "java/lang/StringUTF16", name := "newBytesLength", desc := "(I)I" } : Jvm.MethodName) prog_34_method_3_code (1 : Nat) (Option.some Jvm.ClassFile.FieldType.int)) ∈ lw_all := lw_g (lw_at lw_m3 47 rfl) rfl
theorem q700 : (Jvm.Cond.constant "java/lang/StringUTF16" (20 : Nat) (1073741823 : Int32)) ∈ lw_all := lw_g (lw_at lw_m3 48 rfl) rfl
theorem q701 : (Jvm.Cond.fieldLink "java/lang/AbstractStringBuilder" (15 : Nat) "java/lang/AbstractStringBuilder" "value" "[B") ∈ lw_all := lw_g (lw_at lw_m3 49 rfl) rfl
theorem q702 : (Jvm.Cond.fieldLink "java/lang/AbstractStringBuilder" (22 : Nat) "java/lang/AbstractStringBuilder" "coder" "B") ∈ lw_all := lw_g (lw_at lw_m3 50 rfl) rfl
theorem q703 : (Jvm.Cond.fieldLink "java/lang/String" (1048 : Nat) "java/lang/AbstractStringBuilder" "maybeLatin1" "Z") ∈ lw_all := lw_g (lw_at lw_m3 51 rfl) rfl
theorem q704 : (Jvm.Cond.fieldLink "java/lang/AbstractStringBuilder" (79 : Nat) "java/lang/AbstractStringBuilder" "count" "I") ∈ lw_all := lw_g (lw_at lw_m3 52 rfl) rfl
theorem q705 : (Jvm.Cond.lays "java/lang/StringBuilder" "java/lang/AbstractStringBuilder" "value" "[B") ∈ lw_all := lw_g (lw_at lw_m3 53 rfl) rfl
theorem q707 : (Jvm.Cond.lays "java/lang/StringBuilder" "java/lang/AbstractStringBuilder" "coder" "B") ∈ lw_all := lw_g (lw_at lw_m3 55 rfl) rfl
theorem q709 : (Jvm.Cond.lays "java/lang/StringBuilder" "java/lang/AbstractStringBuilder" "maybeLatin1" "Z") ∈ lw_all := lw_g (lw_at lw_m3 57 rfl) rfl
theorem q711 : (Jvm.Cond.lays "java/lang/StringBuilder" "java/lang/AbstractStringBuilder" "count" "I") ∈ lw_all := lw_g (lw_at lw_m3 59 rfl) rfl
theorem q713 : (Jvm.Cond.superclass "java/lang/StringBuilder" "java/lang/AbstractStringBuilder") ∈ lw_all := lw_g (lw_at lw_m3 61 rfl) rfl
theorem q714 : (Jvm.Cond.methodLink "SpendHouse$Reader" (50 : Nat) ({ cls := "java/lang/StringBuilder", name := "append", desc := "(C)Ljava/lang/StringBuilder;" } : Jvm.MethodName)) ∈ lw_all := lw_g (lw_at lw_m3 62 rfl) rfl
theorem q715 : (Jvm.Cond.instanceMethod ({ cls := "java/lang/StringBuilder", name := "append", desc := "(C)Ljava/lang/StringBuilder;" } : Jvm.MethodName)) ∈ lw_all := lw_g (lw_at lw_m3 63 rfl) rfl
theorem q716 : (Jvm.Cond.selects "java/lang/StringBuilder" ({ cls := "java/lang/StringBuilder", name := "append", desc := "(C)Ljava/lang/StringBuilder;" } : Jvm.MethodName) ({ cls := "java/lang/StringBuilder", name := "append", desc := "(C)Ljava/lang/StringBuilder;" } : Jvm.MethodName)) ∈ lw_all := lw_g (lw_at lw_m3 64 rfl) rfl
theorem q717 : (Jvm.Cond.code ({ cls := "java/lang/StringBuilder", name := "append", desc := "(C)Ljava/lang/StringBuilder;" } : Jvm.MethodName) prog_32_method_14_code (2 : Nat) (Option.some (Jvm.ClassFile.FieldType.object "java/lang/StringBuilder"))) ∈ lw_all := lw_g (lw_at lw_m3 65 rfl) rfl
theorem q718 : (Jvm.Cond.methodLink "java/lang/StringBuilder" (50 : Nat) ({ cls := "java/lang/AbstractStringBuilder", name := "append", desc := "(C)Ljava/lang/AbstractStringBuilder;" } : Jvm.MethodName)) ∈ lw_all := lw_g (lw_at lw_m3 66 rfl) rfl
theorem q719 : (Jvm.Cond.instanceMethod ({ cls := "java/lang/AbstractStringBuilder", name := "append", desc := "(C)Ljava/lang/AbstractStringBuilder;" } : Jvm.MethodName)) ∈ lw_all := lw_g (lw_at lw_m3 67 rfl) rfl
theorem q720 : (Jvm.Cond.code ({ cls := "java/lang/AbstractStringBuilder", name := "append", desc := "(C)Ljava/lang/AbstractStringBuilder;" } : Jvm.MethodName) prog_24_method_31_code (2 : Nat) (Option.some (Jvm.ClassFile.FieldType.object "java/lang/AbstractStringBuilder"))) ∈ lw_all := lw_g (lw_at lw_m3 68 rfl) rfl
theorem q721 : (Jvm.Cond.methodLink "java/lang/AbstractStringBuilder" (100 : Nat) ({ cls := "java/lang/AbstractStringBuilder", name := "ensureCapacityInternal", desc := "(I)V" } : Jvm.MethodName)) ∈ lw_all := lw_g (lw_at lw_m3 69 rfl) rfl
theorem q722 : (Jvm.Cond.privateMethod ({ cls := "java/lang/AbstractStringBuilder", name := "ensureCapacityInternal", desc := "(I)V" } : Jvm.MethodName)) ∈ lw_tbl := lw_at lw_m3 70 rfl
theorem q723 : (Jvm.Cond.instanceMethod ({ cls := "java/lang/AbstractStringBuilder", name := "ensureCapacityInternal", desc := "(I)V" } : Jvm.MethodName)) ∈ lw_all := lw_g (lw_at lw_m3 71 rfl) rfl
theorem q724 : (Jvm.Cond.code ({ cls := "java/lang/AbstractStringBuilder", name := "ensureCapacityInternal", desc := "(I)V" } : Jvm.MethodName) prog_24_method_9_code (3 : Nat) (Option.none : Option Jvm.ClassFile.FieldType)) ∈ lw_all := lw_g (lw_at lw_m3 72 rfl) rfl
theorem q725 : (Jvm.Cond.methodLink "java/lang/AbstractStringBuilder" (104 : Nat) ({ cls := "java/lang/AbstractStringBuilder", name := "newCapacity", desc := "(I)I" } : Jvm.MethodName)) ∈ lw_all := lw_g (lw_at lw_m3 73 rfl) rfl
theorem q726 : (Jvm.Cond.privateMethod ({ cls := "java/lang/AbstractStringBuilder", name := "newCapacity", desc := "(I)I" } : Jvm.MethodName)) ∈ lw_tbl := lw_at lw_m3 74 rfl
theorem q727 : (Jvm.Cond.instanceMethod ({ cls := "java/lang/AbstractStringBuilder", name := "newCapacity", desc := "(I)I" } : Jvm.MethodName)) ∈ lw_all := lw_g (lw_at lw_m3 75 rfl) rfl
theorem q728 : (Jvm.Cond.code ({ cls := "java/lang/AbstractStringBuilder", name := "newCapacity", desc := "(I)I" } : Jvm.MethodName) prog_24_method_10_code (6 : Nat) (Option.some Jvm.ClassFile.FieldType.int)) ∈ lw_all := lw_g (lw_at lw_m3 76 rfl) rfl
theorem q729 : (Jvm.Cond.methodLink "java/lang/AbstractStringBuilder" (114 : Nat) ({ cls := "jdk/internal/util/ArraysSupport", name := "newLength", desc := "(III)I" } : Jvm.MethodName)) ∈ lw_all := lw_g (lw_at lw_m3 77 rfl) rfl
theorem q730 : (Jvm.Cond.static ({ cls := "jdk/internal/util/ArraysSupport", name := "newLength", desc := "(III)I" } : Jvm.MethodName)) ∈ lw_all := lw_g (lw_at lw_m3 78 rfl) rfl
theorem q731 : (Jvm.Cond.code ({ cls := "jdk/internal/util/ArraysSupport", name := "newLength", desc := "(III)I" } : Jvm.MethodName) prog_40_method_27_code (4 : Nat) (Option.some Jvm.ClassFile.FieldType.int)) ∈ lw_all := lw_g (lw_at lw_m3 79 rfl) rfl
theorem q732 : (Jvm.Cond.methodLink "jdk/internal/util/ArraysSupport" (194 : Nat) ({ cls := "java/lang/Math", name := "max", desc := "(II)I" } : Jvm.MethodName)) ∈ lw_all := lw_g (lw_at lw_m3 80 rfl) rfl
theorem q733 : (Jvm.Cond.static ({ cls := "java/lang/Math", name := "max", desc := "(II)I" } : Jvm.MethodName)) ∈ lw_all := lw_g (lw_at lw_m3 81 rfl) rfl
theorem q734 : (Jvm.Cond.code ({ cls := "java/lang/Math", name := "max", desc := "(II)I" } : Jvm.MethodName) prog_29_method_65_code (2 : Nat) (Option.some Jvm.ClassFile.FieldType.int)) ∈ lw_all := lw_g (lw_at lw_m3 82 rfl) rfl
theorem q735 : (Jvm.Cond.constant "jdk/internal/util/ArraysSupport" (200 : Nat) (2147483639 : Int32)) ∈ lw_all := lw_g (lw_at lw_m3 83 rfl) rfl
theorem q736 : (Jvm.Cond.methodLink "jdk/internal/util/ArraysSupport" (201 : Nat) ({ cls := "jdk/internal/util/ArraysSupport", name := "hugeLength", desc := "(II)I" } : Jvm.MethodName)) ∈ lw_all := lw_g (lw_at lw_m3 84 rfl) rfl
theorem q737 : (Jvm.Cond.static ({ cls := "jdk/internal/util/ArraysSupport", name := "hugeLength", desc := "(II)I" } : Jvm.MethodName)) ∈ lw_all := lw_g (lw_at lw_m3 85 rfl) rfl
theorem q738 : (Jvm.Cond.code ({ cls := "jdk/internal/util/ArraysSupport", name := "hugeLength", desc := "(II)I" } : Jvm.MethodName) prog_40_method_28_code (3 : Nat) (Option.some Jvm.ClassFile.FieldType.int)) ∈ lw_all := lw_g (lw_at lw_m3 86 rfl) rfl
theorem q739 : (Jvm.Cond.constant "java/lang/AbstractStringBuilder" (39 : Nat) (2147483647 : Int32)) ∈ lw_all := lw_g (lw_at lw_m3 87 rfl) rfl
theorem q740 : (Jvm.Cond.methodLink "java/lang/AbstractStringBuilder" (108 : Nat) ({ cls := "java/util/Arrays", name := "copyOf", desc := "([BI)[B" } : Jvm.MethodName)) ∈ lw_all := lw_g (lw_at lw_m3 88 rfl) rfl
theorem q741 : (Jvm.Cond.static ({ cls := "java/util/Arrays", name := "copyOf", desc := "([BI)[B" } : Jvm.MethodName)) ∈ lw_all := lw_g (lw_at lw_m3 89 rfl) rfl
theorem q742 : (Jvm.Cond.code ({ cls := "java/util/Arrays", name := "copyOf", desc := "([BI)[B" } : Jvm.MethodName) prog_38_method_121_code (3 : Nat) (Option.some (Jvm.ClassFile.FieldType.array Jvm.ClassFile.FieldType.byte))) ∈ lw_all := lw_g (lw_at lw_m3 90 rfl) rfl
theorem q743 : (Jvm.Cond.methodLink "java/util/Arrays" (310 : Nat) ({ cls := "[B", name := "clone", desc := "()Ljava/lang/Object;" } : Jvm.MethodName)) ∈ lw_all := lw_g (lw_at lw_m3 91 rfl) rfl
theorem q744 : (Jvm.Cond.sameMethod "[B" "java/lang/Object" "clone" "()Ljava/lang/Object;") ∈ lw_all := lw_g (lw_at lw_m3 92 rfl) rfl
theorem q745 : (Jvm.Cond.native ({ cls := "java/lang/Object", name := "clone", desc := "()Ljava/lang/Object;" } : Jvm.MethodName)) ∈ lw_all := lw_g (lw_at lw_m3 93 rfl) rfl
theorem q746 : (Jvm.Cond.instanceMethod ({ cls := "java/lang/Object", name := "clone", desc := "()Ljava/lang/Object;" } : Jvm.MethodName)) ∈ lw_all := lw_g (lw_at lw_m3 94 rfl) rfl
theorem q747 : (Jvm.Cond.selects "[B" ({ cls := "[B", name := "clone", desc := "()Ljava/lang/Object;" } : Jvm.MethodName) ({ cls := "java/lang/Object", name := "clone", desc := "()Ljava/lang/Object;" } : Jvm.MethodName)) ∈ lw_all := lw_g (lw_at lw_m3 95 rfl) rfl
theorem q748 : (Jvm.Cond.castable "[B" "java/lang/Cloneable") ∈ lw_tbl := lw_at lw_m3 96 rfl
theorem q749 : (Jvm.Cond.classLink "java/util/Arrays" (311 : Nat) "[B") ∈ lw_all := lw_g (lw_at lw_m3 97 rfl) rfl
theorem q750 : (Jvm.Cond.methodLink "java/util/Arrays" (304 : Nat) ({ cls := "java/lang/Math", name := "min", desc := "(II)I" } : Jvm.MethodName)) ∈ lw_all := lw_g (lw_at lw_m3 98 rfl) rfl
theorem q751 : (Jvm.Cond.static ({ cls := "java/lang/Math", name := "min", desc := "(II)I" } : Jvm.MethodName)) ∈ lw_all := lw_g (lw_at lw_m3 99 rfl) rfl
theorem q752 : (Jvm.Cond.code ({ cls := "java/lang/Math", name := "min", desc := "(II)I" } : Jvm.MethodName) prog_29_method_69_code (2 : Nat) (Option.some Jvm.ClassFile.FieldType.int)) ∈ lw_all := lw_g (lw_at lw_m3 100 rfl) rfl
theorem q753 : (Jvm.Cond.methodLink "java/util/Arrays" (150 : Nat) ({ cls := "java/lang/System", name := "arraycopy", desc := "(Ljava/lang/Object;ILjava/lang/Object;II)V" } : Jvm.MethodName)) ∈ lw_all := lw_g (lw_at lw_m3 101 rfl) rfl
theorem q754 : (Jvm.Cond.static ({ cls := "java/lang/System", name := "arraycopy", desc := "(Ljava/lang/Object;ILjava/lang/Object;II)V" } : Jvm.MethodName)) ∈ lw_all := lw_g (lw_at lw_m3 102 rfl) rfl
theorem q755 : (Jvm.Cond.native ({ cls := "java/lang/System", name := "arraycopy", desc := "(Ljava/lang/Object;ILjava/lang/Object;II)V" } : Jvm.MethodName)) ∈ lw_all := lw_g (lw_at lw_m3 103 rfl) rfl
theorem q756 : (Jvm.Cond.methodLink "java/lang/AbstractStringBuilder" (83 : Nat) ({ cls := "java/lang/AbstractStringBuilder", name := "isLatin1", desc := "()Z" } : Jvm.MethodName)) ∈ lw_all := lw_g (lw_at lw_m3 104 rfl) rfl
theorem q757 : (Jvm.Cond.instanceMethod ({ cls := "java/lang/AbstractStringBuilder", name := "isLatin1", desc := "()Z" } : Jvm.MethodName)) ∈ lw_all := lw_g (lw_at lw_m3 105 rfl) rfl
theorem q758 : (Jvm.Cond.sameMethod "java/lang/AbstractStringBuilder" "java/lang/AbstractStringBuilder" "isLatin1" "()Z") ∈ lw_all := lw_g (lw_at lw_m3 106 rfl) rfl
theorem q759 : (Jvm.Cond.selects "java/lang/StringBuilder" ({ cls := "java/lang/AbstractStringBuilder", name := "isLatin1", desc := "()Z" } : Jvm.MethodName) ({ cls := "java/lang/AbstractStringBuilder", name := "isLatin1", desc := "()Z" } : Jvm.MethodName)) ∈ lw_all := lw_g (lw_at lw_m3 107 rfl) rfl
theorem q760 : (Jvm.Cond.code ({ cls := "java/lang/AbstractStringBuilder", name := "isLatin1", desc := "()Z" } : Jvm.MethodName) prog_24_method_68_code (1 : Nat) (Option.some Jvm.ClassFile.FieldType.boolean)) ∈ lw_all := lw_g (lw_at lw_m3 108 rfl) rfl
theorem q761 : (Jvm.Cond.methodLink "java/lang/AbstractStringBuilder" (191 : Nat) ({ cls := "java/lang/StringLatin1", name := "canEncode", desc := "(C)Z" } : Jvm.MethodName)) ∈ lw_all := lw_g (lw_at lw_m3 109 rfl) rfl
theorem q762 : (Jvm.Cond.static ({ cls := "java/lang/StringLatin1", name := "canEncode", desc := "(C)Z" } : Jvm.MethodName)) ∈ lw_all := lw_g (lw_at lw_m3 110 rfl) rfl
theorem q763 : (Jvm.Cond.code ({ cls := "java/lang/StringLatin1", name := "canEncode", desc := "(C)Z" } : Jvm.MethodName) prog_33_method_3_code (1 : Nat) (Option.some Jvm.ClassFile.FieldType.boolean)) ∈ lw_all := lw_g (lw_at lw_m3 111 rfl) rfl
theorem q764 : (Jvm.Cond.methodLink "java/lang/AbstractStringBuilder" (195 : Nat) ({ cls := "java/lang/AbstractStringBuilder", name := "inflate", desc := "()V" } : Jvm.MethodName)) ∈ lw_all := lw_g (lw_at lw_m3 112 rfl) rfl
theorem q765 : (Jvm.Cond.privateMethod ({ cls := "java/lang/AbstractStringBuilder", name := "inflate", desc := "()V" } : Jvm.MethodName)) ∈ lw_tbl := lw_at lw_m3 113 rfl
theorem q766 : (Jvm.Cond.instanceMethod ({ cls := "java/lang/AbstractStringBuilder", name := "inflate", desc := "()V" } : Jvm.MethodName)) ∈ lw_all := lw_g (lw_at lw_m3 114 rfl) rfl
theorem q767 : (Jvm.Cond.code ({ cls := "java/lang/AbstractStringBuilder", name := "inflate", desc := "()V" } : Jvm.MethodName) prog_24_method_11_code (2 : Nat) (Option.none : Option Jvm.ClassFile.FieldType)) ∈ lw_all := lw_g (lw_at lw_m3 115 rfl) rfl
theorem q768 : (Jvm.Cond.methodLink "java/lang/AbstractStringBuilder" (125 : Nat) ({ cls := "java/lang/StringLatin1", name := "inflate", desc := "([BI[BII)V" } : Jvm.MethodName)) ∈ lw_all := lw_g (lw_at lw_m3 116 rfl) rfl
theorem q769 : (Jvm.Cond.static ({ cls := "java/lang/StringLatin1", name := "inflate", desc := "([BI[BII)V" } : Jvm.MethodName)) ∈ lw_all := lw_g (lw_at lw_m3 117 rfl) rfl
theorem q770 : (Jvm.Cond.code ({ cls := "java/lang/StringLatin1", name := "inflate", desc := "([BI[BII)V" } : Jvm.MethodName) prog_33_method_50_code (5 : Nat) (Option.none : Option Jvm.ClassFile.FieldType)) ∈ lw_all := lw_g (lw_at lw_m3 118 rfl) rfl
theorem q771 : (Jvm.Cond.methodLink "java/lang/StringLatin1" (240 : Nat) ({ cls := "java/lang/StringUTF16", name := "inflate", desc := "([BI[BII)V" } : Jvm.MethodName)) ∈ lw_all := lw_g (lw_at lw_m3 119 rfl) rfl
theorem q772 : (Jvm.Cond.static ({ cls := "java/lang/StringUTF16", name := "inflate", desc := "([BI[BII)V" } : Jvm.MethodName)) ∈ lw_all := lw_g (lw_at lw_m3 120 rfl) rfl
theorem q773 : (Jvm.Cond.code ({ cls := "java/lang/StringUTF16", name := "inflate", desc := "([BI[BII)V" } : Jvm.MethodName) prog_34_method_86_code (6 : Nat) (Option.none : Option Jvm.ClassFile.FieldType)) ∈ lw_all := lw_g (lw_at lw_m3 121 rfl) rfl
theorem q774 : (Jvm.Cond.methodLink "java/lang/StringUTF16" (173 : Nat) ({ cls := "java/lang/StringUTF16", name := "checkBoundsOffCount", desc := "(II[B)V" } : Jvm.MethodName)) ∈ lw_all := lw_g (lw_at lw_m3 122 rfl) rfl
theorem q775 : (Jvm.Cond.static ({ cls := "java/lang/StringUTF16", name := "checkBoundsOffCount", desc := "(II[B)V" } : Jvm.MethodName)) ∈ lw_all := lw_g (lw_at lw_m3 123 rfl) rfl
theorem q776 : (Jvm.Cond.code ({ cls := "java/lang/StringUTF16", name := "checkBoundsOffCount", desc := "(II[B)V" } : Jvm.MethodName) prog_34_method_94_code (3 : Nat) (Option.none : Option Jvm.ClassFile.FieldType)) ∈ lw_all := lw_g (lw_at lw_m3 124 rfl) rfl
theorem q777 : (Jvm.Cond.methodLink "java/lang/StringUTF16" (419 : Nat) ({ cls := "java/lang/String", name := "checkBoundsOffCount", desc := "(III)I" } : Jvm.MethodName)) ∈ lw_all := lw_g (lw_at lw_m3 125 rfl) rfl
theorem q778 : (Jvm.Cond.static ({ cls := "java/lang/String", name := "checkBoundsOffCount", desc := "(III)I" } : Jvm.MethodName)) ∈ lw_all := lw_g (lw_at lw_m3 126 rfl) rfl
theorem q779 : (Jvm.Cond.code ({ cls := "java/lang/String", name := "checkBoundsOffCount", desc := "(III)I" } : Jvm.MethodName) prog_31_method_157_code (3 : Nat) (Option.some Jvm.ClassFile.FieldType.int)) ∈ lw_all := lw_g (lw_at lw_m3 127 rfl) rfl
theorem q780 : (Jvm.Cond.methodLink "java/lang/String" (1065 : Nat) ({ cls := "jdk/internal/util/Preconditions", name := "checkFromIndexSize", desc := "(IIILjava/util/function/BiFunction;)I" } : Jvm.MethodName)) ∈ lw_all := lw_g (lw_at lw_m3 128 rfl) rfl
theorem q781 : (Jvm.Cond.static ({ cls := "jdk/internal/util/Preconditions", name := "checkFromIndexSize", desc := "(IIILjava/util/function/BiFunction;)I" } : Jvm.MethodName)) ∈ lw_all := lw_g (lw_at lw_m3 129 rfl) rfl
theorem q782 : (Jvm.Cond.code ({ cls := "jdk/internal/util/Preconditions", name := "checkFromIndexSize", desc := "(IIILjava/util/function/BiFunction;)I" } : Jvm.MethodName) prog_41_method_13_code (4 : Nat) (Option.some Jvm.ClassFile.FieldType.int)) ∈ lw_all := lw_g (lw_at lw_m3 130 rfl) rfl
theorem q783 : (Jvm.Cond.methodLink "java/lang/StringUTF16" (111 : Nat) ({ cls := "java/lang/StringUTF16", name := "putChar", desc := "([BII)V" } : Jvm.MethodName)) ∈ lw_all := lw_g (lw_at lw_m3 131 rfl) rfl
theorem q784 : (Jvm.Cond.static ({ cls := "java/lang/StringUTF16", name := "putChar", desc := "([BII)V" } : Jvm.MethodName)) ∈ lw_all := lw_g (lw_at lw_m3 132 rfl) rfl
theorem q785 : (Jvm.Cond.code ({ cls := "java/lang/StringUTF16", name := "putChar", desc := "([BII)V" } : Jvm.MethodName) prog_34_method_4_code (3 : Nat) (Option.none : Option Jvm.ClassFile.FieldType)) ∈ lw_all := lw_g (lw_at lw_m3 133 rfl) rfl
theorem q786 : (Jvm.Cond.methodLink "java/lang/AbstractStringBuilder" (197 : Nat) ({ cls := "java/lang/StringUTF16", name := "putCharSB", desc := "([BII)V" } : Jvm.MethodName)) ∈ lw_all := lw_g (lw_at lw_m3 134 rfl) rfl
theorem q787 : (Jvm.Cond.static ({ cls := "java/lang/StringUTF16", name := "putCharSB", desc := "([BII)V" } : Jvm.MethodName)) ∈ lw_all := lw_g (lw_at lw_m3 135 rfl) rfl
theorem q788 : (Jvm.Cond.code ({ cls := "java/lang/StringUTF16", name := "putCharSB", desc := "([BII)V" } : Jvm.MethodName) prog_34_method_71_code (3 : Nat) (Option.none : Option Jvm.ClassFile.FieldType)) ∈ lw_all := lw_g (lw_at lw_m3 136 rfl) rfl
theorem q789 : (Jvm.Cond.methodLink "SpendHouse$Reader" (54 : Nat) ({ cls := "java/lang/StringBuilder", name := "toString", desc := "()Ljava/lang/String;" } : Jvm.MethodName)) ∈ lw_all := lw_g (lw_at lw_m3 137 rfl) rfl
theorem q790 : (Jvm.Cond.instanceMethod ({ cls := "java/lang/StringBuilder", name := "toString", desc := "()Ljava/lang/String;" } : Jvm.MethodName)) ∈ lw_all := lw_g (lw_at lw_m3 138 rfl) rfl
theorem q791 : (Jvm.Cond.selects "java/lang/StringBuilder" ({ cls := "java/lang/StringBuilder", name := "toString", desc := "()Ljava/lang/String;" } : Jvm.MethodName) ({ cls := "java/lang/StringBuilder", name := "toString", desc := "()Ljava/lang/String;" } : Jvm.MethodName)) ∈ lw_all := lw_g (lw_at lw_m3 139 rfl) rfl
theorem q792 : (Jvm.Cond.code ({ cls := "java/lang/StringBuilder", name := "toString", desc := "()Ljava/lang/String;" } : Jvm.MethodName) prog_32_method_42_code (1 : Nat) (Option.some (Jvm.ClassFile.FieldType.object "java/lang/String"))) ∈ lw_all := lw_g (lw_at lw_m3 140 rfl) rfl
theorem q793 : (Jvm.Cond.classLink "java/lang/StringBuilder" (18 : Nat) "java/lang/String") ∈ lw_all := lw_g (lw_at lw_m3 141 rfl) rfl
theorem q794 : (Jvm.Cond.instantiable "java/lang/String" (4 : Nat)) ∈ lw_all := lw_g (lw_at lw_m3 142 rfl) rfl
theorem q795 : (Jvm.Cond.methodLink "java/lang/StringBuilder" (137 : Nat) ({ cls := "java/lang/String", name := "<init>", desc := "(Ljava/lang/StringBuilder;)V" } : Jvm.MethodName)) ∈ lw_all := lw_g (lw_at lw_m3 143 rfl) rfl
theorem q796 : (Jvm.Cond.instanceMethod ({ cls := "java/lang/String", name := "<init>", desc := "(Ljava/lang/StringBuilder;)V" } : Jvm.MethodName)) ∈ lw_all := lw_g (lw_at lw_m3 144 rfl) rfl
theorem q797 : (Jvm.Cond.code ({ cls := "java/lang/String", name := "<init>", desc := "(Ljava/lang/StringBuilder;)V" } : Jvm.MethodName) prog_31_method_53_code (2 : Nat) (Option.none : Option Jvm.ClassFile.FieldType)) ∈ lw_all := lw_g (lw_at lw_m3 145 rfl) rfl
theorem q798 : (Jvm.Cond.methodLink "java/lang/String" (489 : Nat) ({ cls := "java/lang/String", name := "<init>", desc := "(Ljava/lang/AbstractStringBuilder;Ljava/lang/Void;)V" } : Jvm.MethodName)) ∈ lw_all := lw_g (lw_at lw_m3 146 rfl) rfl
theorem q799 : (Jvm.Cond.instanceMethod ({ cls := "java/lang/String", name := "<init>", desc := "(Ljava/lang/AbstractStringBuilder;Ljava/lang/Void;)V" } : Jvm.MethodName)) ∈ lw_all := lw_g (lw_at lw_m3 147 rfl) rfl
theorem q800 : (Jvm.Cond.code ({ cls := "java/lang/String", name := "<init>", desc := "(Ljava/lang/AbstractStringBuilder;Ljava/lang/Void;)V" } : Jvm.MethodName) prog_31_method_150_code (5 : Nat) (Option.none : Option Jvm.ClassFile.FieldType)) ∈ lw_all := lw_g (lw_at lw_m3 148 rfl) rfl
theorem q801 : (Jvm.Cond.methodLink "java/lang/String" (1 : Nat) ({ cls := "java/lang/Object", name := "<init>", desc := "()V" } : Jvm.MethodName)) ∈ lw_all := lw_g (lw_at lw_m3 149 rfl) rfl
theorem q802 : (Jvm.Cond.methodLink "java/lang/String" (552 : Nat) ({ cls := "java/lang/AbstractStringBuilder", name := "getValue", desc := "()[B" } : Jvm.MethodName)) ∈ lw_all := lw_g (lw_at lw_m3 150 rfl) rfl
theorem q803 : (Jvm.Cond.instanceMethod ({ cls := "java/lang/AbstractStringBuilder", name := "getValue", desc := "()[B" } : Jvm.MethodName)) ∈ lw_all := lw_g (lw_at lw_m3 151 rfl) rfl
theorem q804 : (Jvm.Cond.sameMethod "java/lang/AbstractStringBuilder" "java/lang/AbstractStringBuilder" "getValue" "()[B") ∈ lw_all := lw_g (lw_at lw_m3 152 rfl) rfl
theorem q805 : (Jvm.Cond.selects "java/lang/StringBuilder" ({ cls := "java/lang/AbstractStringBuilder", name := "getValue", desc := "()[B" } : Jvm.MethodName) ({ cls := "java/lang/AbstractStringBuilder", name := "getValue", desc := "()[B" } : Jvm.MethodName)) ∈ lw_all := lw_g (lw_at lw_m3 153 rfl) rfl
theorem q806 : (Jvm.Cond.code ({ cls := "java/lang/AbstractStringBuilder", name := "getValue", desc := "()[B" } : Jvm.MethodName) prog_24_method_64_code (1 : Nat) (Option.some (Jvm.ClassFile.FieldType.array Jvm.ClassFile.FieldType.byte))) ∈ lw_all := lw_g (lw_at lw_m3 154 rfl) rfl
theorem q807 : (Jvm.Cond.methodLink "java/lang/String" (549 : Nat) ({ cls := "java/lang/AbstractStringBuilder", name := "length", desc := "()I" } : Jvm.MethodName)) ∈ lw_all := lw_g (lw_at lw_m3 155 rfl) rfl
theorem q808 : (Jvm.Cond.instanceMethod ({ cls := "java/lang/AbstractStringBuilder", name := "length", desc := "()I" } : Jvm.MethodName)) ∈ lw_all := lw_g (lw_at lw_m3 156 rfl) rfl
theorem q809 : (Jvm.Cond.sameMethod "java/lang/AbstractStringBuilder" "java/lang/AbstractStringBuilder" "length" "()I") ∈ lw_all := lw_g (lw_at lw_m3 157 rfl) rfl
theorem q810 : (Jvm.Cond.selects "java/lang/StringBuilder" ({ cls := "java/lang/AbstractStringBuilder", name := "length", desc := "()I" } : Jvm.MethodName) ({ cls := "java/lang/StringBuilder", name := "length", desc := "()I" } : Jvm.MethodName)) ∈ lw_all := lw_g (lw_at lw_m3 158 rfl) rfl
theorem q811 : (Jvm.Cond.instanceMethod ({ cls := "java/lang/StringBuilder", name := "length", desc := "()I" } : Jvm.MethodName)) ∈ lw_all := lw_g (lw_at lw_m3 159 rfl) rfl
theorem q812 : (Jvm.Cond.code ({ cls := "java/lang/StringBuilder", name := "length", desc := "()I" } : Jvm.MethodName) prog_32_method_93_code (1 : Nat) (Option.some Jvm.ClassFile.FieldType.int)) ∈ lw_all := lw_g (lw_at lw_m3 160 rfl) rfl
theorem q813 : (Jvm.Cond.methodLink "java/lang/StringBuilder" (343 : Nat) ({ cls := "java/lang/AbstractStringBuilder", name := "length", desc := "()I" } : Jvm.MethodName)) ∈ lw_all := lw_g (lw_at lw_m3 161 rfl) rfl
theorem q814 : (Jvm.Cond.code ({ cls := "java/lang/AbstractStringBuilder", name := "length", desc := "()I" } : Jvm.MethodName) prog_24_method_6_code (1 : Nat) (Option.some Jvm.ClassFile.FieldType.int)) ∈ lw_all := lw_g (lw_at lw_m3 162 rfl) rfl
theorem q815 : (Jvm.Cond.methodLink "java/lang/String" (1047 : Nat) ({ cls := "java/lang/AbstractStringBuilder", name := "isLatin1", desc := "()Z" } : Jvm.MethodName)) ∈ lw_all := lw_g (lw_at lw_m3 163 rfl) rfl
theorem q816 : (Jvm.Cond.methodLink "java/lang/String" (54 : Nat) ({ cls := "java/util/Arrays", name := "copyOfRange", desc := "([BII)[B" } : Jvm.MethodName)) ∈ lw_all := lw_g (lw_at lw_m3 164 rfl) rfl
theorem q817 : (Jvm.Cond.static ({ cls := "java/util/Arrays", name := "copyOfRange", desc := "([BII)[B" } : Jvm.MethodName)) ∈ lw_all := lw_g (lw_at lw_m3 165 rfl) rfl
theorem q818 : (Jvm.Cond.code ({ cls := "java/util/Arrays", name := "copyOfRange", desc := "([BII)[B" } : Jvm.MethodName) prog_38_method_132_code (3 : Nat) (Option.some (Jvm.ClassFile.FieldType.array Jvm.ClassFile.FieldType.byte))) ∈ lw_all := lw_g (lw_at lw_m3 166 rfl) rfl
theorem q819 : (Jvm.Cond.methodLink "java/util/Arrays" (339 : Nat) ({ cls := "java/util/Arrays", name := "copyOfRangeByte", desc := "([BII)[B" } : Jvm.MethodName)) ∈ lw_all := lw_g (lw_at lw_m3 167 rfl) rfl
theorem q820 : (Jvm.Cond.static ({ cls := "java/util/Arrays", name := "copyOfRangeByte", desc := "([BII)[B" } : Jvm.MethodName)) ∈ lw_all := lw_g (lw_at lw_m3 168 rfl) rfl
theorem q821 : (Jvm.Cond.code ({ cls := "java/util/Arrays", name := "copyOfRangeByte", desc := "([BII)[B" } : Jvm.MethodName) prog_38_method_133_code (5 : Nat) (Option.some (Jvm.ClassFile.FieldType.array Jvm.ClassFile.FieldType.byte))) ∈ lw_all := lw_g (lw_at lw_m3 169 rfl) rfl
theorem q822 : (Jvm.Cond.methodLink "java/util/Arrays" (343 : Nat) ({ cls := "java/util/Arrays", name := "checkLength", desc := "(II)V" } : Jvm.MethodName)) ∈ lw_all := lw_g (lw_at lw_m3 170 rfl) rfl
theorem q823 : (Jvm.Cond.static ({ cls := "java/util/Arrays", name := "checkLength", desc := "(II)V" } : Jvm.MethodName)) ∈ lw_all := lw_g (lw_at lw_m3 171 rfl) rfl
theorem q824 : (Jvm.Cond.code ({ cls := "java/util/Arrays", name := "checkLength", desc := "(II)V" } : Jvm.MethodName) prog_38_method_131_code (2 : Nat) (Option.none : Option Jvm.ClassFile.FieldType)) ∈ lw_all := lw_g (lw_at lw_m3 172 rfl) rfl
theorem q825 : (Jvm.Cond.methodLink "java/lang/String" (1051 : Nat) ({ cls := "java/lang/StringUTF16", name := "compress", desc := "([BII)[B" } : Jvm.MethodName)) ∈ lw_all := lw_g (lw_at lw_m3 173 rfl) rfl
theorem q826 : (Jvm.Cond.static ({ cls := "java/lang/StringUTF16", name := "compress", desc := "([BII)[B" } : Jvm.MethodName)) ∈ lw_all := lw_g (lw_at lw_m3 174 rfl) rfl
theorem q827 : (Jvm.Cond.code ({ cls := "java/lang/StringUTF16", name := "compress", desc := "([BII)[B" } : Jvm.MethodName) prog_34_method_17_code (6 : Nat) (Option.some (Jvm.ClassFile.FieldType.array Jvm.ClassFile.FieldType.byte))) ∈ lw_all := lw_g (lw_at lw_m3 175 rfl) rfl
theorem q828 : (Jvm.Cond.methodLink "java/lang/StringUTF16" (123 : Nat) ({ cls := "java/lang/StringUTF16", name := "compress", desc := "([BI[BII)I" } : Jvm.MethodName)) ∈ lw_all := lw_g (lw_at lw_m3 176 rfl) rfl
theorem q829 : (Jvm.Cond.static ({ cls := "java/lang/StringUTF16", name := "compress", desc := "([BI[BII)I" } : Jvm.MethodName)) ∈ lw_all := lw_g (lw_at lw_m3 177 rfl) rfl
theorem q830 : (Jvm.Cond.code ({ cls := "java/lang/StringUTF16", name := "compress", desc := "([BI[BII)I" } : Jvm.MethodName) prog_34_method_22_code (7 : Nat) (Option.some Jvm.ClassFile.FieldType.int)) ∈ lw_all := lw_g (lw_at lw_m3 178 rfl) rfl
theorem q831 : (Jvm.Cond.methodLink "java/lang/StringUTF16" (126 : Nat) ({ cls := "java/util/Arrays", name := "copyOfRange", desc := "([BII)[B" } : Jvm.MethodName)) ∈ lw_all := lw_g (lw_at lw_m3 179 rfl) rfl
theorem q832 : (Jvm.Cond.methodLink "java/lang/String" (47 : Nat) ({ cls := "java/lang/StringUTF16", name := "coderFromArrayLen", desc := "([BI)B" } : Jvm.MethodName)) ∈ lw_all := lw_g (lw_at lw_m3 180 rfl) rfl
theorem q833 : (Jvm.Cond.static ({ cls := "java/lang/StringUTF16", name := "coderFromArrayLen", desc := "([BI)B" } : Jvm.MethodName)) ∈ lw_all := lw_g (lw_at lw_m3 181 rfl) rfl
theorem q834 : (Jvm.Cond.code ({ cls := "java/lang/StringUTF16", name := "coderFromArrayLen", desc := "([BI)B" } : Jvm.MethodName) prog_34_method_15_code (2 : Nat) (Option.some Jvm.ClassFile.FieldType.byte)) ∈ lw_all := lw_g (lw_at lw_m3 182 rfl) rfl
theorem q835 : (Jvm.Cond.fieldLink "java/lang/String" (9 : Nat) "java/lang/String" "value" "[B") ∈ lw_all := lw_g (lw_at lw_m3 183 rfl) rfl
theorem q836 : (Jvm.Cond.fieldLink "java/lang/String" (15 : Nat) "java/lang/String" "coder" "B") ∈ lw_all := lw_g (lw_at lw_m3 184 rfl) rfl
theorem q837 : (Jvm.Cond.fieldLink "java/lang/String" (19 : Nat) "java/lang/String" "hash" "I") ∈ lw_all := lw_g (lw_at lw_m3 185 rfl) rfl
theorem q838 : (Jvm.Cond.fieldLink "java/lang/String" (23 : Nat) "java/lang/String" "hashIsZero" "Z") ∈ lw_all := lw_g (lw_at lw_m3 186 rfl) rfl
theorem q839 : (Jvm.Cond.laysFinal "java/lang/String" "java/lang/String" "value" "[B") ∈ lw_all := lw_g (lw_at lw_m3 187 rfl) rfl
theorem q841 : (Jvm.Cond.laysFinal "java/lang/String" "java/lang/String" "coder" "B") ∈ lw_all := lw_g (lw_at lw_m3 189 rfl) rfl
theorem q843 : (Jvm.Cond.lays "java/lang/String" "java/lang/String" "hash" "I") ∈ lw_all := lw_g (lw_at lw_m3 191 rfl) rfl
theorem q845 : (Jvm.Cond.lays "java/lang/String" "java/lang/String" "hashIsZero" "Z") ∈ lw_all := lw_g (lw_at lw_m3 193 rfl) rfl
theorem q847 : (Jvm.Cond.superclass "java/lang/String" "java/lang/Object") ∈ lw_all := lw_g (lw_at lw_m3 195 rfl) rfl
theorem q848 : (Jvm.Cond.stringRef "SpendHouse$Reader" (99 : Nat) "pk") ∈ lw_tbl := lw_at lw_m3 196 rfl
theorem q849 : (Jvm.Cond.methodLink "SpendHouse$Reader" (93 : Nat) ({ cls := "java/lang/String", name := "equals", desc := "(Ljava/lang/Object;)Z" } : Jvm.MethodName)) ∈ lw_all := lw_g (lw_at lw_m3 197 rfl) rfl
theorem q850 : (Jvm.Cond.instanceMethod ({ cls := "java/lang/String", name := "equals", desc := "(Ljava/lang/Object;)Z" } : Jvm.MethodName)) ∈ lw_all := lw_g (lw_at lw_m3 198 rfl) rfl
theorem q851 : (Jvm.Cond.selects "java/lang/String" ({ cls := "java/lang/String", name := "equals", desc := "(Ljava/lang/Object;)Z" } : Jvm.MethodName) ({ cls := "java/lang/String", name := "equals", desc := "(Ljava/lang/Object;)Z" } : Jvm.MethodName)) ∈ lw_all := lw_g (lw_at lw_m3 199 rfl) rfl
theorem q852 : (Jvm.Cond.code ({ cls := "java/lang/String", name := "equals", desc := "(Ljava/lang/Object;)Z" } : Jvm.MethodName) prog_31_method_66_code (3 : Nat) (Option.some Jvm.ClassFile.FieldType.boolean)) ∈ lw_all := lw_g (lw_at lw_m3 200 rfl) rfl
theorem q853 : (Jvm.Cond.classLink "java/lang/String" (10 : Nat) "java/lang/String") ∈ lw_all := lw_g (lw_at lw_m3 201 rfl) rfl
theorem q854 : (Jvm.Cond.methodLink "java/lang/String" (541 : Nat) ({ cls := "java/lang/StringLatin1", name := "equals", desc := "([B[B)Z" } : Jvm.MethodName)) ∈ lw_all := lw_g (lw_at lw_m3 202 rfl) rfl
theorem q855 : (Jvm.Cond.static ({ cls := "java/lang/StringLatin1", name := "equals", desc := "([B[B)Z" } : Jvm.MethodName)) ∈ lw_all := lw_g (lw_at lw_m3 203 rfl) rfl
theorem q856 : (Jvm.Cond.code ({ cls := "java/lang/StringLatin1", name := "equals", desc := "([B[B)Z" } : Jvm.MethodName) prog_33_method_13_code (3 : Nat) (Option.some Jvm.ClassFile.FieldType.boolean)) ∈ lw_all := lw_g (lw_at lw_m3 204 rfl) rfl
theorem q857 : (Jvm.Cond.stringRef "SpendHouse$Reader" (107 : Nat) "older") ∈ lw_tbl := lw_at lw_m3 205 rfl
theorem q858 : (Jvm.Cond.stringRef "SpendHouse$Reader" (109 : Nat) "after") ∈ lw_tbl := lw_at lw_m3 206 rfl
theorem q859 : (Jvm.Cond.stringRef "SpendHouse$Reader" (231 : Nat) "and") ∈ lw_tbl := lw_at lw_m3 207 rfl
theorem q860 : (Jvm.Cond.stringRef "SpendHouse$Reader" (233 : Nat) "or") ∈ lw_tbl := lw_at lw_m3 208 rfl
theorem q861 : (Jvm.Cond.stringRef "SpendHouse$Reader" (113 : Nat) "thresh") ∈ lw_tbl := lw_at lw_m3 209 rfl
theorem q862 : (Jvm.Cond.methodLinkNest "SpendHouse$Reader" (163 : Nat) ({ cls := "SpendHouse", name := "hashed", desc := "(I)Ljava/lang/String;" } : Jvm.MethodName) "SpendHouse") ∈ lw_tbl := lw_at lw_m3 210 rfl
theorem q863 : (Jvm.Cond.static ({ cls := "SpendHouse", name := "hashed", desc := "(I)Ljava/lang/String;" } : Jvm.MethodName)) ∈ lw_all := lw_g (lw_at lw_m3 211 rfl) rfl
theorem q864 : (Jvm.Cond.code ({ cls := "SpendHouse", name := "hashed", desc := "(I)Ljava/lang/String;" } : Jvm.MethodName) prog_1_method_8_code (1 : Nat) (Option.some (Jvm.ClassFile.FieldType.object "java/lang/String"))) ∈ lw_all := lw_g (lw_at lw_m3 212 rfl) rfl
theorem q865 : (Jvm.Cond.stringRef "SpendHouse" (108 : Nat) "sha256") ∈ lw_tbl := lw_at lw_m3 213 rfl
theorem q866 : (Jvm.Cond.stringRef "SpendHouse" (110 : Nat) "hash256") ∈ lw_tbl := lw_at lw_m3 214 rfl
theorem q867 : (Jvm.Cond.stringRef "SpendHouse" (112 : Nat) "ripemd160") ∈ lw_tbl := lw_at lw_m3 215 rfl
theorem q868 : (Jvm.Cond.stringRef "SpendHouse" (114 : Nat) "hash160") ∈ lw_tbl := lw_at lw_m3 216 rfl
theorem q869 : (Jvm.Cond.methodLink "SpendHouse$Reader" (119 : Nat) ({ cls := "SpendHouse$Reader", name := "begins", desc := "(III)V" } : Jvm.MethodName)) ∈ lw_all := lw_g (lw_at lw_m3 217 rfl) rfl
theorem q870 : (Jvm.Cond.privateMethod ({ cls := "SpendHouse$Reader", name := "begins", desc := "(III)V" } : Jvm.MethodName)) ∈ lw_tbl := lw_at lw_m3 218 rfl
theorem q871 : (Jvm.Cond.instanceMethod ({ cls := "SpendHouse$Reader", name := "begins", desc := "(III)V" } : Jvm.MethodName)) ∈ lw_all := lw_g (lw_at lw_m3 219 rfl) rfl
theorem q872 : (Jvm.Cond.code ({ cls := "SpendHouse$Reader", name := "begins", desc := "(III)V" } : Jvm.MethodName) prog_16_method_7_code (4 : Nat) (Option.none : Option Jvm.ClassFile.FieldType)) ∈ lw_all := lw_g (lw_at lw_m3 220 rfl) rfl
theorem q873 : (Jvm.Cond.methodLink "SpendHouse$Reader" (75 : Nat) ({ cls := "java/lang/String", name := "length", desc := "()I" } : Jvm.MethodName)) ∈ lw_all := lw_g (lw_at lw_m3 221 rfl) rfl
theorem q874 : (Jvm.Cond.instanceMethod ({ cls := "java/lang/String", name := "length", desc := "()I" } : Jvm.MethodName)) ∈ lw_all := lw_g (lw_at lw_m3 222 rfl) rfl
theorem q875 : (Jvm.Cond.selects "java/lang/String" ({ cls := "java/lang/String", name := "length", desc := "()I" } : Jvm.MethodName) ({ cls := "java/lang/String", name := "length", desc := "()I" } : Jvm.MethodName)) ∈ lw_all := lw_g (lw_at lw_m3 223 rfl) rfl
theorem q876 : (Jvm.Cond.code ({ cls := "java/lang/String", name := "length", desc := "()I" } : Jvm.MethodName) prog_31_method_54_code (1 : Nat) (Option.some Jvm.ClassFile.FieldType.int)) ∈ lw_all := lw_g (lw_at lw_m3 224 rfl) rfl
theorem q877 : (Jvm.Cond.methodLink "java/lang/String" (335 : Nat) ({ cls := "java/lang/String", name := "coder", desc := "()B" } : Jvm.MethodName)) ∈ lw_all := lw_g (lw_at lw_m3 225 rfl) rfl
theorem q878 : (Jvm.Cond.instanceMethod ({ cls := "java/lang/String", name := "coder", desc := "()B" } : Jvm.MethodName)) ∈ lw_all := lw_g (lw_at lw_m3 226 rfl) rfl
theorem q879 : (Jvm.Cond.selects "java/lang/String" ({ cls := "java/lang/String", name := "coder", desc := "()B" } : Jvm.MethodName) ({ cls := "java/lang/String", name := "coder", desc := "()B" } : Jvm.MethodName)) ∈ lw_all := lw_g (lw_at lw_m3 227 rfl) rfl
theorem q880 : (Jvm.Cond.code ({ cls := "java/lang/String", name := "coder", desc := "()B" } : Jvm.MethodName) prog_31_method_152_code (1 : Nat) (Option.some Jvm.ClassFile.FieldType.byte)) ∈ lw_all := lw_g (lw_at lw_m3 228 rfl) rfl
theorem q881 : (Jvm.Cond.methodLink "SpendHouse$Reader" (88 : Nat) ({ cls := "java/lang/String", name := "hashCode", desc := "()I" } : Jvm.MethodName)) ∈ lw_all := lw_g (lw_at lw_m3 229 rfl) rfl
theorem q882 : (Jvm.Cond.instanceMethod ({ cls := "java/lang/String", name := "hashCode", desc := "()I" } : Jvm.MethodName)) ∈ lw_all := lw_g (lw_at lw_m3 230 rfl) rfl
theorem q883 : (Jvm.Cond.selects "java/lang/String" ({ cls := "java/lang/String", name := "hashCode", desc := "()I" } : Jvm.MethodName) ({ cls := "java/lang/String", name := "hashCode", desc := "()I" } : Jvm.MethodName)) ∈ lw_all := lw_g (lw_at lw_m3 231 rfl) rfl
theorem q884 : (Jvm.Cond.code ({ cls := "java/lang/String", name := "hashCode", desc := "()I" } : Jvm.MethodName) prog_31_method_78_code (2 : Nat) (Option.some Jvm.ClassFile.FieldType.int)) ∈ lw_all := lw_g (lw_at lw_m3 232 rfl) rfl
theorem q885 : (Jvm.Cond.methodLink "java/lang/String" (628 : Nat) ({ cls := "java/lang/StringLatin1", name := "hashCode", desc := "([B)I" } : Jvm.MethodName)) ∈ lw_all := lw_g (lw_at lw_m3 233 rfl) rfl
theorem q886 : (Jvm.Cond.static ({ cls := "java/lang/StringLatin1", name := "hashCode", desc := "([B)I" } : Jvm.MethodName)) ∈ lw_all := lw_g (lw_at lw_m3 234 rfl) rfl
theorem q887 : (Jvm.Cond.code ({ cls := "java/lang/StringLatin1", name := "hashCode", desc := "([B)I" } : Jvm.MethodName) prog_33_method_21_code (1 : Nat) (Option.some Jvm.ClassFile.FieldType.int)) ∈ lw_all := lw_g (lw_at lw_m3 235 rfl) rfl
theorem q888 : (Jvm.Cond.methodLink "java/lang/StringLatin1" (84 : Nat) ({ cls := "jdk/internal/util/ArraysSupport", name := "vectorizedHashCode", desc := "(Ljava/lang/Object;IIII)I" } : Jvm.MethodName)) ∈ lw_all := lw_g (lw_at lw_m3 236 rfl) rfl
theorem q889 : (Jvm.Cond.static ({ cls := "jdk/internal/util/ArraysSupport", name := "vectorizedHashCode", desc := "(Ljava/lang/Object;IIII)I" } : Jvm.MethodName)) ∈ lw_all := lw_g (lw_at lw_m3 237 rfl) rfl
theorem q890 : (Jvm.Cond.code ({ cls := "jdk/internal/util/ArraysSupport", name := "vectorizedHashCode", desc := "(Ljava/lang/Object;IIII)I" } : Jvm.MethodName) prog_40_method_4_code (5 : Nat) (Option.some Jvm.ClassFile.FieldType.int)) ∈ lw_all := lw_g (lw_at lw_m3 238 rfl) rfl
theorem q891 : (Jvm.Cond.classLink "jdk/internal/util/ArraysSupport" (60 : Nat) "[B") ∈ lw_all := lw_g (lw_at lw_m3 239 rfl) rfl
theorem q892 : (Jvm.Cond.methodLink "jdk/internal/util/ArraysSupport" (62 : Nat) ({ cls := "jdk/internal/util/ArraysSupport", name := "signedHashCode", desc := "(I[BII)I" } : Jvm.MethodName)) ∈ lw_all := lw_g (lw_at lw_m4 0 rfl) rfl
theorem q893 : (Jvm.Cond.static ({ cls := "jdk/internal/util/ArraysSupport", name := "signedHashCode", desc := "(I[BII)I" } : Jvm.MethodName)) ∈ lw_all := lw_g (lw_at lw_m4 1 rfl) rfl
theorem q894 : (Jvm.Cond.code ({ cls := "jdk/internal/util/ArraysSupport", name := "signedHashCode", desc := "(I[BII)I" } : Jvm.MethodName) prog_40_method_5_code (6 : Nat) (Option.some Jvm.ClassFile.FieldType.int)) ∈ lw_all := lw_g (lw_at lw_m4 2 rfl) rfl
theorem q895 : (Jvm.Cond.methodLink "jdk/internal/util/ArraysSupport" (66 : Nat) ({ cls := "jdk/internal/util/ArraysSupport", name := "utf16hashCode", desc := "(I[BII)I" } : Jvm.MethodName)) ∈ lw_all := lw_g (lw_at lw_m4 3 rfl) rfl
theorem q896 : (Jvm.Cond.static ({ cls := "jdk/internal/util/ArraysSupport", name := "utf16hashCode", desc := "(I[BII)I" } : Jvm.MethodName)) ∈ lw_all := lw_g (lw_at lw_m4 4 rfl) rfl
theorem q897 : (Jvm.Cond.code ({ cls := "jdk/internal/util/ArraysSupport", name := "utf16hashCode", desc := "(I[BII)I" } : Jvm.MethodName) prog_40_method_10_code (6 : Nat) (Option.some Jvm.ClassFile.FieldType.int)) ∈ lw_all := lw_g (lw_at lw_m4 5 rfl) rfl
theorem q898 : (Jvm.Cond.fieldLink "jdk/internal/util/ArraysSupport" (106 : Nat) "jdk/internal/util/ArraysSupport" "JLA" "Ljdk/internal/access/JavaLangAccess;") ∈ lw_all := lw_g (lw_at lw_m4 6 rfl) rfl
theorem q899 : (Jvm.Cond.laysStatic "jdk/internal/util/ArraysSupport" "JLA" "Ljdk/internal/access/JavaLangAccess;") ∈ lw_tbl := lw_at lw_m4 7 rfl
theorem q900 : (Jvm.Cond.interfaceEntry "jdk/internal/util/ArraysSupport" (110 : Nat)) ∈ lw_tbl := lw_at lw_m4 8 rfl
theorem q901 : (Jvm.Cond.methodLink "jdk/internal/util/ArraysSupport" (110 : Nat) ({ cls := "jdk/internal/access/JavaLangAccess", name := "getUTF16Char", desc := "([BI)C" } : Jvm.MethodName)) ∈ lw_all := lw_g (lw_at lw_m4 9 rfl) rfl
theorem q902 : (Jvm.Cond.interfaceMethod "jdk/internal/access/JavaLangAccess" "jdk/internal/access/JavaLangAccess" "getUTF16Char" "([BI)C") ∈ lw_tbl := lw_at lw_m4 10 rfl
theorem q903 : (Jvm.Cond.declares ({ cls := "jdk/internal/access/JavaLangAccess", name := "getUTF16Char", desc := "([BI)C" } : Jvm.MethodName)) ∈ lw_tbl := lw_at lw_m4 11 rfl
theorem q904 : (Jvm.Cond.castable "java/lang/System$2" "jdk/internal/access/JavaLangAccess") ∈ lw_tbl := lw_at lw_m4 12 rfl
theorem q905 : (Jvm.Cond.selects "java/lang/System$2" ({ cls := "jdk/internal/access/JavaLangAccess", name := "getUTF16Char", desc := "([BI)C" } : Jvm.MethodName) ({ cls := "java/lang/System$2", name := "getUTF16Char", desc := "([BI)C" } : Jvm.MethodName)) ∈ lw_all := lw_g (lw_at lw_m4 13 rfl) rfl
theorem q906 : (Jvm.Cond.unhidden "java/lang/System$2" "getUTF16Char" "([BI)C") ∈ lw_tbl := lw_at lw_m4 14 rfl
theorem q907 : (Jvm.Cond.instanceMethod ({ cls := "java/lang/System$2", name := "getUTF16Char", desc := "([BI)C" } : Jvm.MethodName)) ∈ lw_all := lw_g (lw_at lw_m4 15 rfl) rfl
theorem q908 : (Jvm.Cond.publicMethod ({ cls := "java/lang/System$2", name := "getUTF16Char", desc := "([BI)C" } : Jvm.MethodName)) ∈ lw_tbl := lw_at lw_m4 16 rfl
theorem q909 : (Jvm.Cond.code ({ cls := "java/lang/System$2", name := "getUTF16Char", desc := "([BI)C" } : Jvm.MethodName) prog_36_method_45_code (3 : Nat) (Option.some Jvm.ClassFile.FieldType.char)) ∈ lw_all := lw_g (lw_at lw_m4 17 rfl) rfl
theorem q910 : (Jvm.Cond.methodLink "java/lang/System$2" (185 : Nat) ({ cls := "java/lang/StringUTF16", name := "getChar", desc := "([BI)C" } : Jvm.MethodName)) ∈ lw_all := lw_g (lw_at lw_m4 18 rfl) rfl
theorem q911 : (Jvm.Cond.classLink "jdk/internal/util/ArraysSupport" (69 : Nat) "[C") ∈ lw_all := lw_g (lw_at lw_m4 19 rfl) rfl
theorem q912 : (Jvm.Cond.methodLink "jdk/internal/util/ArraysSupport" (71 : Nat) ({ cls := "jdk/internal/util/ArraysSupport", name := "hashCode", desc := "(I[CII)I" } : Jvm.MethodName)) ∈ lw_all := lw_g (lw_at lw_m4 20 rfl) rfl
theorem q913 : (Jvm.Cond.static ({ cls := "jdk/internal/util/ArraysSupport", name := "hashCode", desc := "(I[CII)I" } : Jvm.MethodName)) ∈ lw_all := lw_g (lw_at lw_m4 21 rfl) rfl
theorem q914 : (Jvm.Cond.code ({ cls := "jdk/internal/util/ArraysSupport", name := "hashCode", desc := "(I[CII)I" } : Jvm.MethodName) prog_40_method_7_code (6 : Nat) (Option.some Jvm.ClassFile.FieldType.int)) ∈ lw_all := lw_g (lw_at lw_m4 22 rfl) rfl
theorem q915 : (Jvm.Cond.methodLink "jdk/internal/util/ArraysSupport" (75 : Nat) ({ cls := "jdk/internal/util/ArraysSupport", name := "hashCode", desc := "(I[BII)I" } : Jvm.MethodName)) ∈ lw_all := lw_g (lw_at lw_m4 23 rfl) rfl
theorem q916 : (Jvm.Cond.static ({ cls := "jdk/internal/util/ArraysSupport", name := "hashCode", desc := "(I[BII)I" } : Jvm.MethodName)) ∈ lw_all := lw_g (lw_at lw_m4 24 rfl) rfl
theorem q917 : (Jvm.Cond.code ({ cls := "jdk/internal/util/ArraysSupport", name := "hashCode", desc := "(I[BII)I" } : Jvm.MethodName) prog_40_method_6_code (6 : Nat) (Option.some Jvm.ClassFile.FieldType.int)) ∈ lw_all := lw_g (lw_at lw_m4 25 rfl) rfl
theorem q918 : (Jvm.Cond.classLink "jdk/internal/util/ArraysSupport" (77 : Nat) "[S") ∈ lw_all := lw_g (lw_at lw_m4 26 rfl) rfl
theorem q919 : (Jvm.Cond.methodLink "jdk/internal/util/ArraysSupport" (79 : Nat) ({ cls := "jdk/internal/util/ArraysSupport", name := "hashCode", desc := "(I[SII)I" } : Jvm.MethodName)) ∈ lw_all := lw_g (lw_at lw_m4 27 rfl) rfl
theorem q920 : (Jvm.Cond.static ({ cls := "jdk/internal/util/ArraysSupport", name := "hashCode", desc := "(I[SII)I" } : Jvm.MethodName)) ∈ lw_all := lw_g (lw_at lw_m4 28 rfl) rfl
theorem q921 : (Jvm.Cond.code ({ cls := "jdk/internal/util/ArraysSupport", name := "hashCode", desc := "(I[SII)I" } : Jvm.MethodName) prog_40_method_8_code (6 : Nat) (Option.some Jvm.ClassFile.FieldType.int)) ∈ lw_all := lw_g (lw_at lw_m4 29 rfl) rfl
theorem q922 : (Jvm.Cond.classLink "jdk/internal/util/ArraysSupport" (82 : Nat) "[I") ∈ lw_all := lw_g (lw_at lw_m4 30 rfl) rfl
theorem q923 : (Jvm.Cond.methodLink "jdk/internal/util/ArraysSupport" (84 : Nat) ({ cls := "jdk/internal/util/ArraysSupport", name := "hashCode", desc := "(I[III)I" } : Jvm.MethodName)) ∈ lw_all := lw_g (lw_at lw_m4 31 rfl) rfl
theorem q924 : (Jvm.Cond.static ({ cls := "jdk/internal/util/ArraysSupport", name := "hashCode", desc := "(I[III)I" } : Jvm.MethodName)) ∈ lw_all := lw_g (lw_at lw_m4 32 rfl) rfl
theorem q925 : (Jvm.Cond.code ({ cls := "jdk/internal/util/ArraysSupport", name := "hashCode", desc := "(I[III)I" } : Jvm.MethodName) prog_40_method_9_code (6 : Nat) (Option.some Jvm.ClassFile.FieldType.int)) ∈ lw_all := lw_g (lw_at lw_m4 33 rfl) rfl
theorem q926 : (Jvm.Cond.methodLink "java/lang/String" (632 : Nat) ({ cls := "java/lang/StringUTF16", name := "hashCode", desc := "([B)I" } : Jvm.MethodName)) ∈ lw_all := lw_g (lw_at lw_m4 34 rfl) rfl
theorem q927 : (Jvm.Cond.static ({ cls := "java/lang/StringUTF16", name := "hashCode", desc := "([B)I" } : Jvm.MethodName)) ∈ lw_all := lw_g (lw_at lw_m4 35 rfl) rfl
theorem q928 : (Jvm.Cond.code ({ cls := "java/lang/StringUTF16", name := "hashCode", desc := "([B)I" } : Jvm.MethodName) prog_34_method_39_code (1 : Nat) (Option.some Jvm.ClassFile.FieldType.int)) ∈ lw_all := lw_g (lw_at lw_m4 36 rfl) rfl
theorem q929 : (Jvm.Cond.methodLink "java/lang/StringUTF16" (220 : Nat) ({ cls := "jdk/internal/util/ArraysSupport", name := "vectorizedHashCode", desc := "(Ljava/lang/Object;IIII)I" } : Jvm.MethodName)) ∈ lw_all := lw_g (lw_at lw_m4 37 rfl) rfl
theorem q930 : (Jvm.Cond.classLink "SpendHouse$Reader" (235 : Nat) "SpendHouse$Policy") ∈ lw_all := lw_g (lw_at lw_m4 38 rfl) rfl
theorem q931 : (Jvm.Cond.instantiable "SpendHouse$Policy" (6 : Nat)) ∈ lw_all := lw_g (lw_at lw_m4 39 rfl) rfl
theorem q932 : (Jvm.Cond.classLink "SpendHouse$Reader" (136 : Nat) "SpendHouse$Wrapper") ∈ lw_all := lw_g (lw_at lw_m4 40 rfl) rfl
theorem q933 : (Jvm.Cond.instantiable "SpendHouse$Wrapper" (19 : Nat)) ∈ lw_all := lw_g (lw_at lw_m4 41 rfl) rfl
theorem q934 : (Jvm.Cond.methodLink "SpendHouse$Reader" (138 : Nat) ({ cls := "SpendHouse$Reader", name := "key", desc := "(IZ)LSpendHouse$Node;" } : Jvm.MethodName)) ∈ lw_all := lw_g (lw_at lw_m4 42 rfl) rfl
theorem q935 : (Jvm.Cond.privateMethod ({ cls := "SpendHouse$Reader", name := "key", desc := "(IZ)LSpendHouse$Node;" } : Jvm.MethodName)) ∈ lw_tbl := lw_at lw_m4 43 rfl
theorem q936 : (Jvm.Cond.instanceMethod ({ cls := "SpendHouse$Reader", name := "key", desc := "(IZ)LSpendHouse$Node;" } : Jvm.MethodName)) ∈ lw_all := lw_g (lw_at lw_m4 44 rfl) rfl
theorem q937 : (Jvm.Cond.code ({ cls := "SpendHouse$Reader", name := "key", desc := "(IZ)LSpendHouse$Node;" } : Jvm.MethodName) prog_16_method_17_code (4 : Nat) (Option.some (Jvm.ClassFile.FieldType.object "SpendHouse$Node"))) ∈ lw_all := lw_g (lw_at lw_m4 45 rfl) rfl
theorem q938 : (Jvm.Cond.methodLink "SpendHouse$Reader" (173 : Nat) ({ cls := "SpendHouse$Reader", name := "take", desc := "(I)V" } : Jvm.MethodName)) ∈ lw_all := lw_g (lw_at lw_m4 46 rfl) rfl
theorem q939 : (Jvm.Cond.privateMethod ({ cls := "SpendHouse$Reader", name := "take", desc := "(I)V" } : Jvm.MethodName)) ∈ lw_tbl := lw_at lw_m4 47 rfl
theorem q940 : (Jvm.Cond.instanceMethod ({ cls := "SpendHouse$Reader", name := "take", desc := "(I)V" } : Jvm.MethodName)) ∈ lw_all := lw_g (lw_at lw_m4 48 rfl) rfl
theorem q941 : (Jvm.Cond.code ({ cls := "SpendHouse$Reader", name := "take", desc := "(I)V" } : Jvm.MethodName) prog_16_method_4_code (2 : Nat) (Option.none : Option Jvm.ClassFile.FieldType)) ∈ lw_all := lw_g (lw_at lw_m4 49 rfl) rfl
theorem q942 : (Jvm.Cond.methodLink "SpendHouse$Reader" (31 : Nat) ({ cls := "SpendHouse$Reader", name := "here", desc := "()I" } : Jvm.MethodName)) ∈ lw_all := lw_g (lw_at lw_m4 50 rfl) rfl
theorem q943 : (Jvm.Cond.privateMethod ({ cls := "SpendHouse$Reader", name := "here", desc := "()I" } : Jvm.MethodName)) ∈ lw_tbl := lw_at lw_m4 51 rfl
theorem q944 : (Jvm.Cond.instanceMethod ({ cls := "SpendHouse$Reader", name := "here", desc := "()I" } : Jvm.MethodName)) ∈ lw_all := lw_g (lw_at lw_m4 52 rfl) rfl
theorem q945 : (Jvm.Cond.code ({ cls := "SpendHouse$Reader", name := "here", desc := "()I" } : Jvm.MethodName) prog_16_method_2_code (1 : Nat) (Option.some Jvm.ClassFile.FieldType.int)) ∈ lw_all := lw_g (lw_at lw_m4 53 rfl) rfl
theorem q946 : (Jvm.Cond.methodLink "SpendHouse$Reader" (195 : Nat) ({ cls := "SpendHouse$Reader", name := "key", desc := "()I" } : Jvm.MethodName)) ∈ lw_all := lw_g (lw_at lw_m4 54 rfl) rfl
theorem q947 : (Jvm.Cond.privateMethod ({ cls := "SpendHouse$Reader", name := "key", desc := "()I" } : Jvm.MethodName)) ∈ lw_tbl := lw_at lw_m4 55 rfl
theorem q948 : (Jvm.Cond.instanceMethod ({ cls := "SpendHouse$Reader", name := "key", desc := "()I" } : Jvm.MethodName)) ∈ lw_all := lw_g (lw_at lw_m4 56 rfl) rfl
theorem q949 : (Jvm.Cond.code ({ cls := "SpendHouse$Reader", name := "key", desc := "()I" } : Jvm.MethodName) prog_16_method_9_code (1 : Nat) (Option.some Jvm.ClassFile.FieldType.int)) ∈ lw_all := lw_g (lw_at lw_m4 57 rfl) rfl
theorem q950 : (Jvm.Cond.classLink "SpendHouse$Reader" (197 : Nat) "SpendHouse$Key") ∈ lw_all := lw_g (lw_at lw_m4 58 rfl) rfl
theorem q951 : (Jvm.Cond.instantiable "SpendHouse$Key" (20 : Nat)) ∈ lw_all := lw_g (lw_at lw_m4 59 rfl) rfl
theorem q952 : (Jvm.Cond.methodLink "SpendHouse$Reader" (199 : Nat) ({ cls := "SpendHouse$Key", name := "<init>", desc := "(LSpendHouse;IIZ)V" } : Jvm.MethodName)) ∈ lw_all := lw_g (lw_at lw_m4 60 rfl) rfl
theorem q953 : (Jvm.Cond.instanceMethod ({ cls := "SpendHouse$Key", name := "<init>", desc := "(LSpendHouse;IIZ)V" } : Jvm.MethodName)) ∈ lw_all := lw_g (lw_at lw_m4 61 rfl) rfl
theorem q954 : (Jvm.Cond.code ({ cls := "SpendHouse$Key", name := "<init>", desc := "(LSpendHouse;IIZ)V" } : Jvm.MethodName) prog_8_method_1_code (5 : Nat) (Option.none : Option Jvm.ClassFile.FieldType)) ∈ lw_all := lw_g (lw_at lw_m4 62 rfl) rfl
theorem q955 : (Jvm.Cond.methodLink "SpendHouse$Key" (9 : Nat) ({ cls := "SpendHouse$Leaf", name := "<init>", desc := "(LSpendHouse;I)V" } : Jvm.MethodName)) ∈ lw_all := lw_g (lw_at lw_m4 63 rfl) rfl
theorem q956 : (Jvm.Cond.instanceMethod ({ cls := "SpendHouse$Leaf", name := "<init>", desc := "(LSpendHouse;I)V" } : Jvm.MethodName)) ∈ lw_all := lw_g (lw_at lw_m4 64 rfl) rfl
theorem q957 : (Jvm.Cond.code ({ cls := "SpendHouse$Leaf", name := "<init>", desc := "(LSpendHouse;I)V" } : Jvm.MethodName) prog_9_method_1_code (3 : Nat) (Option.none : Option Jvm.ClassFile.FieldType)) ∈ lw_all := lw_g (lw_at lw_m4 65 rfl) rfl
theorem q958 : (Jvm.Cond.methodLink "SpendHouse$Leaf" (7 : Nat) ({ cls := "SpendHouse$Node", name := "<init>", desc := "(LSpendHouse;I)V" } : Jvm.MethodName)) ∈ lw_all := lw_g (lw_at lw_m4 66 rfl) rfl
theorem q959 : (Jvm.Cond.instanceMethod ({ cls := "SpendHouse$Node", name := "<init>", desc := "(LSpendHouse;I)V" } : Jvm.MethodName)) ∈ lw_all := lw_g (lw_at lw_m4 67 rfl) rfl
theorem q960 : (Jvm.Cond.code ({ cls := "SpendHouse$Node", name := "<init>", desc := "(LSpendHouse;I)V" } : Jvm.MethodName) prog_13_method_1_code (3 : Nat) (Option.none : Option Jvm.ClassFile.FieldType)) ∈ lw_all := lw_g (lw_at lw_m4 68 rfl) rfl
theorem q961 : (Jvm.Cond.methodLink "SpendHouse$Node" (9 : Nat) ({ cls := "java/lang/Object", name := "<init>", desc := "()V" } : Jvm.MethodName)) ∈ lw_all := lw_g (lw_at lw_m4 69 rfl) rfl
theorem q962 : (Jvm.Cond.fieldLink "SpendHouse$Key" (15 : Nat) "SpendHouse$Key" "key" "I") ∈ lw_all := lw_g (lw_at lw_m4 70 rfl) rfl
theorem q963 : (Jvm.Cond.fieldLinkNest "SpendHouse$Policy" (47 : Nat) "SpendHouse$Key" "key" "I" "SpendHouse") ∈ lw_tbl := lw_at lw_m4 71 rfl
theorem q964 : (Jvm.Cond.fieldLink "SpendHouse$Key" (19 : Nat) "SpendHouse$Key" "hashed" "Z") ∈ lw_all := lw_g (lw_at lw_m4 72 rfl) rfl
theorem q965 : (Jvm.Cond.fieldLink "SpendHouse$Key" (3 : Nat) "SpendHouse$Key" "this$0" "LSpendHouse;") ∈ lw_all := lw_g (lw_at lw_m4 73 rfl) rfl
theorem q966 : (Jvm.Cond.fieldLink "SpendHouse$Leaf" (1 : Nat) "SpendHouse$Leaf" "this$0" "LSpendHouse;") ∈ lw_all := lw_g (lw_at lw_m4 74 rfl) rfl
theorem q967 : (Jvm.Cond.fieldLink "SpendHouse$Node" (15 : Nat) "SpendHouse$Node" "place" "I") ∈ lw_all := lw_g (lw_at lw_m4 75 rfl) rfl
theorem q968 : (Jvm.Cond.fieldLinkNest "SpendHouse$AndOr" (29 : Nat) "SpendHouse$Node" "base" "I" "SpendHouse") ∈ lw_tbl := lw_at lw_m4 76 rfl
theorem q969 : (Jvm.Cond.fieldLinkNest "SpendHouse$Pair" (26 : Nat) "SpendHouse$Node" "base" "I" "SpendHouse") ∈ lw_tbl := lw_at lw_m4 77 rfl
theorem q970 : (Jvm.Cond.fieldLinkNest "SpendHouse$Wrapper" (23 : Nat) "SpendHouse$Node" "base" "I" "SpendHouse") ∈ lw_tbl := lw_at lw_m4 78 rfl
theorem q971 : (Jvm.Cond.fieldLink "SpendHouse$Node" (24 : Nat) "SpendHouse$Node" "base" "I") ∈ lw_all := lw_g (lw_at lw_m4 79 rfl) rfl
theorem q972 : (Jvm.Cond.fieldLinkNest "SpendHouse" (167 : Nat) "SpendHouse$Node" "base" "I" "SpendHouse") ∈ lw_tbl := lw_at lw_m4 80 rfl
theorem q973 : (Jvm.Cond.fieldLink "SpendHouse$Node" (55 : Nat) "SpendHouse$Node" "times" "I") ∈ lw_all := lw_g (lw_at lw_m4 81 rfl) rfl
theorem q974 : (Jvm.Cond.fieldLinkNest "SpendHouse$AndOr" (41 : Nat) "SpendHouse$Node" "z" "Z" "SpendHouse") ∈ lw_tbl := lw_at lw_m4 82 rfl
theorem q975 : (Jvm.Cond.fieldLinkNest "SpendHouse$Thresh" (37 : Nat) "SpendHouse$Node" "z" "Z" "SpendHouse") ∈ lw_tbl := lw_at lw_m4 83 rfl
theorem q976 : (Jvm.Cond.fieldLinkNest "SpendHouse$Wrapper" (31 : Nat) "SpendHouse$Node" "z" "Z" "SpendHouse") ∈ lw_tbl := lw_at lw_m4 84 rfl
theorem q977 : (Jvm.Cond.fieldLink "SpendHouse$Node" (27 : Nat) "SpendHouse$Node" "z" "Z") ∈ lw_all := lw_g (lw_at lw_m4 85 rfl) rfl
theorem q978 : (Jvm.Cond.fieldLinkNest "SpendHouse$Pair" (48 : Nat) "SpendHouse$Node" "z" "Z" "SpendHouse") ∈ lw_tbl := lw_at lw_m4 86 rfl
theorem q979 : (Jvm.Cond.fieldLinkNest "SpendHouse" (257 : Nat) "SpendHouse$Node" "z" "Z" "SpendHouse") ∈ lw_tbl := lw_at lw_m4 87 rfl
theorem q980 : (Jvm.Cond.fieldLinkNest "SpendHouse$Thresh" (41 : Nat) "SpendHouse$Node" "o" "Z" "SpendHouse") ∈ lw_tbl := lw_at lw_m4 88 rfl
theorem q981 : (Jvm.Cond.fieldLinkNest "SpendHouse$Wrapper" (27 : Nat) "SpendHouse$Node" "o" "Z" "SpendHouse") ∈ lw_tbl := lw_at lw_m4 89 rfl
theorem q982 : (Jvm.Cond.fieldLinkNest "SpendHouse$AndOr" (45 : Nat) "SpendHouse$Node" "o" "Z" "SpendHouse") ∈ lw_tbl := lw_at lw_m4 90 rfl
theorem q983 : (Jvm.Cond.fieldLink "SpendHouse$Node" (31 : Nat) "SpendHouse$Node" "o" "Z") ∈ lw_all := lw_g (lw_at lw_m4 91 rfl) rfl
theorem q984 : (Jvm.Cond.fieldLinkNest "SpendHouse$Pair" (51 : Nat) "SpendHouse$Node" "o" "Z" "SpendHouse") ∈ lw_tbl := lw_at lw_m4 92 rfl
theorem q985 : (Jvm.Cond.fieldLinkNest "SpendHouse$Policy" (98 : Nat) "SpendHouse$Node" "o" "Z" "SpendHouse") ∈ lw_tbl := lw_at lw_m4 93 rfl
theorem q986 : (Jvm.Cond.fieldLinkNest "SpendHouse" (263 : Nat) "SpendHouse$Node" "o" "Z" "SpendHouse") ∈ lw_tbl := lw_at lw_m4 94 rfl
theorem q987 : (Jvm.Cond.fieldLinkNest "SpendHouse$Wrapper" (34 : Nat) "SpendHouse$Node" "n" "Z" "SpendHouse") ∈ lw_tbl := lw_at lw_m4 95 rfl
theorem q988 : (Jvm.Cond.fieldLink "SpendHouse$Node" (34 : Nat) "SpendHouse$Node" "n" "Z") ∈ lw_all := lw_g (lw_at lw_m4 96 rfl) rfl
theorem q989 : (Jvm.Cond.fieldLinkNest "SpendHouse$Pair" (60 : Nat) "SpendHouse$Node" "n" "Z" "SpendHouse") ∈ lw_tbl := lw_at lw_m4 97 rfl
theorem q990 : (Jvm.Cond.fieldLinkNest "SpendHouse$Policy" (106 : Nat) "SpendHouse$Node" "n" "Z" "SpendHouse") ∈ lw_tbl := lw_at lw_m4 98 rfl
theorem q991 : (Jvm.Cond.fieldLinkNest "SpendHouse" (266 : Nat) "SpendHouse$Node" "n" "Z" "SpendHouse") ∈ lw_tbl := lw_at lw_m4 99 rfl
theorem q992 : (Jvm.Cond.fieldLinkNest "SpendHouse$Pair" (29 : Nat) "SpendHouse$Node" "d" "Z" "SpendHouse") ∈ lw_tbl := lw_at lw_m4 100 rfl
theorem q993 : (Jvm.Cond.fieldLinkNest "SpendHouse$AndOr" (48 : Nat) "SpendHouse$Node" "d" "Z" "SpendHouse") ∈ lw_tbl := lw_at lw_m4 101 rfl
theorem q994 : (Jvm.Cond.fieldLink "SpendHouse$Node" (37 : Nat) "SpendHouse$Node" "d" "Z") ∈ lw_all := lw_g (lw_at lw_m4 102 rfl) rfl
theorem q995 : (Jvm.Cond.fieldLinkNest "SpendHouse$Wrapper" (45 : Nat) "SpendHouse$Node" "d" "Z" "SpendHouse") ∈ lw_tbl := lw_at lw_m4 103 rfl
theorem q996 : (Jvm.Cond.fieldLinkNest "SpendHouse" (269 : Nat) "SpendHouse$Node" "d" "Z" "SpendHouse") ∈ lw_tbl := lw_at lw_m4 104 rfl
theorem q997 : (Jvm.Cond.fieldLinkNest "SpendHouse$AndOr" (51 : Nat) "SpendHouse$Node" "u" "Z" "SpendHouse") ∈ lw_tbl := lw_at lw_m4 105 rfl
theorem q998 : (Jvm.Cond.fieldLink "SpendHouse$Node" (40 : Nat) "SpendHouse$Node" "u" "Z") ∈ lw_all := lw_g (lw_at lw_m4 106 rfl) rfl
theorem q999 : (Jvm.Cond.fieldLinkNest "SpendHouse$Wrapper" (48 : Nat) "SpendHouse$Node" "u" "Z" "SpendHouse") ∈ lw_tbl := lw_at lw_m4 107 rfl
theorem q1000 : (Jvm.Cond.fieldLinkNest "SpendHouse$Pair" (63 : Nat) "SpendHouse$Node" "u" "Z" "SpendHouse") ∈ lw_tbl := lw_at lw_m4 108 rfl
theorem q1001 : (Jvm.Cond.fieldLinkNest "SpendHouse$Policy" (109 : Nat) "SpendHouse$Node" "u" "Z" "SpendHouse") ∈ lw_tbl := lw_at lw_m4 109 rfl
theorem q1002 : (Jvm.Cond.fieldLinkNest "SpendHouse" (272 : Nat) "SpendHouse$Node" "u" "Z" "SpendHouse") ∈ lw_tbl := lw_at lw_m4 110 rfl
theorem q1003 : (Jvm.Cond.fieldLinkNest "SpendHouse$Thresh" (44 : Nat) "SpendHouse$Node" "s" "Z" "SpendHouse") ∈ lw_tbl := lw_at lw_m4 111 rfl
theorem q1004 : (Jvm.Cond.fieldLinkNest "SpendHouse$AndOr" (58 : Nat) "SpendHouse$Node" "s" "Z" "SpendHouse") ∈ lw_tbl := lw_at lw_m4 112 rfl
theorem q1005 : (Jvm.Cond.fieldLinkNest "SpendHouse$Pair" (57 : Nat) "SpendHouse$Node" "s" "Z" "SpendHouse") ∈ lw_tbl := lw_at lw_m4 113 rfl
theorem q1006 : (Jvm.Cond.fieldLinkNest "SpendHouse$Wrapper" (55 : Nat) "SpendHouse$Node" "s" "Z" "SpendHouse") ∈ lw_tbl := lw_at lw_m4 114 rfl
theorem q1007 : (Jvm.Cond.fieldLink "SpendHouse$Node" (43 : Nat) "SpendHouse$Node" "s" "Z") ∈ lw_all := lw_g (lw_at lw_m4 115 rfl) rfl
theorem q1008 : (Jvm.Cond.fieldLinkNest "SpendHouse" (251 : Nat) "SpendHouse$Node" "s" "Z" "SpendHouse") ∈ lw_tbl := lw_at lw_m4 116 rfl
theorem q1009 : (Jvm.Cond.fieldLinkNest "SpendHouse$AndOr" (61 : Nat) "SpendHouse$Node" "f" "Z" "SpendHouse") ∈ lw_tbl := lw_at lw_m4 117 rfl
theorem q1010 : (Jvm.Cond.fieldLinkNest "SpendHouse$Pair" (70 : Nat) "SpendHouse$Node" "f" "Z" "SpendHouse") ∈ lw_tbl := lw_at lw_m4 118 rfl
theorem q1011 : (Jvm.Cond.fieldLinkNest "SpendHouse$Wrapper" (65 : Nat) "SpendHouse$Node" "f" "Z" "SpendHouse") ∈ lw_tbl := lw_at lw_m4 119 rfl
theorem q1012 : (Jvm.Cond.fieldLink "SpendHouse$Node" (46 : Nat) "SpendHouse$Node" "f" "Z") ∈ lw_all := lw_g (lw_at lw_m4 120 rfl) rfl
theorem q1013 : (Jvm.Cond.fieldLinkNest "SpendHouse" (275 : Nat) "SpendHouse$Node" "f" "Z" "SpendHouse") ∈ lw_tbl := lw_at lw_m4 121 rfl
theorem q1014 : (Jvm.Cond.fieldLinkNest "SpendHouse$Thresh" (47 : Nat) "SpendHouse$Node" "e" "Z" "SpendHouse") ∈ lw_tbl := lw_at lw_m4 122 rfl
theorem q1015 : (Jvm.Cond.fieldLinkNest "SpendHouse$AndOr" (64 : Nat) "SpendHouse$Node" "e" "Z" "SpendHouse") ∈ lw_tbl := lw_at lw_m4 123 rfl
theorem q1016 : (Jvm.Cond.fieldLinkNest "SpendHouse$Wrapper" (68 : Nat) "SpendHouse$Node" "e" "Z" "SpendHouse") ∈ lw_tbl := lw_at lw_m4 124 rfl
theorem q1017 : (Jvm.Cond.fieldLinkNest "SpendHouse$Pair" (77 : Nat) "SpendHouse$Node" "e" "Z" "SpendHouse") ∈ lw_tbl := lw_at lw_m4 125 rfl
theorem q1018 : (Jvm.Cond.fieldLink "SpendHouse$Node" (49 : Nat) "SpendHouse$Node" "e" "Z") ∈ lw_all := lw_g (lw_at lw_m4 126 rfl) rfl
theorem q1019 : (Jvm.Cond.fieldLinkNest "SpendHouse$Policy" (79 : Nat) "SpendHouse$Node" "e" "Z" "SpendHouse") ∈ lw_tbl := lw_at lw_m4 127 rfl
theorem q1020 : (Jvm.Cond.fieldLinkNest "SpendHouse" (278 : Nat) "SpendHouse$Node" "e" "Z" "SpendHouse") ∈ lw_tbl := lw_at lw_m4 128 rfl
theorem q1021 : (Jvm.Cond.fieldLinkNest "SpendHouse$Thresh" (50 : Nat) "SpendHouse$Node" "m" "Z" "SpendHouse") ∈ lw_tbl := lw_at lw_m4 129 rfl
theorem q1022 : (Jvm.Cond.fieldLinkNest "SpendHouse$AndOr" (67 : Nat) "SpendHouse$Node" "m" "Z" "SpendHouse") ∈ lw_tbl := lw_at lw_m4 130 rfl
theorem q1023 : (Jvm.Cond.fieldLinkNest "SpendHouse$Pair" (54 : Nat) "SpendHouse$Node" "m" "Z" "SpendHouse") ∈ lw_tbl := lw_at lw_m4 131 rfl
theorem q1024 : (Jvm.Cond.fieldLinkNest "SpendHouse$Wrapper" (58 : Nat) "SpendHouse$Node" "m" "Z" "SpendHouse") ∈ lw_tbl := lw_at lw_m4 132 rfl
theorem q1025 : (Jvm.Cond.fieldLink "SpendHouse$Node" (52 : Nat) "SpendHouse$Node" "m" "Z") ∈ lw_all := lw_g (lw_at lw_m4 133 rfl) rfl
theorem q1026 : (Jvm.Cond.fieldLinkNest "SpendHouse" (248 : Nat) "SpendHouse$Node" "m" "Z" "SpendHouse") ∈ lw_tbl := lw_at lw_m4 134 rfl
theorem q1027 : (Jvm.Cond.fieldLink "SpendHouse$Node" (58 : Nat) "SpendHouse$Node" "mixed" "Z") ∈ lw_all := lw_g (lw_at lw_m4 135 rfl) rfl
theorem q1028 : (Jvm.Cond.fieldLinkNest "SpendHouse" (254 : Nat) "SpendHouse$Node" "mixed" "Z" "SpendHouse") ∈ lw_tbl := lw_at lw_m4 136 rfl
theorem q1029 : (Jvm.Cond.fieldLink "SpendHouse$Node" (65 : Nat) "SpendHouse$Node" "plus" "LSpendHouse$Way;") ∈ lw_all := lw_g (lw_at lw_m4 137 rfl) rfl
theorem q1030 : (Jvm.Cond.fieldLink "SpendHouse$Node" (73 : Nat) "SpendHouse$Node" "minus" "LSpendHouse$Way;") ∈ lw_all := lw_g (lw_at lw_m4 138 rfl) rfl
theorem q1031 : (Jvm.Cond.fieldLink "SpendHouse$Node" (3 : Nat) "SpendHouse$Node" "this$0" "LSpendHouse;") ∈ lw_all := lw_g (lw_at lw_m4 139 rfl) rfl
theorem q1032 : (Jvm.Cond.laysFinal "SpendHouse$Key" "SpendHouse$Key" "key" "I") ∈ lw_all := lw_g (lw_at lw_m4 140 rfl) rfl
theorem q1034 : (Jvm.Cond.laysFinal "SpendHouse$Key" "SpendHouse$Key" "hashed" "Z") ∈ lw_all := lw_g (lw_at lw_m4 142 rfl) rfl
theorem q1036 : (Jvm.Cond.laysFinal "SpendHouse$Key" "SpendHouse$Key" "this$0" "LSpendHouse;") ∈ lw_all := lw_g (lw_at lw_m4 144 rfl) rfl
theorem q1038 : (Jvm.Cond.laysFinal "SpendHouse$Key" "SpendHouse$Leaf" "this$0" "LSpendHouse;") ∈ lw_all := lw_g (lw_at lw_m4 146 rfl) rfl
theorem q1040 : (Jvm.Cond.laysFinal "SpendHouse$Key" "SpendHouse$Node" "place" "I") ∈ lw_all := lw_g (lw_at lw_m4 148 rfl) rfl
theorem q1042 : (Jvm.Cond.lays "SpendHouse$Key" "SpendHouse$Node" "base" "I") ∈ lw_all := lw_g (lw_at lw_m4 150 rfl) rfl
theorem q1044 : (Jvm.Cond.lays "SpendHouse$Key" "SpendHouse$Node" "times" "I") ∈ lw_all := lw_g (lw_at lw_m4 152 rfl) rfl
theorem q1046 : (Jvm.Cond.lays "SpendHouse$Key" "SpendHouse$Node" "z" "Z") ∈ lw_all := lw_g (lw_at lw_m4 154 rfl) rfl
theorem q1048 : (Jvm.Cond.lays "SpendHouse$Key" "SpendHouse$Node" "o" "Z") ∈ lw_all := lw_g (lw_at lw_m4 156 rfl) rfl
theorem q1050 : (Jvm.Cond.lays "SpendHouse$Key" "SpendHouse$Node" "n" "Z") ∈ lw_all := lw_g (lw_at lw_m4 158 rfl) rfl
theorem q1052 : (Jvm.Cond.lays "SpendHouse$Key" "SpendHouse$Node" "d" "Z") ∈ lw_all := lw_g (lw_at lw_m4 160 rfl) rfl
theorem q1054 : (Jvm.Cond.lays "SpendHouse$Key" "SpendHouse$Node" "u" "Z") ∈ lw_all := lw_g (lw_at lw_m4 162 rfl) rfl
theorem q1056 : (Jvm.Cond.lays "SpendHouse$Key" "SpendHouse$Node" "s" "Z") ∈ lw_all := lw_g (lw_at lw_m4 164 rfl) rfl
theorem q1058 : (Jvm.Cond.lays "SpendHouse$Key" "SpendHouse$Node" "f" "Z") ∈ lw_all := lw_g (lw_at lw_m4 166 rfl) rfl
theorem q1060 : (Jvm.Cond.lays "SpendHouse$Key" "SpendHouse$Node" "e" "Z") ∈ lw_all := lw_g (lw_at lw_m4 168 rfl) rfl
theorem q1062 : (Jvm.Cond.lays "SpendHouse$Key" "SpendHouse$Node" "m" "Z") ∈ lw_all := lw_g (lw_at lw_m4 170 rfl) rfl
theorem q1064 : (Jvm.Cond.lays "SpendHouse$Key" "SpendHouse$Node" "mixed" "Z") ∈ lw_all := lw_g (lw_at lw_m4 172 rfl) rfl
theorem q1066 : (Jvm.Cond.lays "SpendHouse$Key" "SpendHouse$Node" "plus" "LSpendHouse$Way;") ∈ lw_all := lw_g (lw_at lw_m4 174 rfl) rfl
theorem q1068 : (Jvm.Cond.lays "SpendHouse$Key" "SpendHouse$Node" "minus" "LSpendHouse$Way;") ∈ lw_all := lw_g (lw_at lw_m4 176 rfl) rfl
theorem q1070 : (Jvm.Cond.laysFinal "SpendHouse$Key" "SpendHouse$Node" "this$0" "LSpendHouse;") ∈ lw_all := lw_g (lw_at lw_m4 178 rfl) rfl
theorem q1072 : (Jvm.Cond.superclass "SpendHouse$Key" "SpendHouse$Leaf") ∈ lw_all := lw_g (lw_at lw_m4 180 rfl) rfl
theorem q1073 : (Jvm.Cond.methodLink "SpendHouse$Reader" (132 : Nat) ({ cls := "SpendHouse$Reader", name := "judgedAt", desc := "(LSpendHouse$Node;)LSpendHouse$Node;" } : Jvm.MethodName)) ∈ lw_all := lw_g (lw_at lw_m4 181 rfl) rfl
theorem q1074 : (Jvm.Cond.privateMethod ({ cls := "SpendHouse$Reader", name := "judgedAt", desc := "(LSpendHouse$Node;)LSpendHouse$Node;" } : Jvm.MethodName)) ∈ lw_tbl := lw_at lw_m4 182 rfl
theorem q1075 : (Jvm.Cond.instanceMethod ({ cls := "SpendHouse$Reader", name := "judgedAt", desc := "(LSpendHouse$Node;)LSpendHouse$Node;" } : Jvm.MethodName)) ∈ lw_all := lw_g (lw_at lw_m4 183 rfl) rfl
theorem q1076 : (Jvm.Cond.code ({ cls := "SpendHouse$Reader", name := "judgedAt", desc := "(LSpendHouse$Node;)LSpendHouse$Node;" } : Jvm.MethodName) prog_16_method_11_code (2 : Nat) (Option.some (Jvm.ClassFile.FieldType.object "SpendHouse$Node"))) ∈ lw_all := lw_g (lw_at lw_m4 184 rfl) rfl
theorem q1077 : (Jvm.Cond.methodLink "SpendHouse$Reader" (67 : Nat) ({ cls := "SpendHouse$Node", name := "judge", desc := "()V" } : Jvm.MethodName)) ∈ lw_all := lw_g (lw_at lw_m4 185 rfl) rfl
theorem q1078 : (Jvm.Cond.declares ({ cls := "SpendHouse$Node", name := "judge", desc := "()V" } : Jvm.MethodName)) ∈ lw_tbl := lw_at lw_m4 186 rfl
theorem q1079 : (Jvm.Cond.sameMethod "SpendHouse$Node" "SpendHouse$Node" "judge" "()V") ∈ lw_all := lw_g (lw_at lw_m4 187 rfl) rfl
theorem q1080 : (Jvm.Cond.selects "SpendHouse$AndOr" ({ cls := "SpendHouse$Node", name := "judge", desc := "()V" } : Jvm.MethodName) ({ cls := "SpendHouse$AndOr", name := "judge", desc := "()V" } : Jvm.MethodName)) ∈ lw_all := lw_g (lw_at lw_m4 188 rfl) rfl
theorem q1081 : (Jvm.Cond.instanceMethod ({ cls := "SpendHouse$AndOr", name := "judge", desc := "()V" } : Jvm.MethodName)) ∈ lw_all := lw_g (lw_at lw_m4 189 rfl) rfl
theorem q1082 : (Jvm.Cond.code ({ cls := "SpendHouse$AndOr", name := "judge", desc := "()V" } : Jvm.MethodName) prog_2_method_2_code (1 : Nat) (Option.none : Option Jvm.ClassFile.FieldType)) ∈ lw_all := lw_g (lw_at lw_m4 190 rfl) rfl
theorem q1083 : (Jvm.Cond.methodLink "SpendHouse$AndOr" (25 : Nat) ({ cls := "SpendHouse$Node", name := "isBdu", desc := "()Z" } : Jvm.MethodName)) ∈ lw_all := lw_g (lw_at lw_m4 191 rfl) rfl
theorem q1084 : (Jvm.Cond.instanceMethod ({ cls := "SpendHouse$Node", name := "isBdu", desc := "()Z" } : Jvm.MethodName)) ∈ lw_all := lw_g (lw_at lw_m4 192 rfl) rfl
theorem q1085 : (Jvm.Cond.sameMethod "SpendHouse$Node" "SpendHouse$Node" "isBdu" "()Z") ∈ lw_all := lw_g (lw_at lw_m4 193 rfl) rfl
theorem q1086 : (Jvm.Cond.selects "SpendHouse$AndOr" ({ cls := "SpendHouse$Node", name := "isBdu", desc := "()Z" } : Jvm.MethodName) ({ cls := "SpendHouse$Node", name := "isBdu", desc := "()Z" } : Jvm.MethodName)) ∈ lw_all := lw_g (lw_at lw_m4 194 rfl) rfl
theorem q1087 : (Jvm.Cond.selects "SpendHouse$Image" ({ cls := "SpendHouse$Node", name := "isBdu", desc := "()Z" } : Jvm.MethodName) ({ cls := "SpendHouse$Node", name := "isBdu", desc := "()Z" } : Jvm.MethodName)) ∈ lw_all := lw_g (lw_at lw_m4 195 rfl) rfl
theorem q1088 : (Jvm.Cond.selects "SpendHouse$Key" ({ cls := "SpendHouse$Node", name := "isBdu", desc := "()Z" } : Jvm.MethodName) ({ cls := "SpendHouse$Node", name := "isBdu", desc := "()Z" } : Jvm.MethodName)) ∈ lw_all := lw_g (lw_at lw_m4 196 rfl) rfl
theorem q1089 : (Jvm.Cond.selects "SpendHouse$Lock" ({ cls := "SpendHouse$Node", name := "isBdu", desc := "()Z" } : Jvm.MethodName) ({ cls := "SpendHouse$Node", name := "isBdu", desc := "()Z" } : Jvm.MethodName)) ∈ lw_all := lw_g (lw_at lw_m4 197 rfl) rfl
theorem q1090 : (Jvm.Cond.selects "SpendHouse$Multi" ({ cls := "SpendHouse$Node", name := "isBdu", desc := "()Z" } : Jvm.MethodName) ({ cls := "SpendHouse$Node", name := "isBdu", desc := "()Z" } : Jvm.MethodName)) ∈ lw_all := lw_g (lw_at lw_m4 198 rfl) rfl
theorem q1091 : (Jvm.Cond.selects "SpendHouse$Pair" ({ cls := "SpendHouse$Node", name := "isBdu", desc := "()Z" } : Jvm.MethodName) ({ cls := "SpendHouse$Node", name := "isBdu", desc := "()Z" } : Jvm.MethodName)) ∈ lw_all := lw_g (lw_at lw_m4 199 rfl) rfl
theorem q1092 : (Jvm.Cond.selects "SpendHouse$Thresh" ({ cls := "SpendHouse$Node", name := "isBdu", desc := "()Z" } : Jvm.MethodName) ({ cls := "SpendHouse$Node", name := "isBdu", desc := "()Z" } : Jvm.MethodName)) ∈ lw_all := lw_g (lw_at lw_m4 200 rfl) rfl
theorem q1093 : (Jvm.Cond.selects "SpendHouse$Truth" ({ cls := "SpendHouse$Node", name := "isBdu", desc := "()Z" } : Jvm.MethodName) ({ cls := "SpendHouse$Node", name := "isBdu", desc := "()Z" } : Jvm.MethodName)) ∈ lw_all := lw_g (lw_at lw_m4 201 rfl) rfl
theorem q1094 : (Jvm.Cond.selects "SpendHouse$Wrapper" ({ cls := "SpendHouse$Node", name := "isBdu", desc := "()Z" } : Jvm.MethodName) ({ cls := "SpendHouse$Node", name := "isBdu", desc := "()Z" } : Jvm.MethodName)) ∈ lw_all := lw_g (lw_at lw_m4 202 rfl) rfl
theorem q1095 : (Jvm.Cond.code ({ cls := "SpendHouse$Node", name := "isBdu", desc := "()Z" } : Jvm.MethodName) prog_13_method_6_code (1 : Nat) (Option.some Jvm.ClassFile.FieldType.boolean)) ∈ lw_all := lw_g (lw_at lw_m4 203 rfl) rfl
theorem q1096 : (Jvm.Cond.methodLink "SpendHouse$AndOr" (33 : Nat) ({ cls := "SpendHouse$Node", name := "isThat", desc := "(I)Z" } : Jvm.MethodName)) ∈ lw_all := lw_g (lw_at lw_m4 204 rfl) rfl
theorem q1097 : (Jvm.Cond.instanceMethod ({ cls := "SpendHouse$Node", name := "isThat", desc := "(I)Z" } : Jvm.MethodName)) ∈ lw_all := lw_g (lw_at lw_m4 205 rfl) rfl
theorem q1098 : (Jvm.Cond.sameMethod "SpendHouse$Node" "SpendHouse$Node" "isThat" "(I)Z") ∈ lw_all := lw_g (lw_at lw_m4 206 rfl) rfl
theorem q1099 : (Jvm.Cond.selects "SpendHouse$AndOr" ({ cls := "SpendHouse$Node", name := "isThat", desc := "(I)Z" } : Jvm.MethodName) ({ cls := "SpendHouse$Node", name := "isThat", desc := "(I)Z" } : Jvm.MethodName)) ∈ lw_all := lw_g (lw_at lw_m4 207 rfl) rfl
theorem q1100 : (Jvm.Cond.selects "SpendHouse$Image" ({ cls := "SpendHouse$Node", name := "isThat", desc := "(I)Z" } : Jvm.MethodName) ({ cls := "SpendHouse$Node", name := "isThat", desc := "(I)Z" } : Jvm.MethodName)) ∈ lw_all := lw_g (lw_at lw_m4 208 rfl) rfl
theorem q1101 : (Jvm.Cond.selects "SpendHouse$Key" ({ cls := "SpendHouse$Node", name := "isThat", desc := "(I)Z" } : Jvm.MethodName) ({ cls := "SpendHouse$Node", name := "isThat", desc := "(I)Z" } : Jvm.MethodName)) ∈ lw_all := lw_g (lw_at lw_m4 209 rfl) rfl
theorem q1102 : (Jvm.Cond.selects "SpendHouse$Lock" ({ cls := "SpendHouse$Node", name := "isThat", desc := "(I)Z" } : Jvm.MethodName) ({ cls := "SpendHouse$Node", name := "isThat", desc := "(I)Z" } : Jvm.MethodName)) ∈ lw_all := lw_g (lw_at lw_m4 210 rfl) rfl
theorem q1103 : (Jvm.Cond.selects "SpendHouse$Multi" ({ cls := "SpendHouse$Node", name := "isThat", desc := "(I)Z" } : Jvm.MethodName) ({ cls := "SpendHouse$Node", name := "isThat", desc := "(I)Z" } : Jvm.MethodName)) ∈ lw_all := lw_g (lw_at lw_m4 211 rfl) rfl
theorem q1104 : (Jvm.Cond.selects "SpendHouse$Pair" ({ cls := "SpendHouse$Node", name := "isThat", desc := "(I)Z" } : Jvm.MethodName) ({ cls := "SpendHouse$Node", name := "isThat", desc := "(I)Z" } : Jvm.MethodName)) ∈ lw_all := lw_g (lw_at lw_m4 212 rfl) rfl
theorem q1105 : (Jvm.Cond.selects "SpendHouse$Thresh" ({ cls := "SpendHouse$Node", name := "isThat", desc := "(I)Z" } : Jvm.MethodName) ({ cls := "SpendHouse$Node", name := "isThat", desc := "(I)Z" } : Jvm.MethodName)) ∈ lw_all := lw_g (lw_at lw_m4 213 rfl) rfl
theorem q1106 : (Jvm.Cond.selects "SpendHouse$Truth" ({ cls := "SpendHouse$Node", name := "isThat", desc := "(I)Z" } : Jvm.MethodName) ({ cls := "SpendHouse$Node", name := "isThat", desc := "(I)Z" } : Jvm.MethodName)) ∈ lw_all := lw_g (lw_at lw_m4 214 rfl) rfl
theorem q1107 : (Jvm.Cond.selects "SpendHouse$Wrapper" ({ cls := "SpendHouse$Node", name := "isThat", desc := "(I)Z" } : Jvm.MethodName) ({ cls := "SpendHouse$Node", name := "isThat", desc := "(I)Z" } : Jvm.MethodName)) ∈ lw_all := lw_g (lw_at lw_m4 215 rfl) rfl
theorem q1108 : (Jvm.Cond.code ({ cls := "SpendHouse$Node", name := "isThat", desc := "(I)Z" } : Jvm.MethodName) prog_13_method_8_code (2 : Nat) (Option.some Jvm.ClassFile.FieldType.boolean)) ∈ lw_all := lw_g (lw_at lw_m4 216 rfl) rfl
theorem q1109 : (Jvm.Cond.methodLink "SpendHouse$AndOr" (37 : Nat) ({ cls := "SpendHouse$AndOr", name := "wrong", desc := "()LSpendHouse$Fault;" } : Jvm.MethodName)) ∈ lw_all := lw_g (lw_at lw_m4 217 rfl) rfl
theorem q1110 : (Jvm.Cond.sameMethod "SpendHouse$AndOr" "SpendHouse$Node" "wrong" "()LSpendHouse$Fault;") ∈ lw_all := lw_g (lw_at lw_m4 218 rfl) rfl
theorem q1111 : (Jvm.Cond.declares ({ cls := "SpendHouse$Node", name := "wrong", desc := "()LSpendHouse$Fault;" } : Jvm.MethodName)) ∈ lw_tbl := lw_at lw_m4 219 rfl
theorem q1112 : (Jvm.Cond.selects "SpendHouse$AndOr" ({ cls := "SpendHouse$AndOr", name := "wrong", desc := "()LSpendHouse$Fault;" } : Jvm.MethodName) ({ cls := "SpendHouse$Node", name := "wrong", desc := "()LSpendHouse$Fault;" } : Jvm.MethodName)) ∈ lw_all := lw_g (lw_at lw_m4 220 rfl) rfl
theorem q1113 : (Jvm.Cond.instanceMethod ({ cls := "SpendHouse$Node", name := "wrong", desc := "()LSpendHouse$Fault;" } : Jvm.MethodName)) ∈ lw_all := lw_g (lw_at lw_m4 221 rfl) rfl
theorem q1114 : (Jvm.Cond.code ({ cls := "SpendHouse$Node", name := "wrong", desc := "()LSpendHouse$Fault;" } : Jvm.MethodName) prog_13_method_2_code (1 : Nat) (Option.some (Jvm.ClassFile.FieldType.object "SpendHouse$Fault"))) ∈ lw_all := lw_g (lw_at lw_m4 222 rfl) rfl
theorem q1115 : (Jvm.Cond.classLink "SpendHouse$Node" (19 : Nat) "SpendHouse$Fault") ∈ lw_all := lw_g (lw_at lw_m4 223 rfl) rfl
theorem q1116 : (Jvm.Cond.methodLink "SpendHouse$Node" (21 : Nat) ({ cls := "SpendHouse$Fault", name := "<init>", desc := "(II)V" } : Jvm.MethodName)) ∈ lw_all := lw_g (lw_at lw_m4 224 rfl) rfl
theorem q1117 : (Jvm.Cond.methodLink "SpendHouse$AndOr" (54 : Nat) ({ cls := "SpendHouse$AndOr", name := "is", desc := "(IZZZZZ)V" } : Jvm.MethodName)) ∈ lw_all := lw_g (lw_at lw_m4 225 rfl) rfl
theorem q1118 : (Jvm.Cond.sameMethod "SpendHouse$AndOr" "SpendHouse$Node" "is" "(IZZZZZ)V") ∈ lw_all := lw_g (lw_at lw_m4 226 rfl) rfl
theorem q1119 : (Jvm.Cond.declares ({ cls := "SpendHouse$Node", name := "is", desc := "(IZZZZZ)V" } : Jvm.MethodName)) ∈ lw_tbl := lw_at lw_m4 227 rfl
theorem q1120 : (Jvm.Cond.selects "SpendHouse$AndOr" ({ cls := "SpendHouse$AndOr", name := "is", desc := "(IZZZZZ)V" } : Jvm.MethodName) ({ cls := "SpendHouse$Node", name := "is", desc := "(IZZZZZ)V" } : Jvm.MethodName)) ∈ lw_all := lw_g (lw_at lw_m4 228 rfl) rfl
theorem q1121 : (Jvm.Cond.instanceMethod ({ cls := "SpendHouse$Node", name := "is", desc := "(IZZZZZ)V" } : Jvm.MethodName)) ∈ lw_all := lw_g (lw_at lw_m4 229 rfl) rfl
theorem q1122 : (Jvm.Cond.code ({ cls := "SpendHouse$Node", name := "is", desc := "(IZZZZZ)V" } : Jvm.MethodName) prog_13_method_3_code (7 : Nat) (Option.none : Option Jvm.ClassFile.FieldType)) ∈ lw_all := lw_g (lw_at lw_m4 230 rfl) rfl
theorem q1123 : (Jvm.Cond.methodLink "SpendHouse$AndOr" (70 : Nat) ({ cls := "SpendHouse$AndOr", name := "safe", desc := "(ZZZZ)V" } : Jvm.MethodName)) ∈ lw_all := lw_g (lw_at lw_m4 231 rfl) rfl
theorem q1124 : (Jvm.Cond.sameMethod "SpendHouse$AndOr" "SpendHouse$Node" "safe" "(ZZZZ)V") ∈ lw_all := lw_g (lw_at lw_m4 232 rfl) rfl
theorem q1125 : (Jvm.Cond.declares ({ cls := "SpendHouse$Node", name := "safe", desc := "(ZZZZ)V" } : Jvm.MethodName)) ∈ lw_tbl := lw_at lw_m4 233 rfl
theorem q1126 : (Jvm.Cond.selects "SpendHouse$AndOr" ({ cls := "SpendHouse$AndOr", name := "safe", desc := "(ZZZZ)V" } : Jvm.MethodName) ({ cls := "SpendHouse$Node", name := "safe", desc := "(ZZZZ)V" } : Jvm.MethodName)) ∈ lw_all := lw_g (lw_at lw_m4 234 rfl) rfl
theorem q1127 : (Jvm.Cond.instanceMethod ({ cls := "SpendHouse$Node", name := "safe", desc := "(ZZZZ)V" } : Jvm.MethodName)) ∈ lw_all := lw_g (lw_at lw_m4 235 rfl) rfl
theorem q1128 : (Jvm.Cond.code ({ cls := "SpendHouse$Node", name := "safe", desc := "(ZZZZ)V" } : Jvm.MethodName) prog_13_method_4_code (5 : Nat) (Option.none : Option Jvm.ClassFile.FieldType)) ∈ lw_all := lw_g (lw_at lw_m4 236 rfl) rfl
theorem q1129 : (Jvm.Cond.methodLink "SpendHouse$AndOr" (74 : Nat) ({ cls := "SpendHouse$AndOr", name := "holds", desc := "(LSpendHouse$Node;Z)V" } : Jvm.MethodName)) ∈ lw_all := lw_g (lw_at lw_m4 237 rfl) rfl
theorem q1130 : (Jvm.Cond.sameMethod "SpendHouse$AndOr" "SpendHouse$Node" "holds" "(LSpendHouse$Node;Z)V") ∈ lw_all := lw_g (lw_at lw_m4 238 rfl) rfl
theorem q1131 : (Jvm.Cond.declares ({ cls := "SpendHouse$Node", name := "holds", desc := "(LSpendHouse$Node;Z)V" } : Jvm.MethodName)) ∈ lw_tbl := lw_at lw_m4 239 rfl
theorem q1132 : (Jvm.Cond.selects "SpendHouse$AndOr" ({ cls := "SpendHouse$AndOr", name := "holds", desc := "(LSpendHouse$Node;Z)V" } : Jvm.MethodName) ({ cls := "SpendHouse$Node", name := "holds", desc := "(LSpendHouse$Node;Z)V" } : Jvm.MethodName)) ∈ lw_all := lw_g (lw_at lw_m5 0 rfl) rfl
theorem q1133 : (Jvm.Cond.instanceMethod ({ cls := "SpendHouse$Node", name := "holds", desc := "(LSpendHouse$Node;Z)V" } : Jvm.MethodName)) ∈ lw_all := lw_g (lw_at lw_m5 1 rfl) rfl
theorem q1134 : (Jvm.Cond.code ({ cls := "SpendHouse$Node", name := "holds", desc := "(LSpendHouse$Node;Z)V" } : Jvm.MethodName) prog_13_method_9_code (3 : Nat) (Option.none : Option Jvm.ClassFile.FieldType)) ∈ lw_all := lw_g (lw_at lw_m5 2 rfl) rfl
theorem q1135 : (Jvm.Cond.methodLinkNest "SpendHouse$Node" (61 : Nat) ({ cls := "SpendHouse", name := "meet", desc := "(IIII)Z" } : Jvm.MethodName) "SpendHouse") ∈ lw_tbl := lw_at lw_m5 3 rfl
theorem q1136 : (Jvm.Cond.static ({ cls := "SpendHouse", name := "meet", desc := "(IIII)Z" } : Jvm.MethodName)) ∈ lw_all := lw_g (lw_at lw_m5 4 rfl) rfl
theorem q1137 : (Jvm.Cond.code ({ cls := "SpendHouse", name := "meet", desc := "(IIII)Z" } : Jvm.MethodName) prog_1_method_7_code (4 : Nat) (Option.some Jvm.ClassFile.FieldType.boolean)) ∈ lw_all := lw_g (lw_at lw_m5 5 rfl) rfl
theorem q1138 : (Jvm.Cond.selects "SpendHouse$Image" ({ cls := "SpendHouse$Node", name := "judge", desc := "()V" } : Jvm.MethodName) ({ cls := "SpendHouse$Image", name := "judge", desc := "()V" } : Jvm.MethodName)) ∈ lw_all := lw_g (lw_at lw_m5 6 rfl) rfl
theorem q1139 : (Jvm.Cond.instanceMethod ({ cls := "SpendHouse$Image", name := "judge", desc := "()V" } : Jvm.MethodName)) ∈ lw_all := lw_g (lw_at lw_m5 7 rfl) rfl
theorem q1140 : (Jvm.Cond.code ({ cls := "SpendHouse$Image", name := "judge", desc := "()V" } : Jvm.MethodName) prog_6_method_2_code (1 : Nat) (Option.none : Option Jvm.ClassFile.FieldType)) ∈ lw_all := lw_g (lw_at lw_m5 8 rfl) rfl
theorem q1141 : (Jvm.Cond.methodLink "SpendHouse$Image" (22 : Nat) ({ cls := "SpendHouse$Image", name := "is", desc := "(IZZZZZ)V" } : Jvm.MethodName)) ∈ lw_all := lw_g (lw_at lw_m5 9 rfl) rfl
theorem q1142 : (Jvm.Cond.sameMethod "SpendHouse$Image" "SpendHouse$Node" "is" "(IZZZZZ)V") ∈ lw_all := lw_g (lw_at lw_m5 10 rfl) rfl
theorem q1143 : (Jvm.Cond.selects "SpendHouse$Image" ({ cls := "SpendHouse$Image", name := "is", desc := "(IZZZZZ)V" } : Jvm.MethodName) ({ cls := "SpendHouse$Node", name := "is", desc := "(IZZZZZ)V" } : Jvm.MethodName)) ∈ lw_all := lw_g (lw_at lw_m5 11 rfl) rfl
theorem q1144 : (Jvm.Cond.methodLink "SpendHouse$Image" (26 : Nat) ({ cls := "SpendHouse$Image", name := "safe", desc := "(ZZZZ)V" } : Jvm.MethodName)) ∈ lw_all := lw_g (lw_at lw_m5 12 rfl) rfl
theorem q1145 : (Jvm.Cond.sameMethod "SpendHouse$Image" "SpendHouse$Node" "safe" "(ZZZZ)V") ∈ lw_all := lw_g (lw_at lw_m5 13 rfl) rfl
theorem q1146 : (Jvm.Cond.selects "SpendHouse$Image" ({ cls := "SpendHouse$Image", name := "safe", desc := "(ZZZZ)V" } : Jvm.MethodName) ({ cls := "SpendHouse$Node", name := "safe", desc := "(ZZZZ)V" } : Jvm.MethodName)) ∈ lw_all := lw_g (lw_at lw_m5 14 rfl) rfl
theorem q1147 : (Jvm.Cond.selects "SpendHouse$Key" ({ cls := "SpendHouse$Node", name := "judge", desc := "()V" } : Jvm.MethodName) ({ cls := "SpendHouse$Key", name := "judge", desc := "()V" } : Jvm.MethodName)) ∈ lw_all := lw_g (lw_at lw_m5 15 rfl) rfl
theorem q1148 : (Jvm.Cond.instanceMethod ({ cls := "SpendHouse$Key", name := "judge", desc := "()V" } : Jvm.MethodName)) ∈ lw_all := lw_g (lw_at lw_m5 16 rfl) rfl
theorem q1149 : (Jvm.Cond.code ({ cls := "SpendHouse$Key", name := "judge", desc := "()V" } : Jvm.MethodName) prog_8_method_2_code (1 : Nat) (Option.none : Option Jvm.ClassFile.FieldType)) ∈ lw_all := lw_g (lw_at lw_m5 17 rfl) rfl
theorem q1150 : (Jvm.Cond.methodLink "SpendHouse$Key" (23 : Nat) ({ cls := "SpendHouse$Key", name := "is", desc := "(IZZZZZ)V" } : Jvm.MethodName)) ∈ lw_all := lw_g (lw_at lw_m5 18 rfl) rfl
theorem q1151 : (Jvm.Cond.sameMethod "SpendHouse$Key" "SpendHouse$Node" "is" "(IZZZZZ)V") ∈ lw_all := lw_g (lw_at lw_m5 19 rfl) rfl
theorem q1152 : (Jvm.Cond.selects "SpendHouse$Key" ({ cls := "SpendHouse$Key", name := "is", desc := "(IZZZZZ)V" } : Jvm.MethodName) ({ cls := "SpendHouse$Node", name := "is", desc := "(IZZZZZ)V" } : Jvm.MethodName)) ∈ lw_all := lw_g (lw_at lw_m5 20 rfl) rfl
theorem q1153 : (Jvm.Cond.methodLink "SpendHouse$Key" (27 : Nat) ({ cls := "SpendHouse$Key", name := "safe", desc := "(ZZZZ)V" } : Jvm.MethodName)) ∈ lw_all := lw_g (lw_at lw_m5 21 rfl) rfl
theorem q1154 : (Jvm.Cond.sameMethod "SpendHouse$Key" "SpendHouse$Node" "safe" "(ZZZZ)V") ∈ lw_all := lw_g (lw_at lw_m5 22 rfl) rfl
theorem q1155 : (Jvm.Cond.selects "SpendHouse$Key" ({ cls := "SpendHouse$Key", name := "safe", desc := "(ZZZZ)V" } : Jvm.MethodName) ({ cls := "SpendHouse$Node", name := "safe", desc := "(ZZZZ)V" } : Jvm.MethodName)) ∈ lw_all := lw_g (lw_at lw_m5 23 rfl) rfl
theorem q1156 : (Jvm.Cond.selects "SpendHouse$Lock" ({ cls := "SpendHouse$Node", name := "judge", desc := "()V" } : Jvm.MethodName) ({ cls := "SpendHouse$Lock", name := "judge", desc := "()V" } : Jvm.MethodName)) ∈ lw_all := lw_g (lw_at lw_m5 24 rfl) rfl
theorem q1157 : (Jvm.Cond.instanceMethod ({ cls := "SpendHouse$Lock", name := "judge", desc := "()V" } : Jvm.MethodName)) ∈ lw_all := lw_g (lw_at lw_m5 25 rfl) rfl
theorem q1158 : (Jvm.Cond.code ({ cls := "SpendHouse$Lock", name := "judge", desc := "()V" } : Jvm.MethodName) prog_10_method_2_code (2 : Nat) (Option.none : Option Jvm.ClassFile.FieldType)) ∈ lw_all := lw_g (lw_at lw_m5 26 rfl) rfl
theorem q1159 : (Jvm.Cond.methodLink "SpendHouse$Lock" (23 : Nat) ({ cls := "SpendHouse$Lock", name := "is", desc := "(IZZZZZ)V" } : Jvm.MethodName)) ∈ lw_all := lw_g (lw_at lw_m5 27 rfl) rfl
theorem q1160 : (Jvm.Cond.sameMethod "SpendHouse$Lock" "SpendHouse$Node" "is" "(IZZZZZ)V") ∈ lw_all := lw_g (lw_at lw_m5 28 rfl) rfl
theorem q1161 : (Jvm.Cond.selects "SpendHouse$Lock" ({ cls := "SpendHouse$Lock", name := "is", desc := "(IZZZZZ)V" } : Jvm.MethodName) ({ cls := "SpendHouse$Node", name := "is", desc := "(IZZZZZ)V" } : Jvm.MethodName)) ∈ lw_all := lw_g (lw_at lw_m5 29 rfl) rfl
theorem q1162 : (Jvm.Cond.methodLink "SpendHouse$Lock" (27 : Nat) ({ cls := "SpendHouse$Lock", name := "safe", desc := "(ZZZZ)V" } : Jvm.MethodName)) ∈ lw_all := lw_g (lw_at lw_m5 30 rfl) rfl
theorem q1163 : (Jvm.Cond.sameMethod "SpendHouse$Lock" "SpendHouse$Node" "safe" "(ZZZZ)V") ∈ lw_all := lw_g (lw_at lw_m5 31 rfl) rfl
theorem q1164 : (Jvm.Cond.selects "SpendHouse$Lock" ({ cls := "SpendHouse$Lock", name := "safe", desc := "(ZZZZ)V" } : Jvm.MethodName) ({ cls := "SpendHouse$Node", name := "safe", desc := "(ZZZZ)V" } : Jvm.MethodName)) ∈ lw_all := lw_g (lw_at lw_m5 32 rfl) rfl
theorem q1165 : (Jvm.Cond.methodLinkNest "SpendHouse$Lock" (31 : Nat) ({ cls := "SpendHouse", name := "isDate", desc := "(I)Z" } : Jvm.MethodName) "SpendHouse") ∈ lw_tbl := lw_at lw_m5 33 rfl
theorem q1166 : (Jvm.Cond.static ({ cls := "SpendHouse", name := "isDate", desc := "(I)Z" } : Jvm.MethodName)) ∈ lw_all := lw_g (lw_at lw_m5 34 rfl) rfl
theorem q1167 : (Jvm.Cond.code ({ cls := "SpendHouse", name := "isDate", desc := "(I)Z" } : Jvm.MethodName) prog_1_method_4_code (1 : Nat) (Option.some Jvm.ClassFile.FieldType.boolean)) ∈ lw_all := lw_g (lw_at lw_m5 35 rfl) rfl
theorem q1168 : (Jvm.Cond.constant "SpendHouse" (93 : Nat) (500000000 : Int32)) ∈ lw_all := lw_g (lw_at lw_m5 36 rfl) rfl
theorem q1169 : (Jvm.Cond.methodLink "SpendHouse$Lock" (35 : Nat) ({ cls := "SpendHouse$Lock", name := "isTimed", desc := "(I)V" } : Jvm.MethodName)) ∈ lw_all := lw_g (lw_at lw_m5 37 rfl) rfl
theorem q1170 : (Jvm.Cond.sameMethod "SpendHouse$Lock" "SpendHouse$Node" "isTimed" "(I)V") ∈ lw_all := lw_g (lw_at lw_m5 38 rfl) rfl
theorem q1171 : (Jvm.Cond.declares ({ cls := "SpendHouse$Node", name := "isTimed", desc := "(I)V" } : Jvm.MethodName)) ∈ lw_tbl := lw_at lw_m5 39 rfl
theorem q1172 : (Jvm.Cond.selects "SpendHouse$Lock" ({ cls := "SpendHouse$Lock", name := "isTimed", desc := "(I)V" } : Jvm.MethodName) ({ cls := "SpendHouse$Node", name := "isTimed", desc := "(I)V" } : Jvm.MethodName)) ∈ lw_all := lw_g (lw_at lw_m5 40 rfl) rfl
theorem q1173 : (Jvm.Cond.instanceMethod ({ cls := "SpendHouse$Node", name := "isTimed", desc := "(I)V" } : Jvm.MethodName)) ∈ lw_all := lw_g (lw_at lw_m5 41 rfl) rfl
theorem q1174 : (Jvm.Cond.code ({ cls := "SpendHouse$Node", name := "isTimed", desc := "(I)V" } : Jvm.MethodName) prog_13_method_5_code (2 : Nat) (Option.none : Option Jvm.ClassFile.FieldType)) ∈ lw_all := lw_g (lw_at lw_m5 42 rfl) rfl
theorem q1175 : (Jvm.Cond.selects "SpendHouse$Multi" ({ cls := "SpendHouse$Node", name := "judge", desc := "()V" } : Jvm.MethodName) ({ cls := "SpendHouse$Multi", name := "judge", desc := "()V" } : Jvm.MethodName)) ∈ lw_all := lw_g (lw_at lw_m5 43 rfl) rfl
theorem q1176 : (Jvm.Cond.instanceMethod ({ cls := "SpendHouse$Multi", name := "judge", desc := "()V" } : Jvm.MethodName)) ∈ lw_all := lw_g (lw_at lw_m5 44 rfl) rfl
theorem q1177 : (Jvm.Cond.code ({ cls := "SpendHouse$Multi", name := "judge", desc := "()V" } : Jvm.MethodName) prog_12_method_2_code (1 : Nat) (Option.none : Option Jvm.ClassFile.FieldType)) ∈ lw_all := lw_g (lw_at lw_m5 45 rfl) rfl
theorem q1178 : (Jvm.Cond.methodLink "SpendHouse$Multi" (26 : Nat) ({ cls := "SpendHouse$Multi", name := "is", desc := "(IZZZZZ)V" } : Jvm.MethodName)) ∈ lw_all := lw_g (lw_at lw_m5 46 rfl) rfl
theorem q1179 : (Jvm.Cond.sameMethod "SpendHouse$Multi" "SpendHouse$Node" "is" "(IZZZZZ)V") ∈ lw_all := lw_g (lw_at lw_m5 47 rfl) rfl
theorem q1180 : (Jvm.Cond.selects "SpendHouse$Multi" ({ cls := "SpendHouse$Multi", name := "is", desc := "(IZZZZZ)V" } : Jvm.MethodName) ({ cls := "SpendHouse$Node", name := "is", desc := "(IZZZZZ)V" } : Jvm.MethodName)) ∈ lw_all := lw_g (lw_at lw_m5 48 rfl) rfl
theorem q1181 : (Jvm.Cond.methodLink "SpendHouse$Multi" (30 : Nat) ({ cls := "SpendHouse$Multi", name := "safe", desc := "(ZZZZ)V" } : Jvm.MethodName)) ∈ lw_all := lw_g (lw_at lw_m5 49 rfl) rfl
theorem q1182 : (Jvm.Cond.sameMethod "SpendHouse$Multi" "SpendHouse$Node" "safe" "(ZZZZ)V") ∈ lw_all := lw_g (lw_at lw_m5 50 rfl) rfl
theorem q1183 : (Jvm.Cond.selects "SpendHouse$Multi" ({ cls := "SpendHouse$Multi", name := "safe", desc := "(ZZZZ)V" } : Jvm.MethodName) ({ cls := "SpendHouse$Node", name := "safe", desc := "(ZZZZ)V" } : Jvm.MethodName)) ∈ lw_all := lw_g (lw_at lw_m5 51 rfl) rfl
theorem q1184 : (Jvm.Cond.selects "SpendHouse$Pair" ({ cls := "SpendHouse$Node", name := "judge", desc := "()V" } : Jvm.MethodName) ({ cls := "SpendHouse$Pair", name := "judge", desc := "()V" } : Jvm.MethodName)) ∈ lw_all := lw_g (lw_at lw_m5 52 rfl) rfl
theorem q1185 : (Jvm.Cond.instanceMethod ({ cls := "SpendHouse$Pair", name := "judge", desc := "()V" } : Jvm.MethodName)) ∈ lw_all := lw_g (lw_at lw_m5 53 rfl) rfl
theorem q1186 : (Jvm.Cond.code ({ cls := "SpendHouse$Pair", name := "judge", desc := "()V" } : Jvm.MethodName) prog_14_method_3_code (7 : Nat) (Option.none : Option Jvm.ClassFile.FieldType)) ∈ lw_all := lw_g (lw_at lw_m5 54 rfl) rfl
theorem q1187 : (Jvm.Cond.methodLink "SpendHouse$Pair" (41 : Nat) ({ cls := "SpendHouse$Pair", name := "fits", desc := "()Z" } : Jvm.MethodName)) ∈ lw_all := lw_g (lw_at lw_m5 55 rfl) rfl
theorem q1188 : (Jvm.Cond.privateMethod ({ cls := "SpendHouse$Pair", name := "fits", desc := "()Z" } : Jvm.MethodName)) ∈ lw_tbl := lw_at lw_m5 56 rfl
theorem q1189 : (Jvm.Cond.instanceMethod ({ cls := "SpendHouse$Pair", name := "fits", desc := "()Z" } : Jvm.MethodName)) ∈ lw_all := lw_g (lw_at lw_m5 57 rfl) rfl
theorem q1190 : (Jvm.Cond.instantiable "SpendHouse$Pair" (20 : Nat)) ∈ lw_all := lw_g (lw_at lw_m5 58 rfl) rfl
theorem q1191 : (Jvm.Cond.code ({ cls := "SpendHouse$Pair", name := "fits", desc := "()Z" } : Jvm.MethodName) prog_14_method_2_code (1 : Nat) (Option.some Jvm.ClassFile.FieldType.boolean)) ∈ lw_all := lw_g (lw_at lw_m5 59 rfl) rfl
theorem q1192 : (Jvm.Cond.methodLink "SpendHouse$Pair" (33 : Nat) ({ cls := "SpendHouse$Node", name := "isBdu", desc := "()Z" } : Jvm.MethodName)) ∈ lw_all := lw_g (lw_at lw_m5 60 rfl) rfl
theorem q1193 : (Jvm.Cond.methodLink "SpendHouse$Pair" (37 : Nat) ({ cls := "SpendHouse$Node", name := "isThat", desc := "(I)Z" } : Jvm.MethodName)) ∈ lw_all := lw_g (lw_at lw_m5 61 rfl) rfl
theorem q1194 : (Jvm.Cond.methodLink "SpendHouse$Pair" (44 : Nat) ({ cls := "SpendHouse$Pair", name := "wrong", desc := "()LSpendHouse$Fault;" } : Jvm.MethodName)) ∈ lw_all := lw_g (lw_at lw_m5 62 rfl) rfl
theorem q1195 : (Jvm.Cond.sameMethod "SpendHouse$Pair" "SpendHouse$Node" "wrong" "()LSpendHouse$Fault;") ∈ lw_all := lw_g (lw_at lw_m5 63 rfl) rfl
theorem q1196 : (Jvm.Cond.selects "SpendHouse$Pair" ({ cls := "SpendHouse$Pair", name := "wrong", desc := "()LSpendHouse$Fault;" } : Jvm.MethodName) ({ cls := "SpendHouse$Node", name := "wrong", desc := "()LSpendHouse$Fault;" } : Jvm.MethodName)) ∈ lw_all := lw_g (lw_at lw_m5 64 rfl) rfl
theorem q1197 : (Jvm.Cond.methodLink "SpendHouse$Pair" (66 : Nat) ({ cls := "SpendHouse$Pair", name := "is", desc := "(IZZZZZ)V" } : Jvm.MethodName)) ∈ lw_all := lw_g (lw_at lw_m5 65 rfl) rfl
theorem q1198 : (Jvm.Cond.sameMethod "SpendHouse$Pair" "SpendHouse$Node" "is" "(IZZZZZ)V") ∈ lw_all := lw_g (lw_at lw_m5 66 rfl) rfl
theorem q1199 : (Jvm.Cond.selects "SpendHouse$Pair" ({ cls := "SpendHouse$Pair", name := "is", desc := "(IZZZZZ)V" } : Jvm.MethodName) ({ cls := "SpendHouse$Node", name := "is", desc := "(IZZZZZ)V" } : Jvm.MethodName)) ∈ lw_all := lw_g (lw_at lw_m5 67 rfl) rfl
theorem q1200 : (Jvm.Cond.methodLink "SpendHouse$Pair" (73 : Nat) ({ cls := "SpendHouse$Pair", name := "safe", desc := "(ZZZZ)V" } : Jvm.MethodName)) ∈ lw_all := lw_g (lw_at lw_m5 68 rfl) rfl
theorem q1201 : (Jvm.Cond.sameMethod "SpendHouse$Pair" "SpendHouse$Node" "safe" "(ZZZZ)V") ∈ lw_all := lw_g (lw_at lw_m5 69 rfl) rfl
theorem q1202 : (Jvm.Cond.selects "SpendHouse$Pair" ({ cls := "SpendHouse$Pair", name := "safe", desc := "(ZZZZ)V" } : Jvm.MethodName) ({ cls := "SpendHouse$Node", name := "safe", desc := "(ZZZZ)V" } : Jvm.MethodName)) ∈ lw_all := lw_g (lw_at lw_m5 70 rfl) rfl
theorem q1203 : (Jvm.Cond.methodLink "SpendHouse$Pair" (80 : Nat) ({ cls := "SpendHouse$Pair", name := "holds", desc := "(LSpendHouse$Node;Z)V" } : Jvm.MethodName)) ∈ lw_all := lw_g (lw_at lw_m5 71 rfl) rfl
theorem q1204 : (Jvm.Cond.sameMethod "SpendHouse$Pair" "SpendHouse$Node" "holds" "(LSpendHouse$Node;Z)V") ∈ lw_all := lw_g (lw_at lw_m5 72 rfl) rfl
theorem q1205 : (Jvm.Cond.selects "SpendHouse$Pair" ({ cls := "SpendHouse$Pair", name := "holds", desc := "(LSpendHouse$Node;Z)V" } : Jvm.MethodName) ({ cls := "SpendHouse$Node", name := "holds", desc := "(LSpendHouse$Node;Z)V" } : Jvm.MethodName)) ∈ lw_all := lw_g (lw_at lw_m5 73 rfl) rfl
theorem q1206 : (Jvm.Cond.selects "SpendHouse$Thresh" ({ cls := "SpendHouse$Node", name := "judge", desc := "()V" } : Jvm.MethodName) ({ cls := "SpendHouse$Thresh", name := "judge", desc := "()V" } : Jvm.MethodName)) ∈ lw_all := lw_g (lw_at lw_m5 74 rfl) rfl
theorem q1207 : (Jvm.Cond.instanceMethod ({ cls := "SpendHouse$Thresh", name := "judge", desc := "()V" } : Jvm.MethodName)) ∈ lw_all := lw_g (lw_at lw_m5 75 rfl) rfl
theorem q1208 : (Jvm.Cond.code ({ cls := "SpendHouse$Thresh", name := "judge", desc := "()V" } : Jvm.MethodName) prog_17_method_2_code (9 : Nat) (Option.none : Option Jvm.ClassFile.FieldType)) ∈ lw_all := lw_g (lw_at lw_m5 76 rfl) rfl
theorem q1209 : (Jvm.Cond.methodLink "SpendHouse$Thresh" (26 : Nat) ({ cls := "SpendHouse$Node", name := "isBdu", desc := "()Z" } : Jvm.MethodName)) ∈ lw_all := lw_g (lw_at lw_m5 77 rfl) rfl
theorem q1210 : (Jvm.Cond.methodLink "SpendHouse$Thresh" (30 : Nat) ({ cls := "SpendHouse$Node", name := "isWdu", desc := "()Z" } : Jvm.MethodName)) ∈ lw_all := lw_g (lw_at lw_m5 78 rfl) rfl
theorem q1211 : (Jvm.Cond.instanceMethod ({ cls := "SpendHouse$Node", name := "isWdu", desc := "()Z" } : Jvm.MethodName)) ∈ lw_all := lw_g (lw_at lw_m5 79 rfl) rfl
theorem q1212 : (Jvm.Cond.sameMethod "SpendHouse$Node" "SpendHouse$Node" "isWdu" "()Z") ∈ lw_all := lw_g (lw_at lw_m5 80 rfl) rfl
theorem q1213 : (Jvm.Cond.selects "SpendHouse$AndOr" ({ cls := "SpendHouse$Node", name := "isWdu", desc := "()Z" } : Jvm.MethodName) ({ cls := "SpendHouse$Node", name := "isWdu", desc := "()Z" } : Jvm.MethodName)) ∈ lw_all := lw_g (lw_at lw_m5 81 rfl) rfl
theorem q1214 : (Jvm.Cond.selects "SpendHouse$Image" ({ cls := "SpendHouse$Node", name := "isWdu", desc := "()Z" } : Jvm.MethodName) ({ cls := "SpendHouse$Node", name := "isWdu", desc := "()Z" } : Jvm.MethodName)) ∈ lw_all := lw_g (lw_at lw_m5 82 rfl) rfl
theorem q1215 : (Jvm.Cond.selects "SpendHouse$Key" ({ cls := "SpendHouse$Node", name := "isWdu", desc := "()Z" } : Jvm.MethodName) ({ cls := "SpendHouse$Node", name := "isWdu", desc := "()Z" } : Jvm.MethodName)) ∈ lw_all := lw_g (lw_at lw_m5 83 rfl) rfl
theorem q1216 : (Jvm.Cond.selects "SpendHouse$Lock" ({ cls := "SpendHouse$Node", name := "isWdu", desc := "()Z" } : Jvm.MethodName) ({ cls := "SpendHouse$Node", name := "isWdu", desc := "()Z" } : Jvm.MethodName)) ∈ lw_all := lw_g (lw_at lw_m5 84 rfl) rfl
theorem q1217 : (Jvm.Cond.selects "SpendHouse$Multi" ({ cls := "SpendHouse$Node", name := "isWdu", desc := "()Z" } : Jvm.MethodName) ({ cls := "SpendHouse$Node", name := "isWdu", desc := "()Z" } : Jvm.MethodName)) ∈ lw_all := lw_g (lw_at lw_m5 85 rfl) rfl
theorem q1218 : (Jvm.Cond.selects "SpendHouse$Pair" ({ cls := "SpendHouse$Node", name := "isWdu", desc := "()Z" } : Jvm.MethodName) ({ cls := "SpendHouse$Node", name := "isWdu", desc := "()Z" } : Jvm.MethodName)) ∈ lw_all := lw_g (lw_at lw_m5 86 rfl) rfl
theorem q1219 : (Jvm.Cond.selects "SpendHouse$Thresh" ({ cls := "SpendHouse$Node", name := "isWdu", desc := "()Z" } : Jvm.MethodName) ({ cls := "SpendHouse$Node", name := "isWdu", desc := "()Z" } : Jvm.MethodName)) ∈ lw_all := lw_g (lw_at lw_m5 87 rfl) rfl
theorem q1220 : (Jvm.Cond.selects "SpendHouse$Truth" ({ cls := "SpendHouse$Node", name := "isWdu", desc := "()Z" } : Jvm.MethodName) ({ cls := "SpendHouse$Node", name := "isWdu", desc := "()Z" } : Jvm.MethodName)) ∈ lw_all := lw_g (lw_at lw_m5 88 rfl) rfl
theorem q1221 : (Jvm.Cond.selects "SpendHouse$Wrapper" ({ cls := "SpendHouse$Node", name := "isWdu", desc := "()Z" } : Jvm.MethodName) ({ cls := "SpendHouse$Node", name := "isWdu", desc := "()Z" } : Jvm.MethodName)) ∈ lw_all := lw_g (lw_at lw_m5 89 rfl) rfl
theorem q1222 : (Jvm.Cond.code ({ cls := "SpendHouse$Node", name := "isWdu", desc := "()Z" } : Jvm.MethodName) prog_13_method_7_code (1 : Nat) (Option.some Jvm.ClassFile.FieldType.boolean)) ∈ lw_all := lw_g (lw_at lw_m5 90 rfl) rfl
theorem q1223 : (Jvm.Cond.methodLink "SpendHouse$Thresh" (33 : Nat) ({ cls := "SpendHouse$Thresh", name := "wrong", desc := "()LSpendHouse$Fault;" } : Jvm.MethodName)) ∈ lw_all := lw_g (lw_at lw_m5 91 rfl) rfl
theorem q1224 : (Jvm.Cond.sameMethod "SpendHouse$Thresh" "SpendHouse$Node" "wrong" "()LSpendHouse$Fault;") ∈ lw_all := lw_g (lw_at lw_m5 92 rfl) rfl
theorem q1225 : (Jvm.Cond.selects "SpendHouse$Thresh" ({ cls := "SpendHouse$Thresh", name := "wrong", desc := "()LSpendHouse$Fault;" } : Jvm.MethodName) ({ cls := "SpendHouse$Node", name := "wrong", desc := "()LSpendHouse$Fault;" } : Jvm.MethodName)) ∈ lw_all := lw_g (lw_at lw_m5 93 rfl) rfl
theorem q1226 : (Jvm.Cond.methodLink "SpendHouse$Thresh" (53 : Nat) ({ cls := "SpendHouse$Thresh", name := "holds", desc := "(LSpendHouse$Node;Z)V" } : Jvm.MethodName)) ∈ lw_all := lw_g (lw_at lw_m5 94 rfl) rfl
theorem q1227 : (Jvm.Cond.sameMethod "SpendHouse$Thresh" "SpendHouse$Node" "holds" "(LSpendHouse$Node;Z)V") ∈ lw_all := lw_g (lw_at lw_m5 95 rfl) rfl
theorem q1228 : (Jvm.Cond.selects "SpendHouse$Thresh" ({ cls := "SpendHouse$Thresh", name := "holds", desc := "(LSpendHouse$Node;Z)V" } : Jvm.MethodName) ({ cls := "SpendHouse$Node", name := "holds", desc := "(LSpendHouse$Node;Z)V" } : Jvm.MethodName)) ∈ lw_all := lw_g (lw_at lw_m5 96 rfl) rfl
theorem q1229 : (Jvm.Cond.methodLink "SpendHouse$Thresh" (57 : Nat) ({ cls := "SpendHouse$Thresh", name := "is", desc := "(IZZZZZ)V" } : Jvm.MethodName)) ∈ lw_all := lw_g (lw_at lw_m5 97 rfl) rfl
theorem q1230 : (Jvm.Cond.sameMethod "SpendHouse$Thresh" "SpendHouse$Node" "is" "(IZZZZZ)V") ∈ lw_all := lw_g (lw_at lw_m5 98 rfl) rfl
theorem q1231 : (Jvm.Cond.selects "SpendHouse$Thresh" ({ cls := "SpendHouse$Thresh", name := "is", desc := "(IZZZZZ)V" } : Jvm.MethodName) ({ cls := "SpendHouse$Node", name := "is", desc := "(IZZZZZ)V" } : Jvm.MethodName)) ∈ lw_all := lw_g (lw_at lw_m5 99 rfl) rfl
theorem q1232 : (Jvm.Cond.methodLink "SpendHouse$Thresh" (61 : Nat) ({ cls := "SpendHouse$Thresh", name := "safe", desc := "(ZZZZ)V" } : Jvm.MethodName)) ∈ lw_all := lw_g (lw_at lw_m5 100 rfl) rfl
theorem q1233 : (Jvm.Cond.sameMethod "SpendHouse$Thresh" "SpendHouse$Node" "safe" "(ZZZZ)V") ∈ lw_all := lw_g (lw_at lw_m5 101 rfl) rfl
theorem q1234 : (Jvm.Cond.selects "SpendHouse$Thresh" ({ cls := "SpendHouse$Thresh", name := "safe", desc := "(ZZZZ)V" } : Jvm.MethodName) ({ cls := "SpendHouse$Node", name := "safe", desc := "(ZZZZ)V" } : Jvm.MethodName)) ∈ lw_all := lw_g (lw_at lw_m5 102 rfl) rfl
theorem q1235 : (Jvm.Cond.selects "SpendHouse$Truth" ({ cls := "SpendHouse$Node", name := "judge", desc := "()V" } : Jvm.MethodName) ({ cls := "SpendHouse$Truth", name := "judge", desc := "()V" } : Jvm.MethodName)) ∈ lw_all := lw_g (lw_at lw_m5 103 rfl) rfl
theorem q1236 : (Jvm.Cond.instanceMethod ({ cls := "SpendHouse$Truth", name := "judge", desc := "()V" } : Jvm.MethodName)) ∈ lw_all := lw_g (lw_at lw_m5 104 rfl) rfl
theorem q1237 : (Jvm.Cond.code ({ cls := "SpendHouse$Truth", name := "judge", desc := "()V" } : Jvm.MethodName) prog_18_method_2_code (1 : Nat) (Option.none : Option Jvm.ClassFile.FieldType)) ∈ lw_all := lw_g (lw_at lw_m5 105 rfl) rfl
theorem q1238 : (Jvm.Cond.methodLink "SpendHouse$Truth" (19 : Nat) ({ cls := "SpendHouse$Truth", name := "is", desc := "(IZZZZZ)V" } : Jvm.MethodName)) ∈ lw_all := lw_g (lw_at lw_m5 106 rfl) rfl
theorem q1239 : (Jvm.Cond.sameMethod "SpendHouse$Truth" "SpendHouse$Node" "is" "(IZZZZZ)V") ∈ lw_all := lw_g (lw_at lw_m5 107 rfl) rfl
theorem q1240 : (Jvm.Cond.selects "SpendHouse$Truth" ({ cls := "SpendHouse$Truth", name := "is", desc := "(IZZZZZ)V" } : Jvm.MethodName) ({ cls := "SpendHouse$Node", name := "is", desc := "(IZZZZZ)V" } : Jvm.MethodName)) ∈ lw_all := lw_g (lw_at lw_m5 108 rfl) rfl
theorem q1241 : (Jvm.Cond.methodLink "SpendHouse$Truth" (22 : Nat) ({ cls := "SpendHouse$Truth", name := "safe", desc := "(ZZZZ)V" } : Jvm.MethodName)) ∈ lw_all := lw_g (lw_at lw_m5 109 rfl) rfl
theorem q1242 : (Jvm.Cond.sameMethod "SpendHouse$Truth" "SpendHouse$Node" "safe" "(ZZZZ)V") ∈ lw_all := lw_g (lw_at lw_m5 110 rfl) rfl
theorem q1243 : (Jvm.Cond.selects "SpendHouse$Truth" ({ cls := "SpendHouse$Truth", name := "safe", desc := "(ZZZZ)V" } : Jvm.MethodName) ({ cls := "SpendHouse$Node", name := "safe", desc := "(ZZZZ)V" } : Jvm.MethodName)) ∈ lw_all := lw_g (lw_at lw_m5 111 rfl) rfl
theorem q1244 : (Jvm.Cond.selects "SpendHouse$Wrapper" ({ cls := "SpendHouse$Node", name := "judge", desc := "()V" } : Jvm.MethodName) ({ cls := "SpendHouse$Wrapper", name := "judge", desc := "()V" } : Jvm.MethodName)) ∈ lw_all := lw_g (lw_at lw_m5 112 rfl) rfl
theorem q1245 : (Jvm.Cond.instanceMethod ({ cls := "SpendHouse$Wrapper", name := "judge", desc := "()V" } : Jvm.MethodName)) ∈ lw_all := lw_g (lw_at lw_m5 113 rfl) rfl
theorem q1246 : (Jvm.Cond.code ({ cls := "SpendHouse$Wrapper", name := "judge", desc := "()V" } : Jvm.MethodName) prog_21_method_3_code (1 : Nat) (Option.none : Option Jvm.ClassFile.FieldType)) ∈ lw_all := lw_g (lw_at lw_m5 114 rfl) rfl
theorem q1247 : (Jvm.Cond.methodLink "SpendHouse$Wrapper" (37 : Nat) ({ cls := "SpendHouse$Wrapper", name := "fits", desc := "()Z" } : Jvm.MethodName)) ∈ lw_all := lw_g (lw_at lw_m5 115 rfl) rfl
theorem q1248 : (Jvm.Cond.privateMethod ({ cls := "SpendHouse$Wrapper", name := "fits", desc := "()Z" } : Jvm.MethodName)) ∈ lw_tbl := lw_at lw_m5 116 rfl
theorem q1249 : (Jvm.Cond.instanceMethod ({ cls := "SpendHouse$Wrapper", name := "fits", desc := "()Z" } : Jvm.MethodName)) ∈ lw_all := lw_g (lw_at lw_m5 117 rfl) rfl
theorem q1250 : (Jvm.Cond.code ({ cls := "SpendHouse$Wrapper", name := "fits", desc := "()Z" } : Jvm.MethodName) prog_21_method_2_code (1 : Nat) (Option.some Jvm.ClassFile.FieldType.boolean)) ∈ lw_all := lw_g (lw_at lw_m5 118 rfl) rfl
theorem q1251 : (Jvm.Cond.methodLink "SpendHouse$Wrapper" (41 : Nat) ({ cls := "SpendHouse$Wrapper", name := "wrong", desc := "()LSpendHouse$Fault;" } : Jvm.MethodName)) ∈ lw_all := lw_g (lw_at lw_m5 119 rfl) rfl
theorem q1252 : (Jvm.Cond.sameMethod "SpendHouse$Wrapper" "SpendHouse$Node" "wrong" "()LSpendHouse$Fault;") ∈ lw_all := lw_g (lw_at lw_m5 120 rfl) rfl
theorem q1253 : (Jvm.Cond.selects "SpendHouse$Wrapper" ({ cls := "SpendHouse$Wrapper", name := "wrong", desc := "()LSpendHouse$Fault;" } : Jvm.MethodName) ({ cls := "SpendHouse$Node", name := "wrong", desc := "()LSpendHouse$Fault;" } : Jvm.MethodName)) ∈ lw_all := lw_g (lw_at lw_m5 121 rfl) rfl
theorem q1254 : (Jvm.Cond.methodLink "SpendHouse$Wrapper" (51 : Nat) ({ cls := "SpendHouse$Wrapper", name := "is", desc := "(IZZZZZ)V" } : Jvm.MethodName)) ∈ lw_all := lw_g (lw_at lw_m5 122 rfl) rfl
theorem q1255 : (Jvm.Cond.sameMethod "SpendHouse$Wrapper" "SpendHouse$Node" "is" "(IZZZZZ)V") ∈ lw_all := lw_g (lw_at lw_m5 123 rfl) rfl
theorem q1256 : (Jvm.Cond.selects "SpendHouse$Wrapper" ({ cls := "SpendHouse$Wrapper", name := "is", desc := "(IZZZZZ)V" } : Jvm.MethodName) ({ cls := "SpendHouse$Node", name := "is", desc := "(IZZZZZ)V" } : Jvm.MethodName)) ∈ lw_all := lw_g (lw_at lw_m5 124 rfl) rfl
theorem q1257 : (Jvm.Cond.methodLink "SpendHouse$Wrapper" (61 : Nat) ({ cls := "SpendHouse$Wrapper", name := "safe", desc := "(ZZZZ)V" } : Jvm.MethodName)) ∈ lw_all := lw_g (lw_at lw_m5 125 rfl) rfl
theorem q1258 : (Jvm.Cond.sameMethod "SpendHouse$Wrapper" "SpendHouse$Node" "safe" "(ZZZZ)V") ∈ lw_all := lw_g (lw_at lw_m5 126 rfl) rfl
theorem q1259 : (Jvm.Cond.selects "SpendHouse$Wrapper" ({ cls := "SpendHouse$Wrapper", name := "safe", desc := "(ZZZZ)V" } : Jvm.MethodName) ({ cls := "SpendHouse$Node", name := "safe", desc := "(ZZZZ)V" } : Jvm.MethodName)) ∈ lw_all := lw_g (lw_at lw_m5 127 rfl) rfl
theorem q1260 : (Jvm.Cond.methodLink "SpendHouse$Wrapper" (71 : Nat) ({ cls := "SpendHouse$Wrapper", name := "holds", desc := "(LSpendHouse$Node;Z)V" } : Jvm.MethodName)) ∈ lw_all := lw_g (lw_at lw_m5 128 rfl) rfl
theorem q1261 : (Jvm.Cond.sameMethod "SpendHouse$Wrapper" "SpendHouse$Node" "holds" "(LSpendHouse$Node;Z)V") ∈ lw_all := lw_g (lw_at lw_m5 129 rfl) rfl
theorem q1262 : (Jvm.Cond.selects "SpendHouse$Wrapper" ({ cls := "SpendHouse$Wrapper", name := "holds", desc := "(LSpendHouse$Node;Z)V" } : Jvm.MethodName) ({ cls := "SpendHouse$Node", name := "holds", desc := "(LSpendHouse$Node;Z)V" } : Jvm.MethodName)) ∈ lw_all := lw_g (lw_at lw_m5 130 rfl) rfl
theorem q1263 : (Jvm.Cond.methodLink "SpendHouse$Reader" (142 : Nat) ({ cls := "SpendHouse$Wrapper", name := "<init>", desc := "(LSpendHouse;ICLSpendHouse$Node;)V" } : Jvm.MethodName)) ∈ lw_all := lw_g (lw_at lw_m5 131 rfl) rfl
theorem q1264 : (Jvm.Cond.instanceMethod ({ cls := "SpendHouse$Wrapper", name := "<init>", desc := "(LSpendHouse;ICLSpendHouse$Node;)V" } : Jvm.MethodName)) ∈ lw_all := lw_g (lw_at lw_m5 132 rfl) rfl
theorem q1265 : (Jvm.Cond.code ({ cls := "SpendHouse$Wrapper", name := "<init>", desc := "(LSpendHouse;ICLSpendHouse$Node;)V" } : Jvm.MethodName) prog_21_method_1_code (5 : Nat) (Option.none : Option Jvm.ClassFile.FieldType)) ∈ lw_all := lw_g (lw_at lw_m5 133 rfl) rfl
theorem q1266 : (Jvm.Cond.methodLink "SpendHouse$Wrapper" (9 : Nat) ({ cls := "SpendHouse$Node", name := "<init>", desc := "(LSpendHouse;I)V" } : Jvm.MethodName)) ∈ lw_all := lw_g (lw_at lw_m5 134 rfl) rfl
theorem q1267 : (Jvm.Cond.fieldLink "SpendHouse$Wrapper" (15 : Nat) "SpendHouse$Wrapper" "how" "C") ∈ lw_all := lw_g (lw_at lw_m5 135 rfl) rfl
theorem q1268 : (Jvm.Cond.fieldLink "SpendHouse$Wrapper" (19 : Nat) "SpendHouse$Wrapper" "x" "LSpendHouse$Node;") ∈ lw_all := lw_g (lw_at lw_m5 136 rfl) rfl
theorem q1269 : (Jvm.Cond.fieldLinkNest "SpendHouse$Policy" (42 : Nat) "SpendHouse$Wrapper" "x" "LSpendHouse$Node;" "SpendHouse") ∈ lw_tbl := lw_at lw_m5 137 rfl
theorem q1270 : (Jvm.Cond.fieldLink "SpendHouse$Wrapper" (3 : Nat) "SpendHouse$Wrapper" "this$0" "LSpendHouse;") ∈ lw_all := lw_g (lw_at lw_m5 138 rfl) rfl
theorem q1271 : (Jvm.Cond.laysFinal "SpendHouse$Wrapper" "SpendHouse$Wrapper" "how" "C") ∈ lw_all := lw_g (lw_at lw_m5 139 rfl) rfl
theorem q1273 : (Jvm.Cond.laysFinal "SpendHouse$Wrapper" "SpendHouse$Wrapper" "x" "LSpendHouse$Node;") ∈ lw_all := lw_g (lw_at lw_m5 141 rfl) rfl
theorem q1275 : (Jvm.Cond.laysFinal "SpendHouse$Wrapper" "SpendHouse$Wrapper" "this$0" "LSpendHouse;") ∈ lw_all := lw_g (lw_at lw_m5 143 rfl) rfl
theorem q1277 : (Jvm.Cond.laysFinal "SpendHouse$Wrapper" "SpendHouse$Node" "place" "I") ∈ lw_all := lw_g (lw_at lw_m5 145 rfl) rfl
theorem q1278 : (Jvm.Cond.lays "SpendHouse$Wrapper" "SpendHouse$Node" "base" "I") ∈ lw_all := lw_g (lw_at lw_m5 146 rfl) rfl
theorem q1279 : (Jvm.Cond.lays "SpendHouse$Wrapper" "SpendHouse$Node" "times" "I") ∈ lw_all := lw_g (lw_at lw_m5 147 rfl) rfl
theorem q1280 : (Jvm.Cond.lays "SpendHouse$Wrapper" "SpendHouse$Node" "z" "Z") ∈ lw_all := lw_g (lw_at lw_m5 148 rfl) rfl
theorem q1281 : (Jvm.Cond.lays "SpendHouse$Wrapper" "SpendHouse$Node" "o" "Z") ∈ lw_all := lw_g (lw_at lw_m5 149 rfl) rfl
theorem q1282 : (Jvm.Cond.lays "SpendHouse$Wrapper" "SpendHouse$Node" "n" "Z") ∈ lw_all := lw_g (lw_at lw_m5 150 rfl) rfl
theorem q1283 : (Jvm.Cond.lays "SpendHouse$Wrapper" "SpendHouse$Node" "d" "Z") ∈ lw_all := lw_g (lw_at lw_m5 151 rfl) rfl
theorem q1284 : (Jvm.Cond.lays "SpendHouse$Wrapper" "SpendHouse$Node" "u" "Z") ∈ lw_all := lw_g (lw_at lw_m5 152 rfl) rfl
theorem q1285 : (Jvm.Cond.lays "SpendHouse$Wrapper" "SpendHouse$Node" "s" "Z") ∈ lw_all := lw_g (lw_at lw_m5 153 rfl) rfl
theorem q1286 : (Jvm.Cond.lays "SpendHouse$Wrapper" "SpendHouse$Node" "f" "Z") ∈ lw_all := lw_g (lw_at lw_m5 154 rfl) rfl
theorem q1287 : (Jvm.Cond.lays "SpendHouse$Wrapper" "SpendHouse$Node" "e" "Z") ∈ lw_all := lw_g (lw_at lw_m5 155 rfl) rfl
theorem q1288 : (Jvm.Cond.lays "SpendHouse$Wrapper" "SpendHouse$Node" "m" "Z") ∈ lw_all := lw_g (lw_at lw_m5 156 rfl) rfl
theorem q1289 : (Jvm.Cond.lays "SpendHouse$Wrapper" "SpendHouse$Node" "mixed" "Z") ∈ lw_all := lw_g (lw_at lw_m5 157 rfl) rfl
theorem q1290 : (Jvm.Cond.lays "SpendHouse$Wrapper" "SpendHouse$Node" "plus" "LSpendHouse$Way;") ∈ lw_all := lw_g (lw_at lw_m5 158 rfl) rfl
theorem q1291 : (Jvm.Cond.lays "SpendHouse$Wrapper" "SpendHouse$Node" "minus" "LSpendHouse$Way;") ∈ lw_all := lw_g (lw_at lw_m5 159 rfl) rfl
theorem q1292 : (Jvm.Cond.laysFinal "SpendHouse$Wrapper" "SpendHouse$Node" "this$0" "LSpendHouse;") ∈ lw_all := lw_g (lw_at lw_m5 160 rfl) rfl
theorem q1293 : (Jvm.Cond.superclass "SpendHouse$Wrapper" "SpendHouse$Node") ∈ lw_all := lw_g (lw_at lw_m5 161 rfl) rfl
theorem q1294 : (Jvm.Cond.methodLink "SpendHouse$Reader" (237 : Nat) ({ cls := "SpendHouse$Policy", name := "<init>", desc := "(LSpendHouse;LSpendHouse$Node;)V" } : Jvm.MethodName)) ∈ lw_all := lw_g (lw_at lw_m5 162 rfl) rfl
theorem q1295 : (Jvm.Cond.instanceMethod ({ cls := "SpendHouse$Policy", name := "<init>", desc := "(LSpendHouse;LSpendHouse$Node;)V" } : Jvm.MethodName)) ∈ lw_all := lw_g (lw_at lw_m5 163 rfl) rfl
theorem q1296 : (Jvm.Cond.code ({ cls := "SpendHouse$Policy", name := "<init>", desc := "(LSpendHouse;LSpendHouse$Node;)V" } : Jvm.MethodName) prog_15_method_1_code (3 : Nat) (Option.none : Option Jvm.ClassFile.FieldType)) ∈ lw_all := lw_g (lw_at lw_m5 164 rfl) rfl
theorem q1297 : (Jvm.Cond.methodLink "SpendHouse$Policy" (9 : Nat) ({ cls := "java/lang/Object", name := "<init>", desc := "()V" } : Jvm.MethodName)) ∈ lw_all := lw_g (lw_at lw_m5 165 rfl) rfl
theorem q1298 : (Jvm.Cond.fieldLink "SpendHouse$Policy" (15 : Nat) "SpendHouse$Policy" "how" "I") ∈ lw_all := lw_g (lw_at lw_m5 166 rfl) rfl
theorem q1299 : (Jvm.Cond.fieldLink "SpendHouse$Policy" (19 : Nat) "SpendHouse$Policy" "needed" "I") ∈ lw_all := lw_g (lw_at lw_m5 167 rfl) rfl
theorem q1300 : (Jvm.Cond.fieldLink "SpendHouse$Policy" (22 : Nat) "SpendHouse$Policy" "many" "I") ∈ lw_all := lw_g (lw_at lw_m5 168 rfl) rfl
theorem q1301 : (Jvm.Cond.fieldLink "SpendHouse$Policy" (25 : Nat) "SpendHouse$Policy" "its" "[LSpendHouse$Policy;") ∈ lw_all := lw_g (lw_at lw_m5 169 rfl) rfl
theorem q1302 : (Jvm.Cond.fieldLink "SpendHouse$Policy" (29 : Nat) "SpendHouse$Policy" "leaf" "LSpendHouse$Node;") ∈ lw_all := lw_g (lw_at lw_m5 170 rfl) rfl
theorem q1303 : (Jvm.Cond.fieldLink "SpendHouse$Policy" (3 : Nat) "SpendHouse$Policy" "this$0" "LSpendHouse;") ∈ lw_all := lw_g (lw_at lw_m5 171 rfl) rfl
theorem q1304 : (Jvm.Cond.laysFinal "SpendHouse$Policy" "SpendHouse$Policy" "how" "I") ∈ lw_all := lw_g (lw_at lw_m5 172 rfl) rfl
theorem q1306 : (Jvm.Cond.laysFinal "SpendHouse$Policy" "SpendHouse$Policy" "needed" "I") ∈ lw_all := lw_g (lw_at lw_m5 174 rfl) rfl
theorem q1308 : (Jvm.Cond.laysFinal "SpendHouse$Policy" "SpendHouse$Policy" "many" "I") ∈ lw_all := lw_g (lw_at lw_m5 176 rfl) rfl
theorem q1310 : (Jvm.Cond.laysFinal "SpendHouse$Policy" "SpendHouse$Policy" "its" "[LSpendHouse$Policy;") ∈ lw_all := lw_g (lw_at lw_m5 178 rfl) rfl
theorem q1312 : (Jvm.Cond.laysFinal "SpendHouse$Policy" "SpendHouse$Policy" "leaf" "LSpendHouse$Node;") ∈ lw_all := lw_g (lw_at lw_m5 180 rfl) rfl
theorem q1314 : (Jvm.Cond.laysFinal "SpendHouse$Policy" "SpendHouse$Policy" "this$0" "LSpendHouse;") ∈ lw_all := lw_g (lw_at lw_m5 182 rfl) rfl
theorem q1316 : (Jvm.Cond.superclass "SpendHouse$Policy" "java/lang/Object") ∈ lw_all := lw_g (lw_at lw_m5 184 rfl) rfl
theorem q1317 : (Jvm.Cond.methodLink "SpendHouse$Reader" (145 : Nat) ({ cls := "SpendHouse$Reader", name := "lock", desc := "(IZ)LSpendHouse$Node;" } : Jvm.MethodName)) ∈ lw_all := lw_g (lw_at lw_m5 185 rfl) rfl
theorem q1318 : (Jvm.Cond.privateMethod ({ cls := "SpendHouse$Reader", name := "lock", desc := "(IZ)LSpendHouse$Node;" } : Jvm.MethodName)) ∈ lw_tbl := lw_at lw_m5 186 rfl
theorem q1319 : (Jvm.Cond.instanceMethod ({ cls := "SpendHouse$Reader", name := "lock", desc := "(IZ)LSpendHouse$Node;" } : Jvm.MethodName)) ∈ lw_all := lw_g (lw_at lw_m5 187 rfl) rfl
theorem q1320 : (Jvm.Cond.code ({ cls := "SpendHouse$Reader", name := "lock", desc := "(IZ)LSpendHouse$Node;" } : Jvm.MethodName) prog_16_method_18_code (4 : Nat) (Option.some (Jvm.ClassFile.FieldType.object "SpendHouse$Node"))) ∈ lw_all := lw_g (lw_at lw_m5 188 rfl) rfl
theorem q1321 : (Jvm.Cond.methodLink "SpendHouse$Reader" (202 : Nat) ({ cls := "SpendHouse$Reader", name := "number", desc := "()I" } : Jvm.MethodName)) ∈ lw_all := lw_g (lw_at lw_m5 189 rfl) rfl
theorem q1322 : (Jvm.Cond.privateMethod ({ cls := "SpendHouse$Reader", name := "number", desc := "()I" } : Jvm.MethodName)) ∈ lw_tbl := lw_at lw_m5 190 rfl
theorem q1323 : (Jvm.Cond.instanceMethod ({ cls := "SpendHouse$Reader", name := "number", desc := "()I" } : Jvm.MethodName)) ∈ lw_all := lw_g (lw_at lw_m5 191 rfl) rfl
theorem q1324 : (Jvm.Cond.code ({ cls := "SpendHouse$Reader", name := "number", desc := "()I" } : Jvm.MethodName) prog_16_method_8_code (3 : Nat) (Option.some Jvm.ClassFile.FieldType.int)) ∈ lw_all := lw_g (lw_at lw_m5 192 rfl) rfl
theorem q1325 : (Jvm.Cond.constantLong "SpendHouse$Reader" (61 : Nat) (10 : Int64)) ∈ lw_all := lw_g (lw_at lw_m5 193 rfl) rfl
theorem q1326 : (Jvm.Cond.constantLong "SpendHouse$Reader" (63 : Nat) (48 : Int64)) ∈ lw_all := lw_g (lw_at lw_m5 194 rfl) rfl
theorem q1327 : (Jvm.Cond.constantLong "SpendHouse$Reader" (65 : Nat) (2147483647 : Int64)) ∈ lw_all := lw_g (lw_at lw_m5 195 rfl) rfl
theorem q1328 : (Jvm.Cond.classLink "SpendHouse$Reader" (205 : Nat) "SpendHouse$Lock") ∈ lw_all := lw_g (lw_at lw_m5 196 rfl) rfl
theorem q1329 : (Jvm.Cond.instantiable "SpendHouse$Lock" (20 : Nat)) ∈ lw_all := lw_g (lw_at lw_m5 197 rfl) rfl
theorem q1330 : (Jvm.Cond.methodLink "SpendHouse$Reader" (207 : Nat) ({ cls := "SpendHouse$Lock", name := "<init>", desc := "(LSpendHouse;IIZ)V" } : Jvm.MethodName)) ∈ lw_all := lw_g (lw_at lw_m5 198 rfl) rfl
theorem q1331 : (Jvm.Cond.instanceMethod ({ cls := "SpendHouse$Lock", name := "<init>", desc := "(LSpendHouse;IIZ)V" } : Jvm.MethodName)) ∈ lw_all := lw_g (lw_at lw_m5 199 rfl) rfl
theorem q1332 : (Jvm.Cond.code ({ cls := "SpendHouse$Lock", name := "<init>", desc := "(LSpendHouse;IIZ)V" } : Jvm.MethodName) prog_10_method_1_code (5 : Nat) (Option.none : Option Jvm.ClassFile.FieldType)) ∈ lw_all := lw_g (lw_at lw_m5 200 rfl) rfl
theorem q1333 : (Jvm.Cond.methodLink "SpendHouse$Lock" (9 : Nat) ({ cls := "SpendHouse$Leaf", name := "<init>", desc := "(LSpendHouse;I)V" } : Jvm.MethodName)) ∈ lw_all := lw_g (lw_at lw_m5 201 rfl) rfl
theorem q1334 : (Jvm.Cond.fieldLink "SpendHouse$Lock" (15 : Nat) "SpendHouse$Lock" "time" "I") ∈ lw_all := lw_g (lw_at lw_m5 202 rfl) rfl
theorem q1335 : (Jvm.Cond.fieldLink "SpendHouse$Lock" (19 : Nat) "SpendHouse$Lock" "older" "Z") ∈ lw_all := lw_g (lw_at lw_m5 203 rfl) rfl
theorem q1336 : (Jvm.Cond.fieldLink "SpendHouse$Lock" (3 : Nat) "SpendHouse$Lock" "this$0" "LSpendHouse;") ∈ lw_all := lw_g (lw_at lw_m5 204 rfl) rfl
theorem q1337 : (Jvm.Cond.laysFinal "SpendHouse$Lock" "SpendHouse$Lock" "time" "I") ∈ lw_all := lw_g (lw_at lw_m5 205 rfl) rfl
theorem q1339 : (Jvm.Cond.laysFinal "SpendHouse$Lock" "SpendHouse$Lock" "older" "Z") ∈ lw_all := lw_g (lw_at lw_m5 207 rfl) rfl
theorem q1341 : (Jvm.Cond.laysFinal "SpendHouse$Lock" "SpendHouse$Lock" "this$0" "LSpendHouse;") ∈ lw_all := lw_g (lw_at lw_m5 209 rfl) rfl
theorem q1343 : (Jvm.Cond.laysFinal "SpendHouse$Lock" "SpendHouse$Leaf" "this$0" "LSpendHouse;") ∈ lw_all := lw_g (lw_at lw_m5 211 rfl) rfl
theorem q1344 : (Jvm.Cond.laysFinal "SpendHouse$Lock" "SpendHouse$Node" "place" "I") ∈ lw_all := lw_g (lw_at lw_m5 212 rfl) rfl
theorem q1345 : (Jvm.Cond.lays "SpendHouse$Lock" "SpendHouse$Node" "base" "I") ∈ lw_all := lw_g (lw_at lw_m5 213 rfl) rfl
theorem q1346 : (Jvm.Cond.lays "SpendHouse$Lock" "SpendHouse$Node" "times" "I") ∈ lw_all := lw_g (lw_at lw_m5 214 rfl) rfl
theorem q1347 : (Jvm.Cond.lays "SpendHouse$Lock" "SpendHouse$Node" "z" "Z") ∈ lw_all := lw_g (lw_at lw_m5 215 rfl) rfl
theorem q1348 : (Jvm.Cond.lays "SpendHouse$Lock" "SpendHouse$Node" "o" "Z") ∈ lw_all := lw_g (lw_at lw_m5 216 rfl) rfl
theorem q1349 : (Jvm.Cond.lays "SpendHouse$Lock" "SpendHouse$Node" "n" "Z") ∈ lw_all := lw_g (lw_at lw_m5 217 rfl) rfl
theorem q1350 : (Jvm.Cond.lays "SpendHouse$Lock" "SpendHouse$Node" "d" "Z") ∈ lw_all := lw_g (lw_at lw_m5 218 rfl) rfl
theorem q1351 : (Jvm.Cond.lays "SpendHouse$Lock" "SpendHouse$Node" "u" "Z") ∈ lw_all := lw_g (lw_at lw_m5 219 rfl) rfl
theorem q1352 : (Jvm.Cond.lays "SpendHouse$Lock" "SpendHouse$Node" "s" "Z") ∈ lw_all := lw_g (lw_at lw_m5 220 rfl) rfl
theorem q1353 : (Jvm.Cond.lays "SpendHouse$Lock" "SpendHouse$Node" "f" "Z") ∈ lw_all := lw_g (lw_at lw_m5 221 rfl) rfl
theorem q1354 : (Jvm.Cond.lays "SpendHouse$Lock" "SpendHouse$Node" "e" "Z") ∈ lw_all := lw_g (lw_at lw_m5 222 rfl) rfl
theorem q1355 : (Jvm.Cond.lays "SpendHouse$Lock" "SpendHouse$Node" "m" "Z") ∈ lw_all := lw_g (lw_at lw_m5 223 rfl) rfl
theorem q1356 : (Jvm.Cond.lays "SpendHouse$Lock" "SpendHouse$Node" "mixed" "Z") ∈ lw_all := lw_g (lw_at lw_m5 224 rfl) rfl
theorem q1357 : (Jvm.Cond.lays "SpendHouse$Lock" "SpendHouse$Node" "plus" "LSpendHouse$Way;") ∈ lw_all := lw_g (lw_at lw_m5 225 rfl) rfl
theorem q1358 : (Jvm.Cond.lays "SpendHouse$Lock" "SpendHouse$Node" "minus" "LSpendHouse$Way;") ∈ lw_all := lw_g (lw_at lw_m5 226 rfl) rfl
theorem q1359 : (Jvm.Cond.laysFinal "SpendHouse$Lock" "SpendHouse$Node" "this$0" "LSpendHouse;") ∈ lw_all := lw_g (lw_at lw_m5 227 rfl) rfl
theorem q1360 : (Jvm.Cond.superclass "SpendHouse$Lock" "SpendHouse$Leaf") ∈ lw_all := lw_g (lw_at lw_m5 228 rfl) rfl
theorem q1361 : (Jvm.Cond.methodLink "SpendHouse$Reader" (240 : Nat) ({ cls := "SpendHouse$Reader", name := "policy", desc := "(I)LSpendHouse$Policy;" } : Jvm.MethodName)) ∈ lw_all := lw_g (lw_at lw_m5 229 rfl) rfl
theorem q1362 : (Jvm.Cond.arrayOver (Jvm.ClassFile.FieldType.object "SpendHouse$Policy")) ∈ lw_tbl := lw_at lw_m5 230 rfl
theorem q1363 : (Jvm.Cond.methodLink "SpendHouse$Reader" (244 : Nat) ({ cls := "SpendHouse$Policy", name := "<init>", desc := "(LSpendHouse;III[LSpendHouse$Policy;)V" } : Jvm.MethodName)) ∈ lw_all := lw_g (lw_at lw_m5 231 rfl) rfl
theorem q1364 : (Jvm.Cond.instanceMethod ({ cls := "SpendHouse$Policy", name := "<init>", desc := "(LSpendHouse;III[LSpendHouse$Policy;)V" } : Jvm.MethodName)) ∈ lw_all := lw_g (lw_at lw_m5 232 rfl) rfl
theorem q1365 : (Jvm.Cond.code ({ cls := "SpendHouse$Policy", name := "<init>", desc := "(LSpendHouse;III[LSpendHouse$Policy;)V" } : Jvm.MethodName) prog_15_method_2_code (6 : Nat) (Option.none : Option Jvm.ClassFile.FieldType)) ∈ lw_all := lw_g (lw_at lw_m5 233 rfl) rfl
theorem q1366 : (Jvm.Cond.methodLink "SpendHouse$Reader" (247 : Nat) ({ cls := "SpendHouse$Reader", name := "some", desc := "(I)LSpendHouse$Policy;" } : Jvm.MethodName)) ∈ lw_all := lw_g (lw_at lw_m5 234 rfl) rfl
theorem q1367 : (Jvm.Cond.privateMethod ({ cls := "SpendHouse$Reader", name := "some", desc := "(I)LSpendHouse$Policy;" } : Jvm.MethodName)) ∈ lw_tbl := lw_at lw_m5 235 rfl
theorem q1368 : (Jvm.Cond.instanceMethod ({ cls := "SpendHouse$Reader", name := "some", desc := "(I)LSpendHouse$Policy;" } : Jvm.MethodName)) ∈ lw_all := lw_g (lw_at lw_m5 236 rfl) rfl
theorem q1369 : (Jvm.Cond.code ({ cls := "SpendHouse$Reader", name := "some", desc := "(I)LSpendHouse$Policy;" } : Jvm.MethodName) prog_16_method_25_code (5 : Nat) (Option.some (Jvm.ClassFile.FieldType.object "SpendHouse$Policy"))) ∈ lw_all := lw_g (lw_at lw_m5 237 rfl) rfl
theorem q1370 : (Jvm.Cond.methodLink "SpendHouse$Reader" (167 : Nat) ({ cls := "SpendHouse$Reader", name := "image", desc := "(II)LSpendHouse$Node;" } : Jvm.MethodName)) ∈ lw_all := lw_g (lw_at lw_m5 238 rfl) rfl
theorem q1371 : (Jvm.Cond.privateMethod ({ cls := "SpendHouse$Reader", name := "image", desc := "(II)LSpendHouse$Node;" } : Jvm.MethodName)) ∈ lw_tbl := lw_at lw_m5 239 rfl
theorem q1372 : (Jvm.Cond.instanceMethod ({ cls := "SpendHouse$Reader", name := "image", desc := "(II)LSpendHouse$Node;" } : Jvm.MethodName)) ∈ lw_all := lw_g (lw_at lw_m6 0 rfl) rfl
theorem q1373 : (Jvm.Cond.code ({ cls := "SpendHouse$Reader", name := "image", desc := "(II)LSpendHouse$Node;" } : Jvm.MethodName) prog_16_method_19_code (4 : Nat) (Option.some (Jvm.ClassFile.FieldType.object "SpendHouse$Node"))) ∈ lw_all := lw_g (lw_at lw_m6 1 rfl) rfl
theorem q1374 : (Jvm.Cond.methodLink "SpendHouse$Reader" (208 : Nat) ({ cls := "SpendHouse$Reader", name := "secret", desc := "()I" } : Jvm.MethodName)) ∈ lw_all := lw_g (lw_at lw_m6 2 rfl) rfl
theorem q1375 : (Jvm.Cond.privateMethod ({ cls := "SpendHouse$Reader", name := "secret", desc := "()I" } : Jvm.MethodName)) ∈ lw_tbl := lw_at lw_m6 3 rfl
theorem q1376 : (Jvm.Cond.instanceMethod ({ cls := "SpendHouse$Reader", name := "secret", desc := "()I" } : Jvm.MethodName)) ∈ lw_all := lw_g (lw_at lw_m6 4 rfl) rfl
theorem q1377 : (Jvm.Cond.code ({ cls := "SpendHouse$Reader", name := "secret", desc := "()I" } : Jvm.MethodName) prog_16_method_10_code (1 : Nat) (Option.some Jvm.ClassFile.FieldType.int)) ∈ lw_all := lw_g (lw_at lw_m6 5 rfl) rfl
theorem q1378 : (Jvm.Cond.classLink "SpendHouse$Reader" (211 : Nat) "SpendHouse$Image") ∈ lw_all := lw_g (lw_at lw_m6 6 rfl) rfl
theorem q1379 : (Jvm.Cond.instantiable "SpendHouse$Image" (20 : Nat)) ∈ lw_all := lw_g (lw_at lw_m6 7 rfl) rfl
theorem q1380 : (Jvm.Cond.methodLink "SpendHouse$Reader" (213 : Nat) ({ cls := "SpendHouse$Image", name := "<init>", desc := "(LSpendHouse;III)V" } : Jvm.MethodName)) ∈ lw_all := lw_g (lw_at lw_m6 8 rfl) rfl
theorem q1381 : (Jvm.Cond.instanceMethod ({ cls := "SpendHouse$Image", name := "<init>", desc := "(LSpendHouse;III)V" } : Jvm.MethodName)) ∈ lw_all := lw_g (lw_at lw_m6 9 rfl) rfl
theorem q1382 : (Jvm.Cond.code ({ cls := "SpendHouse$Image", name := "<init>", desc := "(LSpendHouse;III)V" } : Jvm.MethodName) prog_6_method_1_code (5 : Nat) (Option.none : Option Jvm.ClassFile.FieldType)) ∈ lw_all := lw_g (lw_at lw_m6 10 rfl) rfl
theorem q1383 : (Jvm.Cond.methodLink "SpendHouse$Image" (9 : Nat) ({ cls := "SpendHouse$Leaf", name := "<init>", desc := "(LSpendHouse;I)V" } : Jvm.MethodName)) ∈ lw_all := lw_g (lw_at lw_m6 11 rfl) rfl
theorem q1384 : (Jvm.Cond.fieldLink "SpendHouse$Image" (15 : Nat) "SpendHouse$Image" "how" "I") ∈ lw_all := lw_g (lw_at lw_m6 12 rfl) rfl
theorem q1385 : (Jvm.Cond.fieldLink "SpendHouse$Image" (19 : Nat) "SpendHouse$Image" "secret" "I") ∈ lw_all := lw_g (lw_at lw_m6 13 rfl) rfl
theorem q1386 : (Jvm.Cond.fieldLink "SpendHouse$Image" (3 : Nat) "SpendHouse$Image" "this$0" "LSpendHouse;") ∈ lw_all := lw_g (lw_at lw_m6 14 rfl) rfl
theorem q1387 : (Jvm.Cond.laysFinal "SpendHouse$Image" "SpendHouse$Image" "how" "I") ∈ lw_all := lw_g (lw_at lw_m6 15 rfl) rfl
theorem q1389 : (Jvm.Cond.laysFinal "SpendHouse$Image" "SpendHouse$Image" "secret" "I") ∈ lw_all := lw_g (lw_at lw_m6 17 rfl) rfl
theorem q1391 : (Jvm.Cond.laysFinal "SpendHouse$Image" "SpendHouse$Image" "this$0" "LSpendHouse;") ∈ lw_all := lw_g (lw_at lw_m6 19 rfl) rfl
theorem q1393 : (Jvm.Cond.laysFinal "SpendHouse$Image" "SpendHouse$Leaf" "this$0" "LSpendHouse;") ∈ lw_all := lw_g (lw_at lw_m6 21 rfl) rfl
theorem q1394 : (Jvm.Cond.laysFinal "SpendHouse$Image" "SpendHouse$Node" "place" "I") ∈ lw_all := lw_g (lw_at lw_m6 22 rfl) rfl
theorem q1395 : (Jvm.Cond.lays "SpendHouse$Image" "SpendHouse$Node" "base" "I") ∈ lw_all := lw_g (lw_at lw_m6 23 rfl) rfl
theorem q1396 : (Jvm.Cond.lays "SpendHouse$Image" "SpendHouse$Node" "times" "I") ∈ lw_all := lw_g (lw_at lw_m6 24 rfl) rfl
theorem q1397 : (Jvm.Cond.lays "SpendHouse$Image" "SpendHouse$Node" "z" "Z") ∈ lw_all := lw_g (lw_at lw_m6 25 rfl) rfl
theorem q1398 : (Jvm.Cond.lays "SpendHouse$Image" "SpendHouse$Node" "o" "Z") ∈ lw_all := lw_g (lw_at lw_m6 26 rfl) rfl
theorem q1399 : (Jvm.Cond.lays "SpendHouse$Image" "SpendHouse$Node" "n" "Z") ∈ lw_all := lw_g (lw_at lw_m6 27 rfl) rfl
theorem q1400 : (Jvm.Cond.lays "SpendHouse$Image" "SpendHouse$Node" "d" "Z") ∈ lw_all := lw_g (lw_at lw_m6 28 rfl) rfl
theorem q1401 : (Jvm.Cond.lays "SpendHouse$Image" "SpendHouse$Node" "u" "Z") ∈ lw_all := lw_g (lw_at lw_m6 29 rfl) rfl
theorem q1402 : (Jvm.Cond.lays "SpendHouse$Image" "SpendHouse$Node" "s" "Z") ∈ lw_all := lw_g (lw_at lw_m6 30 rfl) rfl
theorem q1403 : (Jvm.Cond.lays "SpendHouse$Image" "SpendHouse$Node" "f" "Z") ∈ lw_all := lw_g (lw_at lw_m6 31 rfl) rfl
theorem q1404 : (Jvm.Cond.lays "SpendHouse$Image" "SpendHouse$Node" "e" "Z") ∈ lw_all := lw_g (lw_at lw_m6 32 rfl) rfl
theorem q1405 : (Jvm.Cond.lays "SpendHouse$Image" "SpendHouse$Node" "m" "Z") ∈ lw_all := lw_g (lw_at lw_m6 33 rfl) rfl
theorem q1406 : (Jvm.Cond.lays "SpendHouse$Image" "SpendHouse$Node" "mixed" "Z") ∈ lw_all := lw_g (lw_at lw_m6 34 rfl) rfl
theorem q1407 : (Jvm.Cond.lays "SpendHouse$Image" "SpendHouse$Node" "plus" "LSpendHouse$Way;") ∈ lw_all := lw_g (lw_at lw_m6 35 rfl) rfl
theorem q1408 : (Jvm.Cond.lays "SpendHouse$Image" "SpendHouse$Node" "minus" "LSpendHouse$Way;") ∈ lw_all := lw_g (lw_at lw_m6 36 rfl) rfl
theorem q1409 : (Jvm.Cond.laysFinal "SpendHouse$Image" "SpendHouse$Node" "this$0" "LSpendHouse;") ∈ lw_all := lw_g (lw_at lw_m6 37 rfl) rfl
theorem q1410 : (Jvm.Cond.superclass "SpendHouse$Image" "SpendHouse$Leaf") ∈ lw_all := lw_g (lw_at lw_m6 38 rfl) rfl
theorem q1411 : (Jvm.Cond.methodLink "SpendHouse" (154 : Nat) ({ cls := "SpendHouse$Reader", name := "fragment", desc := "(I)LSpendHouse$Node;" } : Jvm.MethodName)) ∈ lw_all := lw_g (lw_at lw_m6 39 rfl) rfl
theorem q1412 : (Jvm.Cond.instanceMethod ({ cls := "SpendHouse$Reader", name := "fragment", desc := "(I)LSpendHouse$Node;" } : Jvm.MethodName)) ∈ lw_all := lw_g (lw_at lw_m6 40 rfl) rfl
theorem q1413 : (Jvm.Cond.selects "SpendHouse$Reader" ({ cls := "SpendHouse$Reader", name := "fragment", desc := "(I)LSpendHouse$Node;" } : Jvm.MethodName) ({ cls := "SpendHouse$Reader", name := "fragment", desc := "(I)LSpendHouse$Node;" } : Jvm.MethodName)) ∈ lw_all := lw_g (lw_at lw_m6 41 rfl) rfl
theorem q1414 : (Jvm.Cond.code ({ cls := "SpendHouse$Reader", name := "fragment", desc := "(I)LSpendHouse$Node;" } : Jvm.MethodName) prog_16_method_12_code (3 : Nat) (Option.some (Jvm.ClassFile.FieldType.object "SpendHouse$Node"))) ∈ lw_all := lw_g (lw_at lw_m6 42 rfl) rfl
theorem q1415 : (Jvm.Cond.methodLink "SpendHouse$Reader" (80 : Nat) ({ cls := "SpendHouse$Reader", name := "wrapped", desc := "(Ljava/lang/String;II)LSpendHouse$Node;" } : Jvm.MethodName)) ∈ lw_all := lw_g (lw_at lw_m6 43 rfl) rfl
theorem q1416 : (Jvm.Cond.privateMethod ({ cls := "SpendHouse$Reader", name := "wrapped", desc := "(Ljava/lang/String;II)LSpendHouse$Node;" } : Jvm.MethodName)) ∈ lw_tbl := lw_at lw_m6 44 rfl
theorem q1417 : (Jvm.Cond.instanceMethod ({ cls := "SpendHouse$Reader", name := "wrapped", desc := "(Ljava/lang/String;II)LSpendHouse$Node;" } : Jvm.MethodName)) ∈ lw_all := lw_g (lw_at lw_m6 45 rfl) rfl
theorem q1418 : (Jvm.Cond.code ({ cls := "SpendHouse$Reader", name := "wrapped", desc := "(Ljava/lang/String;II)LSpendHouse$Node;" } : Jvm.MethodName) prog_16_method_15_code (9 : Nat) (Option.some (Jvm.ClassFile.FieldType.object "SpendHouse$Node"))) ∈ lw_all := lw_g (lw_at lw_m6 46 rfl) rfl
theorem q1419 : (Jvm.Cond.methodLink "SpendHouse$Reader" (84 : Nat) ({ cls := "SpendHouse$Reader", name := "plain", desc := "(Ljava/lang/String;I)LSpendHouse$Node;" } : Jvm.MethodName)) ∈ lw_all := lw_g (lw_at lw_m6 47 rfl) rfl
theorem q1420 : (Jvm.Cond.privateMethod ({ cls := "SpendHouse$Reader", name := "plain", desc := "(Ljava/lang/String;I)LSpendHouse$Node;" } : Jvm.MethodName)) ∈ lw_tbl := lw_at lw_m6 48 rfl
theorem q1421 : (Jvm.Cond.instanceMethod ({ cls := "SpendHouse$Reader", name := "plain", desc := "(Ljava/lang/String;I)LSpendHouse$Node;" } : Jvm.MethodName)) ∈ lw_all := lw_g (lw_at lw_m6 49 rfl) rfl
theorem q1422 : (Jvm.Cond.code ({ cls := "SpendHouse$Reader", name := "plain", desc := "(Ljava/lang/String;I)LSpendHouse$Node;" } : Jvm.MethodName) prog_16_method_13_code (6 : Nat) (Option.some (Jvm.ClassFile.FieldType.object "SpendHouse$Node"))) ∈ lw_all := lw_g (lw_at lw_m6 50 rfl) rfl
theorem q1423 : (Jvm.Cond.stringRef "SpendHouse$Reader" (91 : Nat) "0") ∈ lw_tbl := lw_at lw_m6 51 rfl
theorem q1424 : (Jvm.Cond.stringRef "SpendHouse$Reader" (97 : Nat) "1") ∈ lw_tbl := lw_at lw_m6 52 rfl
theorem q1425 : (Jvm.Cond.stringRef "SpendHouse$Reader" (101 : Nat) "pkh") ∈ lw_tbl := lw_at lw_m6 53 rfl
theorem q1426 : (Jvm.Cond.stringRef "SpendHouse$Reader" (103 : Nat) "pk_k") ∈ lw_tbl := lw_at lw_m6 54 rfl
theorem q1427 : (Jvm.Cond.stringRef "SpendHouse$Reader" (105 : Nat) "pk_h") ∈ lw_tbl := lw_at lw_m6 55 rfl
theorem q1428 : (Jvm.Cond.stringRef "SpendHouse$Reader" (111 : Nat) "multi") ∈ lw_tbl := lw_at lw_m6 56 rfl
theorem q1429 : (Jvm.Cond.stringRef "SpendHouse$Reader" (115 : Nat) "andor") ∈ lw_tbl := lw_at lw_m6 57 rfl
theorem q1430 : (Jvm.Cond.stringRef "SpendHouse$Reader" (117 : Nat) "and_n") ∈ lw_tbl := lw_at lw_m6 58 rfl
theorem q1431 : (Jvm.Cond.classLink "SpendHouse$Reader" (123 : Nat) "SpendHouse$Truth") ∈ lw_all := lw_g (lw_at lw_m6 59 rfl) rfl
theorem q1432 : (Jvm.Cond.instantiable "SpendHouse$Truth" (19 : Nat)) ∈ lw_all := lw_g (lw_at lw_m6 60 rfl) rfl
theorem q1433 : (Jvm.Cond.methodLink "SpendHouse$Reader" (125 : Nat) ({ cls := "java/lang/String", name := "charAt", desc := "(I)C" } : Jvm.MethodName)) ∈ lw_all := lw_g (lw_at lw_m6 61 rfl) rfl
theorem q1434 : (Jvm.Cond.methodLink "SpendHouse$Reader" (129 : Nat) ({ cls := "SpendHouse$Truth", name := "<init>", desc := "(LSpendHouse;IZ)V" } : Jvm.MethodName)) ∈ lw_all := lw_g (lw_at lw_m6 62 rfl) rfl
theorem q1435 : (Jvm.Cond.instanceMethod ({ cls := "SpendHouse$Truth", name := "<init>", desc := "(LSpendHouse;IZ)V" } : Jvm.MethodName)) ∈ lw_all := lw_g (lw_at lw_m6 63 rfl) rfl
theorem q1436 : (Jvm.Cond.code ({ cls := "SpendHouse$Truth", name := "<init>", desc := "(LSpendHouse;IZ)V" } : Jvm.MethodName) prog_18_method_1_code (4 : Nat) (Option.none : Option Jvm.ClassFile.FieldType)) ∈ lw_all := lw_g (lw_at lw_m6 64 rfl) rfl
theorem q1437 : (Jvm.Cond.methodLink "SpendHouse$Truth" (9 : Nat) ({ cls := "SpendHouse$Leaf", name := "<init>", desc := "(LSpendHouse;I)V" } : Jvm.MethodName)) ∈ lw_all := lw_g (lw_at lw_m6 65 rfl) rfl
theorem q1438 : (Jvm.Cond.fieldLink "SpendHouse$Truth" (15 : Nat) "SpendHouse$Truth" "is" "Z") ∈ lw_all := lw_g (lw_at lw_m6 66 rfl) rfl
theorem q1439 : (Jvm.Cond.fieldLink "SpendHouse$Truth" (3 : Nat) "SpendHouse$Truth" "this$0" "LSpendHouse;") ∈ lw_all := lw_g (lw_at lw_m6 67 rfl) rfl
theorem q1440 : (Jvm.Cond.laysFinal "SpendHouse$Truth" "SpendHouse$Truth" "is" "Z") ∈ lw_all := lw_g (lw_at lw_m6 68 rfl) rfl
theorem q1442 : (Jvm.Cond.laysFinal "SpendHouse$Truth" "SpendHouse$Truth" "this$0" "LSpendHouse;") ∈ lw_all := lw_g (lw_at lw_m6 70 rfl) rfl
theorem q1444 : (Jvm.Cond.laysFinal "SpendHouse$Truth" "SpendHouse$Leaf" "this$0" "LSpendHouse;") ∈ lw_all := lw_g (lw_at lw_m6 72 rfl) rfl
theorem q1445 : (Jvm.Cond.laysFinal "SpendHouse$Truth" "SpendHouse$Node" "place" "I") ∈ lw_all := lw_g (lw_at lw_m6 73 rfl) rfl
theorem q1446 : (Jvm.Cond.lays "SpendHouse$Truth" "SpendHouse$Node" "base" "I") ∈ lw_all := lw_g (lw_at lw_m6 74 rfl) rfl
theorem q1447 : (Jvm.Cond.lays "SpendHouse$Truth" "SpendHouse$Node" "times" "I") ∈ lw_all := lw_g (lw_at lw_m6 75 rfl) rfl
theorem q1448 : (Jvm.Cond.lays "SpendHouse$Truth" "SpendHouse$Node" "z" "Z") ∈ lw_all := lw_g (lw_at lw_m6 76 rfl) rfl
theorem q1449 : (Jvm.Cond.lays "SpendHouse$Truth" "SpendHouse$Node" "o" "Z") ∈ lw_all := lw_g (lw_at lw_m6 77 rfl) rfl
theorem q1450 : (Jvm.Cond.lays "SpendHouse$Truth" "SpendHouse$Node" "n" "Z") ∈ lw_all := lw_g (lw_at lw_m6 78 rfl) rfl
theorem q1451 : (Jvm.Cond.lays "SpendHouse$Truth" "SpendHouse$Node" "d" "Z") ∈ lw_all := lw_g (lw_at lw_m6 79 rfl) rfl
theorem q1452 : (Jvm.Cond.lays "SpendHouse$Truth" "SpendHouse$Node" "u" "Z") ∈ lw_all := lw_g (lw_at lw_m6 80 rfl) rfl
theorem q1453 : (Jvm.Cond.lays "SpendHouse$Truth" "SpendHouse$Node" "s" "Z") ∈ lw_all := lw_g (lw_at lw_m6 81 rfl) rfl
theorem q1454 : (Jvm.Cond.lays "SpendHouse$Truth" "SpendHouse$Node" "f" "Z") ∈ lw_all := lw_g (lw_at lw_m6 82 rfl) rfl
theorem q1455 : (Jvm.Cond.lays "SpendHouse$Truth" "SpendHouse$Node" "e" "Z") ∈ lw_all := lw_g (lw_at lw_m6 83 rfl) rfl
theorem q1456 : (Jvm.Cond.lays "SpendHouse$Truth" "SpendHouse$Node" "m" "Z") ∈ lw_all := lw_g (lw_at lw_m6 84 rfl) rfl
theorem q1457 : (Jvm.Cond.lays "SpendHouse$Truth" "SpendHouse$Node" "mixed" "Z") ∈ lw_all := lw_g (lw_at lw_m6 85 rfl) rfl
theorem q1458 : (Jvm.Cond.lays "SpendHouse$Truth" "SpendHouse$Node" "plus" "LSpendHouse$Way;") ∈ lw_all := lw_g (lw_at lw_m6 86 rfl) rfl
theorem q1459 : (Jvm.Cond.lays "SpendHouse$Truth" "SpendHouse$Node" "minus" "LSpendHouse$Way;") ∈ lw_all := lw_g (lw_at lw_m6 87 rfl) rfl
theorem q1460 : (Jvm.Cond.laysFinal "SpendHouse$Truth" "SpendHouse$Node" "this$0" "LSpendHouse;") ∈ lw_all := lw_g (lw_at lw_m6 88 rfl) rfl
theorem q1461 : (Jvm.Cond.superclass "SpendHouse$Truth" "SpendHouse$Leaf") ∈ lw_all := lw_g (lw_at lw_m6 89 rfl) rfl
theorem q1462 : (Jvm.Cond.methodLink "SpendHouse$Reader" (148 : Nat) ({ cls := "SpendHouse$Reader", name := "multi", desc := "(I)LSpendHouse$Node;" } : Jvm.MethodName)) ∈ lw_all := lw_g (lw_at lw_m6 90 rfl) rfl
theorem q1463 : (Jvm.Cond.privateMethod ({ cls := "SpendHouse$Reader", name := "multi", desc := "(I)LSpendHouse$Node;" } : Jvm.MethodName)) ∈ lw_tbl := lw_at lw_m6 91 rfl
theorem q1464 : (Jvm.Cond.instanceMethod ({ cls := "SpendHouse$Reader", name := "multi", desc := "(I)LSpendHouse$Node;" } : Jvm.MethodName)) ∈ lw_all := lw_g (lw_at lw_m6 92 rfl) rfl
theorem q1465 : (Jvm.Cond.code ({ cls := "SpendHouse$Reader", name := "multi", desc := "(I)LSpendHouse$Node;" } : Jvm.MethodName) prog_16_method_20_code (5 : Nat) (Option.some (Jvm.ClassFile.FieldType.object "SpendHouse$Node"))) ∈ lw_all := lw_g (lw_at lw_m6 93 rfl) rfl
theorem q1466 : (Jvm.Cond.classLink "SpendHouse$Reader" (216 : Nat) "SpendHouse$Multi") ∈ lw_all := lw_g (lw_at lw_m6 94 rfl) rfl
theorem q1467 : (Jvm.Cond.instantiable "SpendHouse$Multi" (21 : Nat)) ∈ lw_all := lw_g (lw_at lw_m6 95 rfl) rfl
theorem q1468 : (Jvm.Cond.methodLink "SpendHouse$Reader" (218 : Nat) ({ cls := "SpendHouse$Multi", name := "<init>", desc := "(LSpendHouse;III[I)V" } : Jvm.MethodName)) ∈ lw_all := lw_g (lw_at lw_m6 96 rfl) rfl
theorem q1469 : (Jvm.Cond.instanceMethod ({ cls := "SpendHouse$Multi", name := "<init>", desc := "(LSpendHouse;III[I)V" } : Jvm.MethodName)) ∈ lw_all := lw_g (lw_at lw_m6 97 rfl) rfl
theorem q1470 : (Jvm.Cond.code ({ cls := "SpendHouse$Multi", name := "<init>", desc := "(LSpendHouse;III[I)V" } : Jvm.MethodName) prog_12_method_1_code (6 : Nat) (Option.none : Option Jvm.ClassFile.FieldType)) ∈ lw_all := lw_g (lw_at lw_m6 98 rfl) rfl
theorem q1471 : (Jvm.Cond.methodLink "SpendHouse$Multi" (9 : Nat) ({ cls := "SpendHouse$Leaf", name := "<init>", desc := "(LSpendHouse;I)V" } : Jvm.MethodName)) ∈ lw_all := lw_g (lw_at lw_m6 99 rfl) rfl
theorem q1472 : (Jvm.Cond.fieldLink "SpendHouse$Multi" (15 : Nat) "SpendHouse$Multi" "needed" "I") ∈ lw_all := lw_g (lw_at lw_m6 100 rfl) rfl
theorem q1473 : (Jvm.Cond.fieldLink "SpendHouse$Multi" (19 : Nat) "SpendHouse$Multi" "many" "I") ∈ lw_all := lw_g (lw_at lw_m6 101 rfl) rfl
theorem q1474 : (Jvm.Cond.fieldLink "SpendHouse$Multi" (22 : Nat) "SpendHouse$Multi" "its" "[I") ∈ lw_all := lw_g (lw_at lw_m6 102 rfl) rfl
theorem q1475 : (Jvm.Cond.fieldLink "SpendHouse$Multi" (3 : Nat) "SpendHouse$Multi" "this$0" "LSpendHouse;") ∈ lw_all := lw_g (lw_at lw_m6 103 rfl) rfl
theorem q1476 : (Jvm.Cond.laysFinal "SpendHouse$Multi" "SpendHouse$Multi" "needed" "I") ∈ lw_all := lw_g (lw_at lw_m6 104 rfl) rfl
theorem q1478 : (Jvm.Cond.laysFinal "SpendHouse$Multi" "SpendHouse$Multi" "many" "I") ∈ lw_all := lw_g (lw_at lw_m6 106 rfl) rfl
theorem q1480 : (Jvm.Cond.laysFinal "SpendHouse$Multi" "SpendHouse$Multi" "its" "[I") ∈ lw_all := lw_g (lw_at lw_m6 108 rfl) rfl
theorem q1482 : (Jvm.Cond.laysFinal "SpendHouse$Multi" "SpendHouse$Multi" "this$0" "LSpendHouse;") ∈ lw_all := lw_g (lw_at lw_m6 110 rfl) rfl
theorem q1484 : (Jvm.Cond.laysFinal "SpendHouse$Multi" "SpendHouse$Leaf" "this$0" "LSpendHouse;") ∈ lw_all := lw_g (lw_at lw_m6 112 rfl) rfl
theorem q1485 : (Jvm.Cond.laysFinal "SpendHouse$Multi" "SpendHouse$Node" "place" "I") ∈ lw_all := lw_g (lw_at lw_m6 113 rfl) rfl
theorem q1486 : (Jvm.Cond.lays "SpendHouse$Multi" "SpendHouse$Node" "base" "I") ∈ lw_all := lw_g (lw_at lw_m6 114 rfl) rfl
theorem q1487 : (Jvm.Cond.lays "SpendHouse$Multi" "SpendHouse$Node" "times" "I") ∈ lw_all := lw_g (lw_at lw_m6 115 rfl) rfl
theorem q1488 : (Jvm.Cond.lays "SpendHouse$Multi" "SpendHouse$Node" "z" "Z") ∈ lw_all := lw_g (lw_at lw_m6 116 rfl) rfl
theorem q1489 : (Jvm.Cond.lays "SpendHouse$Multi" "SpendHouse$Node" "o" "Z") ∈ lw_all := lw_g (lw_at lw_m6 117 rfl) rfl
theorem q1490 : (Jvm.Cond.lays "SpendHouse$Multi" "SpendHouse$Node" "n" "Z") ∈ lw_all := lw_g (lw_at lw_m6 118 rfl) rfl
theorem q1491 : (Jvm.Cond.lays "SpendHouse$Multi" "SpendHouse$Node" "d" "Z") ∈ lw_all := lw_g (lw_at lw_m6 119 rfl) rfl
theorem q1492 : (Jvm.Cond.lays "SpendHouse$Multi" "SpendHouse$Node" "u" "Z") ∈ lw_all := lw_g (lw_at lw_m6 120 rfl) rfl
theorem q1493 : (Jvm.Cond.lays "SpendHouse$Multi" "SpendHouse$Node" "s" "Z") ∈ lw_all := lw_g (lw_at lw_m6 121 rfl) rfl
theorem q1494 : (Jvm.Cond.lays "SpendHouse$Multi" "SpendHouse$Node" "f" "Z") ∈ lw_all := lw_g (lw_at lw_m6 122 rfl) rfl
theorem q1495 : (Jvm.Cond.lays "SpendHouse$Multi" "SpendHouse$Node" "e" "Z") ∈ lw_all := lw_g (lw_at lw_m6 123 rfl) rfl
theorem q1496 : (Jvm.Cond.lays "SpendHouse$Multi" "SpendHouse$Node" "m" "Z") ∈ lw_all := lw_g (lw_at lw_m6 124 rfl) rfl
theorem q1497 : (Jvm.Cond.lays "SpendHouse$Multi" "SpendHouse$Node" "mixed" "Z") ∈ lw_all := lw_g (lw_at lw_m6 125 rfl) rfl
theorem q1498 : (Jvm.Cond.lays "SpendHouse$Multi" "SpendHouse$Node" "plus" "LSpendHouse$Way;") ∈ lw_all := lw_g (lw_at lw_m6 126 rfl) rfl
theorem q1499 : (Jvm.Cond.lays "SpendHouse$Multi" "SpendHouse$Node" "minus" "LSpendHouse$Way;") ∈ lw_all := lw_g (lw_at lw_m6 127 rfl) rfl
theorem q1500 : (Jvm.Cond.laysFinal "SpendHouse$Multi" "SpendHouse$Node" "this$0" "LSpendHouse;") ∈ lw_all := lw_g (lw_at lw_m6 128 rfl) rfl
theorem q1501 : (Jvm.Cond.superclass "SpendHouse$Multi" "SpendHouse$Leaf") ∈ lw_all := lw_g (lw_at lw_m6 129 rfl) rfl
theorem q1502 : (Jvm.Cond.methodLink "SpendHouse$Reader" (151 : Nat) ({ cls := "SpendHouse$Reader", name := "thresh", desc := "(II)LSpendHouse$Node;" } : Jvm.MethodName)) ∈ lw_all := lw_g (lw_at lw_m6 130 rfl) rfl
theorem q1503 : (Jvm.Cond.privateMethod ({ cls := "SpendHouse$Reader", name := "thresh", desc := "(II)LSpendHouse$Node;" } : Jvm.MethodName)) ∈ lw_tbl := lw_at lw_m6 131 rfl
theorem q1504 : (Jvm.Cond.instanceMethod ({ cls := "SpendHouse$Reader", name := "thresh", desc := "(II)LSpendHouse$Node;" } : Jvm.MethodName)) ∈ lw_all := lw_g (lw_at lw_m6 132 rfl) rfl
theorem q1505 : (Jvm.Cond.code ({ cls := "SpendHouse$Reader", name := "thresh", desc := "(II)LSpendHouse$Node;" } : Jvm.MethodName) prog_16_method_21_code (6 : Nat) (Option.some (Jvm.ClassFile.FieldType.object "SpendHouse$Node"))) ∈ lw_all := lw_g (lw_at lw_m6 133 rfl) rfl
theorem q1506 : (Jvm.Cond.classLink "SpendHouse$Reader" (68 : Nat) "SpendHouse$Node") ∈ lw_all := lw_g (lw_at lw_m6 134 rfl) rfl
theorem q1507 : (Jvm.Cond.arrayOver (Jvm.ClassFile.FieldType.object "SpendHouse$Node")) ∈ lw_tbl := lw_at lw_m6 135 rfl
theorem q1508 : (Jvm.Cond.methodLink "SpendHouse$Reader" (177 : Nat) ({ cls := "SpendHouse$Reader", name := "fragment", desc := "(I)LSpendHouse$Node;" } : Jvm.MethodName)) ∈ lw_all := lw_g (lw_at lw_m6 136 rfl) rfl
theorem q1509 : (Jvm.Cond.classLink "SpendHouse$Reader" (221 : Nat) "SpendHouse$Thresh") ∈ lw_all := lw_g (lw_at lw_m6 137 rfl) rfl
theorem q1510 : (Jvm.Cond.instantiable "SpendHouse$Thresh" (20 : Nat)) ∈ lw_all := lw_g (lw_at lw_m6 138 rfl) rfl
theorem q1511 : (Jvm.Cond.methodLink "SpendHouse$Reader" (223 : Nat) ({ cls := "SpendHouse$Thresh", name := "<init>", desc := "(LSpendHouse;III[LSpendHouse$Node;)V" } : Jvm.MethodName)) ∈ lw_all := lw_g (lw_at lw_m6 139 rfl) rfl
theorem q1512 : (Jvm.Cond.instanceMethod ({ cls := "SpendHouse$Thresh", name := "<init>", desc := "(LSpendHouse;III[LSpendHouse$Node;)V" } : Jvm.MethodName)) ∈ lw_all := lw_g (lw_at lw_m6 140 rfl) rfl
theorem q1513 : (Jvm.Cond.code ({ cls := "SpendHouse$Thresh", name := "<init>", desc := "(LSpendHouse;III[LSpendHouse$Node;)V" } : Jvm.MethodName) prog_17_method_1_code (6 : Nat) (Option.none : Option Jvm.ClassFile.FieldType)) ∈ lw_all := lw_g (lw_at lw_m6 141 rfl) rfl
theorem q1514 : (Jvm.Cond.methodLink "SpendHouse$Thresh" (9 : Nat) ({ cls := "SpendHouse$Node", name := "<init>", desc := "(LSpendHouse;I)V" } : Jvm.MethodName)) ∈ lw_all := lw_g (lw_at lw_m6 142 rfl) rfl
theorem q1515 : (Jvm.Cond.fieldLink "SpendHouse$Thresh" (15 : Nat) "SpendHouse$Thresh" "needed" "I") ∈ lw_all := lw_g (lw_at lw_m6 143 rfl) rfl
theorem q1516 : (Jvm.Cond.fieldLink "SpendHouse$Thresh" (19 : Nat) "SpendHouse$Thresh" "many" "I") ∈ lw_all := lw_g (lw_at lw_m6 144 rfl) rfl
theorem q1517 : (Jvm.Cond.fieldLink "SpendHouse$Thresh" (22 : Nat) "SpendHouse$Thresh" "its" "[LSpendHouse$Node;") ∈ lw_all := lw_g (lw_at lw_m6 145 rfl) rfl
theorem q1518 : (Jvm.Cond.fieldLink "SpendHouse$Thresh" (3 : Nat) "SpendHouse$Thresh" "this$0" "LSpendHouse;") ∈ lw_all := lw_g (lw_at lw_m6 146 rfl) rfl
theorem q1519 : (Jvm.Cond.laysFinal "SpendHouse$Thresh" "SpendHouse$Thresh" "needed" "I") ∈ lw_all := lw_g (lw_at lw_m6 147 rfl) rfl
theorem q1521 : (Jvm.Cond.laysFinal "SpendHouse$Thresh" "SpendHouse$Thresh" "many" "I") ∈ lw_all := lw_g (lw_at lw_m6 149 rfl) rfl
theorem q1523 : (Jvm.Cond.laysFinal "SpendHouse$Thresh" "SpendHouse$Thresh" "its" "[LSpendHouse$Node;") ∈ lw_all := lw_g (lw_at lw_m6 151 rfl) rfl
theorem q1525 : (Jvm.Cond.laysFinal "SpendHouse$Thresh" "SpendHouse$Thresh" "this$0" "LSpendHouse;") ∈ lw_all := lw_g (lw_at lw_m6 153 rfl) rfl
theorem q1527 : (Jvm.Cond.laysFinal "SpendHouse$Thresh" "SpendHouse$Node" "place" "I") ∈ lw_all := lw_g (lw_at lw_m6 155 rfl) rfl
theorem q1528 : (Jvm.Cond.lays "SpendHouse$Thresh" "SpendHouse$Node" "base" "I") ∈ lw_all := lw_g (lw_at lw_m6 156 rfl) rfl
theorem q1529 : (Jvm.Cond.lays "SpendHouse$Thresh" "SpendHouse$Node" "times" "I") ∈ lw_all := lw_g (lw_at lw_m6 157 rfl) rfl
theorem q1530 : (Jvm.Cond.lays "SpendHouse$Thresh" "SpendHouse$Node" "z" "Z") ∈ lw_all := lw_g (lw_at lw_m6 158 rfl) rfl
theorem q1531 : (Jvm.Cond.lays "SpendHouse$Thresh" "SpendHouse$Node" "o" "Z") ∈ lw_all := lw_g (lw_at lw_m6 159 rfl) rfl
theorem q1532 : (Jvm.Cond.lays "SpendHouse$Thresh" "SpendHouse$Node" "n" "Z") ∈ lw_all := lw_g (lw_at lw_m6 160 rfl) rfl
theorem q1533 : (Jvm.Cond.lays "SpendHouse$Thresh" "SpendHouse$Node" "d" "Z") ∈ lw_all := lw_g (lw_at lw_m6 161 rfl) rfl
theorem q1534 : (Jvm.Cond.lays "SpendHouse$Thresh" "SpendHouse$Node" "u" "Z") ∈ lw_all := lw_g (lw_at lw_m6 162 rfl) rfl
theorem q1535 : (Jvm.Cond.lays "SpendHouse$Thresh" "SpendHouse$Node" "s" "Z") ∈ lw_all := lw_g (lw_at lw_m6 163 rfl) rfl
theorem q1536 : (Jvm.Cond.lays "SpendHouse$Thresh" "SpendHouse$Node" "f" "Z") ∈ lw_all := lw_g (lw_at lw_m6 164 rfl) rfl
theorem q1537 : (Jvm.Cond.lays "SpendHouse$Thresh" "SpendHouse$Node" "e" "Z") ∈ lw_all := lw_g (lw_at lw_m6 165 rfl) rfl
theorem q1538 : (Jvm.Cond.lays "SpendHouse$Thresh" "SpendHouse$Node" "m" "Z") ∈ lw_all := lw_g (lw_at lw_m6 166 rfl) rfl
theorem q1539 : (Jvm.Cond.lays "SpendHouse$Thresh" "SpendHouse$Node" "mixed" "Z") ∈ lw_all := lw_g (lw_at lw_m6 167 rfl) rfl
theorem q1540 : (Jvm.Cond.lays "SpendHouse$Thresh" "SpendHouse$Node" "plus" "LSpendHouse$Way;") ∈ lw_all := lw_g (lw_at lw_m6 168 rfl) rfl
theorem q1541 : (Jvm.Cond.lays "SpendHouse$Thresh" "SpendHouse$Node" "minus" "LSpendHouse$Way;") ∈ lw_all := lw_g (lw_at lw_m6 169 rfl) rfl
theorem q1542 : (Jvm.Cond.laysFinal "SpendHouse$Thresh" "SpendHouse$Node" "this$0" "LSpendHouse;") ∈ lw_all := lw_g (lw_at lw_m6 170 rfl) rfl
theorem q1543 : (Jvm.Cond.superclass "SpendHouse$Thresh" "SpendHouse$Node") ∈ lw_all := lw_g (lw_at lw_m6 171 rfl) rfl
theorem q1544 : (Jvm.Cond.methodLink "SpendHouse$Reader" (154 : Nat) ({ cls := "SpendHouse$Reader", name := "andor", desc := "(II)LSpendHouse$Node;" } : Jvm.MethodName)) ∈ lw_all := lw_g (lw_at lw_m6 172 rfl) rfl
theorem q1545 : (Jvm.Cond.privateMethod ({ cls := "SpendHouse$Reader", name := "andor", desc := "(II)LSpendHouse$Node;" } : Jvm.MethodName)) ∈ lw_tbl := lw_at lw_m6 173 rfl
theorem q1546 : (Jvm.Cond.instanceMethod ({ cls := "SpendHouse$Reader", name := "andor", desc := "(II)LSpendHouse$Node;" } : Jvm.MethodName)) ∈ lw_all := lw_g (lw_at lw_m6 174 rfl) rfl
theorem q1547 : (Jvm.Cond.code ({ cls := "SpendHouse$Reader", name := "andor", desc := "(II)LSpendHouse$Node;" } : Jvm.MethodName) prog_16_method_22_code (6 : Nat) (Option.some (Jvm.ClassFile.FieldType.object "SpendHouse$Node"))) ∈ lw_all := lw_g (lw_at lw_m6 175 rfl) rfl
theorem q1548 : (Jvm.Cond.classLink "SpendHouse$Reader" (226 : Nat) "SpendHouse$AndOr") ∈ lw_all := lw_g (lw_at lw_m6 176 rfl) rfl
theorem q1549 : (Jvm.Cond.instantiable "SpendHouse$AndOr" (20 : Nat)) ∈ lw_all := lw_g (lw_at lw_m6 177 rfl) rfl
theorem q1550 : (Jvm.Cond.methodLink "SpendHouse$Reader" (228 : Nat) ({ cls := "SpendHouse$AndOr", name := "<init>", desc := "(LSpendHouse;ILSpendHouse$Node;LSpendHouse$Node;LSpendHouse$Node;)V" } : Jvm.MethodName)) ∈ lw_all := lw_g (lw_at lw_m6 178 rfl) rfl
theorem q1551 : (Jvm.Cond.instanceMethod ({ cls := "SpendHouse$AndOr", name := "<init>", desc := "(LSpendHouse;ILSpendHouse$Node;LSpendHouse$Node;LSpendHouse$Node;)V" } : Jvm.MethodName)) ∈ lw_all := lw_g (lw_at lw_m6 179 rfl) rfl
theorem q1552 : (Jvm.Cond.code ({ cls := "SpendHouse$AndOr", name := "<init>", desc := "(LSpendHouse;ILSpendHouse$Node;LSpendHouse$Node;LSpendHouse$Node;)V" } : Jvm.MethodName) prog_2_method_1_code (6 : Nat) (Option.none : Option Jvm.ClassFile.FieldType)) ∈ lw_all := lw_g (lw_at lw_m6 180 rfl) rfl
theorem q1553 : (Jvm.Cond.methodLink "SpendHouse$AndOr" (9 : Nat) ({ cls := "SpendHouse$Node", name := "<init>", desc := "(LSpendHouse;I)V" } : Jvm.MethodName)) ∈ lw_all := lw_g (lw_at lw_m6 181 rfl) rfl
theorem q1554 : (Jvm.Cond.fieldLink "SpendHouse$AndOr" (15 : Nat) "SpendHouse$AndOr" "x" "LSpendHouse$Node;") ∈ lw_all := lw_g (lw_at lw_m6 182 rfl) rfl
theorem q1555 : (Jvm.Cond.fieldLink "SpendHouse$AndOr" (19 : Nat) "SpendHouse$AndOr" "y" "LSpendHouse$Node;") ∈ lw_all := lw_g (lw_at lw_m6 183 rfl) rfl
theorem q1556 : (Jvm.Cond.fieldLink "SpendHouse$AndOr" (22 : Nat) "SpendHouse$AndOr" "w" "LSpendHouse$Node;") ∈ lw_all := lw_g (lw_at lw_m6 184 rfl) rfl
theorem q1557 : (Jvm.Cond.fieldLink "SpendHouse$AndOr" (3 : Nat) "SpendHouse$AndOr" "this$0" "LSpendHouse;") ∈ lw_all := lw_g (lw_at lw_m6 185 rfl) rfl
theorem q1558 : (Jvm.Cond.laysFinal "SpendHouse$AndOr" "SpendHouse$AndOr" "x" "LSpendHouse$Node;") ∈ lw_all := lw_g (lw_at lw_m6 186 rfl) rfl
theorem q1560 : (Jvm.Cond.laysFinal "SpendHouse$AndOr" "SpendHouse$AndOr" "y" "LSpendHouse$Node;") ∈ lw_all := lw_g (lw_at lw_m6 188 rfl) rfl
theorem q1562 : (Jvm.Cond.laysFinal "SpendHouse$AndOr" "SpendHouse$AndOr" "w" "LSpendHouse$Node;") ∈ lw_all := lw_g (lw_at lw_m6 190 rfl) rfl
theorem q1564 : (Jvm.Cond.laysFinal "SpendHouse$AndOr" "SpendHouse$AndOr" "this$0" "LSpendHouse;") ∈ lw_all := lw_g (lw_at lw_m6 192 rfl) rfl
theorem q1566 : (Jvm.Cond.laysFinal "SpendHouse$AndOr" "SpendHouse$Node" "place" "I") ∈ lw_all := lw_g (lw_at lw_m6 194 rfl) rfl
theorem q1567 : (Jvm.Cond.lays "SpendHouse$AndOr" "SpendHouse$Node" "base" "I") ∈ lw_all := lw_g (lw_at lw_m6 195 rfl) rfl
theorem q1568 : (Jvm.Cond.lays "SpendHouse$AndOr" "SpendHouse$Node" "times" "I") ∈ lw_all := lw_g (lw_at lw_m6 196 rfl) rfl
theorem q1569 : (Jvm.Cond.lays "SpendHouse$AndOr" "SpendHouse$Node" "z" "Z") ∈ lw_all := lw_g (lw_at lw_m6 197 rfl) rfl
theorem q1570 : (Jvm.Cond.lays "SpendHouse$AndOr" "SpendHouse$Node" "o" "Z") ∈ lw_all := lw_g (lw_at lw_m6 198 rfl) rfl
theorem q1571 : (Jvm.Cond.lays "SpendHouse$AndOr" "SpendHouse$Node" "n" "Z") ∈ lw_all := lw_g (lw_at lw_m6 199 rfl) rfl
theorem q1572 : (Jvm.Cond.lays "SpendHouse$AndOr" "SpendHouse$Node" "d" "Z") ∈ lw_all := lw_g (lw_at lw_m6 200 rfl) rfl
theorem q1573 : (Jvm.Cond.lays "SpendHouse$AndOr" "SpendHouse$Node" "u" "Z") ∈ lw_all := lw_g (lw_at lw_m6 201 rfl) rfl
theorem q1574 : (Jvm.Cond.lays "SpendHouse$AndOr" "SpendHouse$Node" "s" "Z") ∈ lw_all := lw_g (lw_at lw_m6 202 rfl) rfl
theorem q1575 : (Jvm.Cond.lays "SpendHouse$AndOr" "SpendHouse$Node" "f" "Z") ∈ lw_all := lw_g (lw_at lw_m6 203 rfl) rfl
theorem q1576 : (Jvm.Cond.lays "SpendHouse$AndOr" "SpendHouse$Node" "e" "Z") ∈ lw_all := lw_g (lw_at lw_m6 204 rfl) rfl
theorem q1577 : (Jvm.Cond.lays "SpendHouse$AndOr" "SpendHouse$Node" "m" "Z") ∈ lw_all := lw_g (lw_at lw_m6 205 rfl) rfl
theorem q1578 : (Jvm.Cond.lays "SpendHouse$AndOr" "SpendHouse$Node" "mixed" "Z") ∈ lw_all := lw_g (lw_at lw_m6 206 rfl) rfl
theorem q1579 : (Jvm.Cond.lays "SpendHouse$AndOr" "SpendHouse$Node" "plus" "LSpendHouse$Way;") ∈ lw_all := lw_g (lw_at lw_m6 207 rfl) rfl
theorem q1580 : (Jvm.Cond.lays "SpendHouse$AndOr" "SpendHouse$Node" "minus" "LSpendHouse$Way;") ∈ lw_all := lw_g (lw_at lw_m6 208 rfl) rfl
theorem q1581 : (Jvm.Cond.laysFinal "SpendHouse$AndOr" "SpendHouse$Node" "this$0" "LSpendHouse;") ∈ lw_all := lw_g (lw_at lw_m6 209 rfl) rfl
theorem q1582 : (Jvm.Cond.superclass "SpendHouse$AndOr" "SpendHouse$Node") ∈ lw_all := lw_g (lw_at lw_m6 210 rfl) rfl
theorem q1583 : (Jvm.Cond.methodLink "SpendHouse$Reader" (156 : Nat) ({ cls := "SpendHouse$Reader", name := "andN", desc := "(II)LSpendHouse$Node;" } : Jvm.MethodName)) ∈ lw_all := lw_g (lw_at lw_m6 211 rfl) rfl
theorem q1584 : (Jvm.Cond.privateMethod ({ cls := "SpendHouse$Reader", name := "andN", desc := "(II)LSpendHouse$Node;" } : Jvm.MethodName)) ∈ lw_tbl := lw_at lw_m6 212 rfl
theorem q1585 : (Jvm.Cond.instanceMethod ({ cls := "SpendHouse$Reader", name := "andN", desc := "(II)LSpendHouse$Node;" } : Jvm.MethodName)) ∈ lw_all := lw_g (lw_at lw_m6 213 rfl) rfl
theorem q1586 : (Jvm.Cond.code ({ cls := "SpendHouse$Reader", name := "andN", desc := "(II)LSpendHouse$Node;" } : Jvm.MethodName) prog_16_method_23_code (5 : Nat) (Option.some (Jvm.ClassFile.FieldType.object "SpendHouse$Node"))) ∈ lw_all := lw_g (lw_at lw_m6 214 rfl) rfl
theorem q1587 : (Jvm.Cond.methodLink "SpendHouse$Reader" (159 : Nat) ({ cls := "SpendHouse$Reader", name := "other", desc := "(ILjava/lang/String;I)LSpendHouse$Node;" } : Jvm.MethodName)) ∈ lw_all := lw_g (lw_at lw_m6 215 rfl) rfl
theorem q1588 : (Jvm.Cond.privateMethod ({ cls := "SpendHouse$Reader", name := "other", desc := "(ILjava/lang/String;I)LSpendHouse$Node;" } : Jvm.MethodName)) ∈ lw_tbl := lw_at lw_m6 216 rfl
theorem q1589 : (Jvm.Cond.instanceMethod ({ cls := "SpendHouse$Reader", name := "other", desc := "(ILjava/lang/String;I)LSpendHouse$Node;" } : Jvm.MethodName)) ∈ lw_all := lw_g (lw_at lw_m6 217 rfl) rfl
theorem q1590 : (Jvm.Cond.code ({ cls := "SpendHouse$Reader", name := "other", desc := "(ILjava/lang/String;I)LSpendHouse$Node;" } : Jvm.MethodName) prog_16_method_14_code (7 : Nat) (Option.some (Jvm.ClassFile.FieldType.object "SpendHouse$Node"))) ∈ lw_all := lw_g (lw_at lw_m6 218 rfl) rfl
theorem q1591 : (Jvm.Cond.methodLinkNest "SpendHouse$Reader" (170 : Nat) ({ cls := "SpendHouse", name := "pair", desc := "(I)Ljava/lang/String;" } : Jvm.MethodName) "SpendHouse") ∈ lw_tbl := lw_at lw_m6 219 rfl
theorem q1592 : (Jvm.Cond.static ({ cls := "SpendHouse", name := "pair", desc := "(I)Ljava/lang/String;" } : Jvm.MethodName)) ∈ lw_all := lw_g (lw_at lw_m6 220 rfl) rfl
theorem q1593 : (Jvm.Cond.code ({ cls := "SpendHouse", name := "pair", desc := "(I)Ljava/lang/String;" } : Jvm.MethodName) prog_1_method_10_code (1 : Nat) (Option.some (Jvm.ClassFile.FieldType.object "java/lang/String"))) ∈ lw_all := lw_g (lw_at lw_m6 221 rfl) rfl
theorem q1594 : (Jvm.Cond.stringRef "SpendHouse" (116 : Nat) "and_v") ∈ lw_tbl := lw_at lw_m6 222 rfl
theorem q1595 : (Jvm.Cond.stringRef "SpendHouse" (118 : Nat) "and_b") ∈ lw_tbl := lw_at lw_m6 223 rfl
theorem q1596 : (Jvm.Cond.stringRef "SpendHouse" (120 : Nat) "or_b") ∈ lw_tbl := lw_at lw_m6 224 rfl
theorem q1597 : (Jvm.Cond.stringRef "SpendHouse" (122 : Nat) "or_c") ∈ lw_tbl := lw_at lw_m6 225 rfl
theorem q1598 : (Jvm.Cond.stringRef "SpendHouse" (124 : Nat) "or_d") ∈ lw_tbl := lw_at lw_m6 226 rfl
theorem q1599 : (Jvm.Cond.stringRef "SpendHouse" (126 : Nat) "or_i") ∈ lw_tbl := lw_at lw_m6 227 rfl
theorem q1600 : (Jvm.Cond.classLink "SpendHouse$Reader" (180 : Nat) "SpendHouse$Pair") ∈ lw_all := lw_g (lw_at lw_m6 228 rfl) rfl
theorem q1601 : (Jvm.Cond.methodLink "SpendHouse$Reader" (182 : Nat) ({ cls := "SpendHouse$Pair", name := "<init>", desc := "(LSpendHouse;IILSpendHouse$Node;LSpendHouse$Node;)V" } : Jvm.MethodName)) ∈ lw_all := lw_g (lw_at lw_m6 229 rfl) rfl
theorem q1602 : (Jvm.Cond.instanceMethod ({ cls := "SpendHouse$Pair", name := "<init>", desc := "(LSpendHouse;IILSpendHouse$Node;LSpendHouse$Node;)V" } : Jvm.MethodName)) ∈ lw_all := lw_g (lw_at lw_m6 230 rfl) rfl
theorem q1603 : (Jvm.Cond.code ({ cls := "SpendHouse$Pair", name := "<init>", desc := "(LSpendHouse;IILSpendHouse$Node;LSpendHouse$Node;)V" } : Jvm.MethodName) prog_14_method_1_code (6 : Nat) (Option.none : Option Jvm.ClassFile.FieldType)) ∈ lw_all := lw_g (lw_at lw_m6 231 rfl) rfl
theorem q1604 : (Jvm.Cond.methodLink "SpendHouse$Pair" (9 : Nat) ({ cls := "SpendHouse$Node", name := "<init>", desc := "(LSpendHouse;I)V" } : Jvm.MethodName)) ∈ lw_all := lw_g (lw_at lw_m6 232 rfl) rfl
theorem q1605 : (Jvm.Cond.fieldLink "SpendHouse$Pair" (15 : Nat) "SpendHouse$Pair" "how" "I") ∈ lw_all := lw_g (lw_at lw_m6 233 rfl) rfl
theorem q1606 : (Jvm.Cond.fieldLink "SpendHouse$Pair" (19 : Nat) "SpendHouse$Pair" "x" "LSpendHouse$Node;") ∈ lw_all := lw_g (lw_at lw_m6 234 rfl) rfl
theorem q1607 : (Jvm.Cond.fieldLink "SpendHouse$Pair" (23 : Nat) "SpendHouse$Pair" "y" "LSpendHouse$Node;") ∈ lw_all := lw_g (lw_at lw_m6 235 rfl) rfl
theorem q1608 : (Jvm.Cond.fieldLink "SpendHouse$Pair" (3 : Nat) "SpendHouse$Pair" "this$0" "LSpendHouse;") ∈ lw_all := lw_g (lw_at lw_m6 236 rfl) rfl
theorem q1609 : (Jvm.Cond.laysFinal "SpendHouse$Pair" "SpendHouse$Pair" "how" "I") ∈ lw_all := lw_g (lw_at lw_m6 237 rfl) rfl
theorem q1611 : (Jvm.Cond.laysFinal "SpendHouse$Pair" "SpendHouse$Pair" "x" "LSpendHouse$Node;") ∈ lw_all := lw_g (lw_at lw_m6 239 rfl) rfl
theorem q1613 : (Jvm.Cond.laysFinal "SpendHouse$Pair" "SpendHouse$Pair" "y" "LSpendHouse$Node;") ∈ lw_all := lw_g (lw_at lw_m7 1 rfl) rfl
theorem q1615 : (Jvm.Cond.laysFinal "SpendHouse$Pair" "SpendHouse$Pair" "this$0" "LSpendHouse;") ∈ lw_all := lw_g (lw_at lw_m7 3 rfl) rfl
theorem q1617 : (Jvm.Cond.laysFinal "SpendHouse$Pair" "SpendHouse$Node" "place" "I") ∈ lw_all := lw_g (lw_at lw_m7 5 rfl) rfl
theorem q1618 : (Jvm.Cond.lays "SpendHouse$Pair" "SpendHouse$Node" "base" "I") ∈ lw_all := lw_g (lw_at lw_m7 6 rfl) rfl
theorem q1619 : (Jvm.Cond.lays "SpendHouse$Pair" "SpendHouse$Node" "times" "I") ∈ lw_all := lw_g (lw_at lw_m7 7 rfl) rfl
theorem q1620 : (Jvm.Cond.lays "SpendHouse$Pair" "SpendHouse$Node" "z" "Z") ∈ lw_all := lw_g (lw_at lw_m7 8 rfl) rfl
theorem q1621 : (Jvm.Cond.lays "SpendHouse$Pair" "SpendHouse$Node" "o" "Z") ∈ lw_all := lw_g (lw_at lw_m7 9 rfl) rfl
theorem q1622 : (Jvm.Cond.lays "SpendHouse$Pair" "SpendHouse$Node" "n" "Z") ∈ lw_all := lw_g (lw_at lw_m7 10 rfl) rfl
theorem q1623 : (Jvm.Cond.lays "SpendHouse$Pair" "SpendHouse$Node" "d" "Z") ∈ lw_all := lw_g (lw_at lw_m7 11 rfl) rfl
theorem q1624 : (Jvm.Cond.lays "SpendHouse$Pair" "SpendHouse$Node" "u" "Z") ∈ lw_all := lw_g (lw_at lw_m7 12 rfl) rfl
theorem q1625 : (Jvm.Cond.lays "SpendHouse$Pair" "SpendHouse$Node" "s" "Z") ∈ lw_all := lw_g (lw_at lw_m7 13 rfl) rfl
theorem q1626 : (Jvm.Cond.lays "SpendHouse$Pair" "SpendHouse$Node" "f" "Z") ∈ lw_all := lw_g (lw_at lw_m7 14 rfl) rfl
theorem q1627 : (Jvm.Cond.lays "SpendHouse$Pair" "SpendHouse$Node" "e" "Z") ∈ lw_all := lw_g (lw_at lw_m7 15 rfl) rfl
theorem q1628 : (Jvm.Cond.lays "SpendHouse$Pair" "SpendHouse$Node" "m" "Z") ∈ lw_all := lw_g (lw_at lw_m7 16 rfl) rfl
theorem q1629 : (Jvm.Cond.lays "SpendHouse$Pair" "SpendHouse$Node" "mixed" "Z") ∈ lw_all := lw_g (lw_at lw_m7 17 rfl) rfl
theorem q1630 : (Jvm.Cond.lays "SpendHouse$Pair" "SpendHouse$Node" "plus" "LSpendHouse$Way;") ∈ lw_all := lw_g (lw_at lw_m7 18 rfl) rfl
theorem q1631 : (Jvm.Cond.lays "SpendHouse$Pair" "SpendHouse$Node" "minus" "LSpendHouse$Way;") ∈ lw_all := lw_g (lw_at lw_m7 19 rfl) rfl
theorem q1632 : (Jvm.Cond.laysFinal "SpendHouse$Pair" "SpendHouse$Node" "this$0" "LSpendHouse;") ∈ lw_all := lw_g (lw_at lw_m7 20 rfl) rfl
theorem q1633 : (Jvm.Cond.superclass "SpendHouse$Pair" "SpendHouse$Node") ∈ lw_all := lw_g (lw_at lw_m7 21 rfl) rfl
theorem q1634 : (Jvm.Cond.methodLink "SpendHouse$Reader" (185 : Nat) ({ cls := "SpendHouse$Reader", name := "findWrapper", desc := "(Ljava/lang/String;)V" } : Jvm.MethodName)) ∈ lw_all := lw_g (lw_at lw_m7 22 rfl) rfl
theorem q1635 : (Jvm.Cond.privateMethod ({ cls := "SpendHouse$Reader", name := "findWrapper", desc := "(Ljava/lang/String;)V" } : Jvm.MethodName)) ∈ lw_tbl := lw_at lw_m7 23 rfl
theorem q1636 : (Jvm.Cond.instanceMethod ({ cls := "SpendHouse$Reader", name := "findWrapper", desc := "(Ljava/lang/String;)V" } : Jvm.MethodName)) ∈ lw_all := lw_g (lw_at lw_m7 24 rfl) rfl
theorem q1637 : (Jvm.Cond.code ({ cls := "SpendHouse$Reader", name := "findWrapper", desc := "(Ljava/lang/String;)V" } : Jvm.MethodName) prog_16_method_16_code (3 : Nat) (Option.none : Option Jvm.ClassFile.FieldType)) ∈ lw_all := lw_g (lw_at lw_m7 25 rfl) rfl
theorem q1638 : (Jvm.Cond.stringRef "SpendHouse$Reader" (189 : Nat) "ascdvjntlu") ∈ lw_tbl := lw_at lw_m7 26 rfl
theorem q1639 : (Jvm.Cond.methodLink "SpendHouse$Reader" (191 : Nat) ({ cls := "java/lang/String", name := "indexOf", desc := "(I)I" } : Jvm.MethodName)) ∈ lw_all := lw_g (lw_at lw_m7 27 rfl) rfl
theorem q1640 : (Jvm.Cond.instanceMethod ({ cls := "java/lang/String", name := "indexOf", desc := "(I)I" } : Jvm.MethodName)) ∈ lw_all := lw_g (lw_at lw_m7 28 rfl) rfl
theorem q1641 : (Jvm.Cond.selects "java/lang/String" ({ cls := "java/lang/String", name := "indexOf", desc := "(I)I" } : Jvm.MethodName) ({ cls := "java/lang/String", name := "indexOf", desc := "(I)I" } : Jvm.MethodName)) ∈ lw_all := lw_g (lw_at lw_m7 29 rfl) rfl
theorem q1642 : (Jvm.Cond.code ({ cls := "java/lang/String", name := "indexOf", desc := "(I)I" } : Jvm.MethodName) prog_31_method_79_code (2 : Nat) (Option.some Jvm.ClassFile.FieldType.int)) ∈ lw_all := lw_g (lw_at lw_m7 30 rfl) rfl
theorem q1643 : (Jvm.Cond.methodLink "java/lang/String" (633 : Nat) ({ cls := "java/lang/String", name := "indexOf", desc := "(II)I" } : Jvm.MethodName)) ∈ lw_all := lw_g (lw_at lw_m7 31 rfl) rfl
theorem q1644 : (Jvm.Cond.instanceMethod ({ cls := "java/lang/String", name := "indexOf", desc := "(II)I" } : Jvm.MethodName)) ∈ lw_all := lw_g (lw_at lw_m7 32 rfl) rfl
theorem q1645 : (Jvm.Cond.selects "java/lang/String" ({ cls := "java/lang/String", name := "indexOf", desc := "(II)I" } : Jvm.MethodName) ({ cls := "java/lang/String", name := "indexOf", desc := "(II)I" } : Jvm.MethodName)) ∈ lw_all := lw_g (lw_at lw_m7 33 rfl) rfl
theorem q1646 : (Jvm.Cond.code ({ cls := "java/lang/String", name := "indexOf", desc := "(II)I" } : Jvm.MethodName) prog_31_method_80_code (3 : Nat) (Option.some Jvm.ClassFile.FieldType.int)) ∈ lw_all := lw_g (lw_at lw_m7 34 rfl) rfl
theorem q1647 : (Jvm.Cond.methodLink "java/lang/String" (505 : Nat) ({ cls := "java/lang/String", name := "length", desc := "()I" } : Jvm.MethodName)) ∈ lw_all := lw_g (lw_at lw_m7 35 rfl) rfl
theorem q1648 : (Jvm.Cond.methodLink "java/lang/String" (637 : Nat) ({ cls := "java/lang/StringLatin1", name := "indexOf", desc := "([BIII)I" } : Jvm.MethodName)) ∈ lw_all := lw_g (lw_at lw_m7 36 rfl) rfl
theorem q1649 : (Jvm.Cond.static ({ cls := "java/lang/StringLatin1", name := "indexOf", desc := "([BIII)I" } : Jvm.MethodName)) ∈ lw_all := lw_g (lw_at lw_m7 37 rfl) rfl
theorem q1650 : (Jvm.Cond.code ({ cls := "java/lang/StringLatin1", name := "indexOf", desc := "([BIII)I" } : Jvm.MethodName) prog_33_method_22_code (4 : Nat) (Option.some Jvm.ClassFile.FieldType.int)) ∈ lw_all := lw_g (lw_at lw_m7 38 rfl) rfl
theorem q1651 : (Jvm.Cond.methodLink "java/lang/StringLatin1" (88 : Nat) ({ cls := "java/lang/StringLatin1", name := "canEncode", desc := "(I)Z" } : Jvm.MethodName)) ∈ lw_all := lw_g (lw_at lw_m7 39 rfl) rfl
theorem q1652 : (Jvm.Cond.static ({ cls := "java/lang/StringLatin1", name := "canEncode", desc := "(I)Z" } : Jvm.MethodName)) ∈ lw_all := lw_g (lw_at lw_m7 40 rfl) rfl
theorem q1653 : (Jvm.Cond.code ({ cls := "java/lang/StringLatin1", name := "canEncode", desc := "(I)Z" } : Jvm.MethodName) prog_33_method_4_code (1 : Nat) (Option.some Jvm.ClassFile.FieldType.boolean)) ∈ lw_all := lw_g (lw_at lw_m7 41 rfl) rfl
theorem q1654 : (Jvm.Cond.methodLink "java/lang/StringLatin1" (92 : Nat) ({ cls := "java/lang/Math", name := "max", desc := "(II)I" } : Jvm.MethodName)) ∈ lw_all := lw_g (lw_at lw_m7 42 rfl) rfl
theorem q1655 : (Jvm.Cond.methodLink "java/lang/StringLatin1" (38 : Nat) ({ cls := "java/lang/Math", name := "min", desc := "(II)I" } : Jvm.MethodName)) ∈ lw_all := lw_g (lw_at lw_m7 43 rfl) rfl
theorem q1656 : (Jvm.Cond.methodLink "java/lang/StringLatin1" (95 : Nat) ({ cls := "java/lang/StringLatin1", name := "indexOfChar", desc := "([BIII)I" } : Jvm.MethodName)) ∈ lw_all := lw_g (lw_at lw_m7 44 rfl) rfl
theorem q1657 : (Jvm.Cond.static ({ cls := "java/lang/StringLatin1", name := "indexOfChar", desc := "([BIII)I" } : Jvm.MethodName)) ∈ lw_all := lw_g (lw_at lw_m7 45 rfl) rfl
theorem q1658 : (Jvm.Cond.code ({ cls := "java/lang/StringLatin1", name := "indexOfChar", desc := "([BIII)I" } : Jvm.MethodName) prog_33_method_23_code (6 : Nat) (Option.some Jvm.ClassFile.FieldType.int)) ∈ lw_all := lw_g (lw_at lw_m7 46 rfl) rfl
theorem q1659 : (Jvm.Cond.methodLink "java/lang/String" (640 : Nat) ({ cls := "java/lang/StringUTF16", name := "indexOf", desc := "([BIII)I" } : Jvm.MethodName)) ∈ lw_all := lw_g (lw_at lw_m7 47 rfl) rfl
theorem q1660 : (Jvm.Cond.static ({ cls := "java/lang/StringUTF16", name := "indexOf", desc := "([BIII)I" } : Jvm.MethodName)) ∈ lw_all := lw_g (lw_at lw_m7 48 rfl) rfl
theorem q1661 : (Jvm.Cond.code ({ cls := "java/lang/StringUTF16", name := "indexOf", desc := "([BIII)I" } : Jvm.MethodName) prog_34_method_40_code (4 : Nat) (Option.some Jvm.ClassFile.FieldType.int)) ∈ lw_all := lw_g (lw_at lw_m7 49 rfl) rfl
theorem q1662 : (Jvm.Cond.methodLink "java/lang/StringUTF16" (224 : Nat) ({ cls := "java/lang/Math", name := "max", desc := "(II)I" } : Jvm.MethodName)) ∈ lw_all := lw_g (lw_at lw_m7 50 rfl) rfl
theorem q1663 : (Jvm.Cond.methodLink "java/lang/StringUTF16" (183 : Nat) ({ cls := "java/lang/Math", name := "min", desc := "(II)I" } : Jvm.MethodName)) ∈ lw_all := lw_g (lw_at lw_m7 51 rfl) rfl
theorem q1664 : (Jvm.Cond.constant "java/lang/StringUTF16" (227 : Nat) (65536 : Int32)) ∈ lw_all := lw_g (lw_at lw_m7 52 rfl) rfl
theorem q1665 : (Jvm.Cond.methodLink "java/lang/StringUTF16" (228 : Nat) ({ cls := "java/lang/StringUTF16", name := "indexOfChar", desc := "([BIII)I" } : Jvm.MethodName)) ∈ lw_all := lw_g (lw_at lw_m7 53 rfl) rfl
theorem q1666 : (Jvm.Cond.static ({ cls := "java/lang/StringUTF16", name := "indexOfChar", desc := "([BIII)I" } : Jvm.MethodName)) ∈ lw_all := lw_g (lw_at lw_m7 54 rfl) rfl
theorem q1667 : (Jvm.Cond.code ({ cls := "java/lang/StringUTF16", name := "indexOfChar", desc := "([BIII)I" } : Jvm.MethodName) prog_34_method_47_code (4 : Nat) (Option.some Jvm.ClassFile.FieldType.int)) ∈ lw_all := lw_g (lw_at lw_m7 55 rfl) rfl
theorem q1668 : (Jvm.Cond.methodLink "java/lang/StringUTF16" (96 : Nat) ({ cls := "java/lang/StringUTF16", name := "checkBoundsBeginEnd", desc := "(II[B)V" } : Jvm.MethodName)) ∈ lw_all := lw_g (lw_at lw_m7 56 rfl) rfl
theorem q1669 : (Jvm.Cond.static ({ cls := "java/lang/StringUTF16", name := "checkBoundsBeginEnd", desc := "(II[B)V" } : Jvm.MethodName)) ∈ lw_all := lw_g (lw_at lw_m7 57 rfl) rfl
theorem q1670 : (Jvm.Cond.code ({ cls := "java/lang/StringUTF16", name := "checkBoundsBeginEnd", desc := "(II[B)V" } : Jvm.MethodName) prog_34_method_93_code (3 : Nat) (Option.none : Option Jvm.ClassFile.FieldType)) ∈ lw_all := lw_g (lw_at lw_m7 58 rfl) rfl
theorem q1671 : (Jvm.Cond.methodLink "java/lang/StringUTF16" (241 : Nat) ({ cls := "java/lang/String", name := "checkBoundsBeginEnd", desc := "(III)V" } : Jvm.MethodName)) ∈ lw_all := lw_g (lw_at lw_m7 59 rfl) rfl
theorem q1672 : (Jvm.Cond.static ({ cls := "java/lang/String", name := "checkBoundsBeginEnd", desc := "(III)V" } : Jvm.MethodName)) ∈ lw_all := lw_g (lw_at lw_m7 60 rfl) rfl
theorem q1673 : (Jvm.Cond.code ({ cls := "java/lang/String", name := "checkBoundsBeginEnd", desc := "(III)V" } : Jvm.MethodName) prog_31_method_158_code (3 : Nat) (Option.none : Option Jvm.ClassFile.FieldType)) ∈ lw_all := lw_g (lw_at lw_m7 61 rfl) rfl
theorem q1674 : (Jvm.Cond.methodLink "java/lang/String" (1062 : Nat) ({ cls := "jdk/internal/util/Preconditions", name := "checkFromToIndex", desc := "(IIILjava/util/function/BiFunction;)I" } : Jvm.MethodName)) ∈ lw_all := lw_g (lw_at lw_m7 62 rfl) rfl
theorem q1675 : (Jvm.Cond.static ({ cls := "jdk/internal/util/Preconditions", name := "checkFromToIndex", desc := "(IIILjava/util/function/BiFunction;)I" } : Jvm.MethodName)) ∈ lw_all := lw_g (lw_at lw_m7 63 rfl) rfl
theorem q1676 : (Jvm.Cond.code ({ cls := "jdk/internal/util/Preconditions", name := "checkFromToIndex", desc := "(IIILjava/util/function/BiFunction;)I" } : Jvm.MethodName) prog_41_method_12_code (4 : Nat) (Option.some Jvm.ClassFile.FieldType.int)) ∈ lw_all := lw_g (lw_at lw_m7 64 rfl) rfl
theorem q1677 : (Jvm.Cond.methodLink "java/lang/StringUTF16" (244 : Nat) ({ cls := "java/lang/StringUTF16", name := "indexOfCharUnsafe", desc := "([BIII)I" } : Jvm.MethodName)) ∈ lw_all := lw_g (lw_at lw_m7 65 rfl) rfl
theorem q1678 : (Jvm.Cond.static ({ cls := "java/lang/StringUTF16", name := "indexOfCharUnsafe", desc := "([BIII)I" } : Jvm.MethodName)) ∈ lw_all := lw_g (lw_at lw_m7 66 rfl) rfl
theorem q1679 : (Jvm.Cond.code ({ cls := "java/lang/StringUTF16", name := "indexOfCharUnsafe", desc := "([BIII)I" } : Jvm.MethodName) prog_34_method_48_code (5 : Nat) (Option.some Jvm.ClassFile.FieldType.int)) ∈ lw_all := lw_g (lw_at lw_m7 67 rfl) rfl
theorem q1680 : (Jvm.Cond.methodLink "java/lang/StringUTF16" (232 : Nat) ({ cls := "java/lang/StringUTF16", name := "indexOfSupplementary", desc := "([BIII)I" } : Jvm.MethodName)) ∈ lw_all := lw_g (lw_at lw_m7 68 rfl) rfl
theorem q1681 : (Jvm.Cond.static ({ cls := "java/lang/StringUTF16", name := "indexOfSupplementary", desc := "([BIII)I" } : Jvm.MethodName)) ∈ lw_all := lw_g (lw_at lw_m7 69 rfl) rfl
theorem q1682 : (Jvm.Cond.code ({ cls := "java/lang/StringUTF16", name := "indexOfSupplementary", desc := "([BIII)I" } : Jvm.MethodName) prog_34_method_49_code (7 : Nat) (Option.some Jvm.ClassFile.FieldType.int)) ∈ lw_all := lw_g (lw_at lw_m7 70 rfl) rfl
theorem q1683 : (Jvm.Cond.methodLink "java/lang/StringUTF16" (164 : Nat) ({ cls := "java/lang/Character", name := "isValidCodePoint", desc := "(I)Z" } : Jvm.MethodName)) ∈ lw_all := lw_g (lw_at lw_m7 71 rfl) rfl
theorem q1684 : (Jvm.Cond.static ({ cls := "java/lang/Character", name := "isValidCodePoint", desc := "(I)Z" } : Jvm.MethodName)) ∈ lw_all := lw_g (lw_at lw_m7 72 rfl) rfl
theorem q1685 : (Jvm.Cond.code ({ cls := "java/lang/Character", name := "isValidCodePoint", desc := "(I)Z" } : Jvm.MethodName) prog_25_method_11_code (2 : Nat) (Option.some Jvm.ClassFile.FieldType.boolean)) ∈ lw_all := lw_g (lw_at lw_m7 73 rfl) rfl
theorem q1686 : (Jvm.Cond.methodLink "java/lang/StringUTF16" (157 : Nat) ({ cls := "java/lang/Character", name := "highSurrogate", desc := "(I)C" } : Jvm.MethodName)) ∈ lw_all := lw_g (lw_at lw_m7 74 rfl) rfl
theorem q1687 : (Jvm.Cond.static ({ cls := "java/lang/Character", name := "highSurrogate", desc := "(I)C" } : Jvm.MethodName)) ∈ lw_all := lw_g (lw_at lw_m7 75 rfl) rfl
theorem q1688 : (Jvm.Cond.code ({ cls := "java/lang/Character", name := "highSurrogate", desc := "(I)C" } : Jvm.MethodName) prog_25_method_28_code (1 : Nat) (Option.some Jvm.ClassFile.FieldType.char)) ∈ lw_all := lw_g (lw_at lw_m7 76 rfl) rfl
theorem q1689 : (Jvm.Cond.constant "java/lang/Character" (110 : Nat) (55232 : Int32)) ∈ lw_all := lw_g (lw_at lw_m7 77 rfl) rfl
theorem q1690 : (Jvm.Cond.methodLink "java/lang/StringUTF16" (161 : Nat) ({ cls := "java/lang/Character", name := "lowSurrogate", desc := "(I)C" } : Jvm.MethodName)) ∈ lw_all := lw_g (lw_at lw_m7 78 rfl) rfl
theorem q1691 : (Jvm.Cond.static ({ cls := "java/lang/Character", name := "lowSurrogate", desc := "(I)C" } : Jvm.MethodName)) ∈ lw_all := lw_g (lw_at lw_m7 79 rfl) rfl
theorem q1692 : (Jvm.Cond.code ({ cls := "java/lang/Character", name := "lowSurrogate", desc := "(I)C" } : Jvm.MethodName) prog_25_method_29_code (1 : Nat) (Option.some Jvm.ClassFile.FieldType.char)) ∈ lw_all := lw_g (lw_at lw_m7 80 rfl) rfl
theorem q1693 : (Jvm.Cond.constant "java/lang/Character" (76 : Nat) (56320 : Int32)) ∈ lw_all := lw_g (lw_at lw_m7 81 rfl) rfl
theorem q1694 : (Jvm.Cond.methodLink "SpendHouse" (158 : Nat) ({ cls := "SpendHouse$Reader", name := "ends", desc := "()V" } : Jvm.MethodName)) ∈ lw_all := lw_g (lw_at lw_m7 82 rfl) rfl
theorem q1695 : (Jvm.Cond.instanceMethod ({ cls := "SpendHouse$Reader", name := "ends", desc := "()V" } : Jvm.MethodName)) ∈ lw_all := lw_g (lw_at lw_m7 83 rfl) rfl
theorem q1696 : (Jvm.Cond.selects "SpendHouse$Reader" ({ cls := "SpendHouse$Reader", name := "ends", desc := "()V" } : Jvm.MethodName) ({ cls := "SpendHouse$Reader", name := "ends", desc := "()V" } : Jvm.MethodName)) ∈ lw_all := lw_g (lw_at lw_m7 84 rfl) rfl
theorem q1697 : (Jvm.Cond.code ({ cls := "SpendHouse$Reader", name := "ends", desc := "()V" } : Jvm.MethodName) prog_16_method_26_code (1 : Nat) (Option.none : Option Jvm.ClassFile.FieldType)) ∈ lw_all := lw_g (lw_at lw_m7 85 rfl) rfl
theorem q1698 : (Jvm.Cond.methodLink "SpendHouse" (161 : Nat) ({ cls := "SpendHouse$Policy", name := "node", desc := "()LSpendHouse$Node;" } : Jvm.MethodName)) ∈ lw_all := lw_g (lw_at lw_m7 86 rfl) rfl
theorem q1699 : (Jvm.Cond.instanceMethod ({ cls := "SpendHouse$Policy", name := "node", desc := "()LSpendHouse$Node;" } : Jvm.MethodName)) ∈ lw_all := lw_g (lw_at lw_m7 87 rfl) rfl
theorem q1700 : (Jvm.Cond.selects "SpendHouse$Policy" ({ cls := "SpendHouse$Policy", name := "node", desc := "()LSpendHouse$Node;" } : Jvm.MethodName) ({ cls := "SpendHouse$Policy", name := "node", desc := "()LSpendHouse$Node;" } : Jvm.MethodName)) ∈ lw_all := lw_g (lw_at lw_m7 88 rfl) rfl
theorem q1701 : (Jvm.Cond.code ({ cls := "SpendHouse$Policy", name := "node", desc := "()LSpendHouse$Node;" } : Jvm.MethodName) prog_15_method_6_code (1 : Nat) (Option.some (Jvm.ClassFile.FieldType.object "SpendHouse$Node"))) ∈ lw_all := lw_g (lw_at lw_m7 89 rfl) rfl
theorem q1702 : (Jvm.Cond.methodLink "SpendHouse$Policy" (50 : Nat) ({ cls := "SpendHouse$Policy", name := "node", desc := "()LSpendHouse$Node;" } : Jvm.MethodName)) ∈ lw_all := lw_g (lw_at lw_m7 90 rfl) rfl
theorem q1703 : (Jvm.Cond.methodLink "SpendHouse$Policy" (54 : Nat) ({ cls := "SpendHouse$Policy", name := "and", desc := "(LSpendHouse$Node;LSpendHouse$Node;)LSpendHouse$Node;" } : Jvm.MethodName)) ∈ lw_all := lw_g (lw_at lw_m7 91 rfl) rfl
theorem q1704 : (Jvm.Cond.privateMethod ({ cls := "SpendHouse$Policy", name := "and", desc := "(LSpendHouse$Node;LSpendHouse$Node;)LSpendHouse$Node;" } : Jvm.MethodName)) ∈ lw_tbl := lw_at lw_m7 92 rfl
theorem q1705 : (Jvm.Cond.instanceMethod ({ cls := "SpendHouse$Policy", name := "and", desc := "(LSpendHouse$Node;LSpendHouse$Node;)LSpendHouse$Node;" } : Jvm.MethodName)) ∈ lw_all := lw_g (lw_at lw_m7 93 rfl) rfl
theorem q1706 : (Jvm.Cond.code ({ cls := "SpendHouse$Policy", name := "and", desc := "(LSpendHouse$Node;LSpendHouse$Node;)LSpendHouse$Node;" } : Jvm.MethodName) prog_15_method_7_code (3 : Nat) (Option.some (Jvm.ClassFile.FieldType.object "SpendHouse$Node"))) ∈ lw_all := lw_g (lw_at lw_m7 94 rfl) rfl
theorem q1707 : (Jvm.Cond.classLink "SpendHouse$Policy" (64 : Nat) "SpendHouse$Pair") ∈ lw_all := lw_g (lw_at lw_m7 95 rfl) rfl
theorem q1708 : (Jvm.Cond.classLink "SpendHouse$Policy" (40 : Nat) "SpendHouse$Wrapper") ∈ lw_all := lw_g (lw_at lw_m7 96 rfl) rfl
theorem q1709 : (Jvm.Cond.methodLink "SpendHouse$Policy" (66 : Nat) ({ cls := "SpendHouse$Wrapper", name := "<init>", desc := "(LSpendHouse;ICLSpendHouse$Node;)V" } : Jvm.MethodName)) ∈ lw_all := lw_g (lw_at lw_m7 97 rfl) rfl
theorem q1710 : (Jvm.Cond.methodLinkNest "SpendHouse$Policy" (69 : Nat) ({ cls := "SpendHouse", name := "judged", desc := "(LSpendHouse$Node;)LSpendHouse$Node;" } : Jvm.MethodName) "SpendHouse") ∈ lw_tbl := lw_at lw_m7 98 rfl
theorem q1711 : (Jvm.Cond.static ({ cls := "SpendHouse", name := "judged", desc := "(LSpendHouse$Node;)LSpendHouse$Node;" } : Jvm.MethodName)) ∈ lw_all := lw_g (lw_at lw_m7 99 rfl) rfl
theorem q1712 : (Jvm.Cond.code ({ cls := "SpendHouse", name := "judged", desc := "(LSpendHouse$Node;)LSpendHouse$Node;" } : Jvm.MethodName) prog_1_method_11_code (1 : Nat) (Option.some (Jvm.ClassFile.FieldType.object "SpendHouse$Node"))) ∈ lw_all := lw_g (lw_at lw_m7 100 rfl) rfl
theorem q1713 : (Jvm.Cond.methodLink "SpendHouse" (128 : Nat) ({ cls := "SpendHouse$Node", name := "judge", desc := "()V" } : Jvm.MethodName)) ∈ lw_all := lw_g (lw_at lw_m7 101 rfl) rfl
theorem q1714 : (Jvm.Cond.methodLink "SpendHouse$Policy" (73 : Nat) ({ cls := "SpendHouse$Pair", name := "<init>", desc := "(LSpendHouse;IILSpendHouse$Node;LSpendHouse$Node;)V" } : Jvm.MethodName)) ∈ lw_all := lw_g (lw_at lw_m7 102 rfl) rfl
theorem q1715 : (Jvm.Cond.methodLink "SpendHouse$Policy" (58 : Nat) ({ cls := "SpendHouse$Policy", name := "or", desc := "(LSpendHouse$Node;LSpendHouse$Node;)LSpendHouse$Node;" } : Jvm.MethodName)) ∈ lw_all := lw_g (lw_at lw_m7 103 rfl) rfl
theorem q1716 : (Jvm.Cond.privateMethod ({ cls := "SpendHouse$Policy", name := "or", desc := "(LSpendHouse$Node;LSpendHouse$Node;)LSpendHouse$Node;" } : Jvm.MethodName)) ∈ lw_tbl := lw_at lw_m7 104 rfl
theorem q1717 : (Jvm.Cond.instanceMethod ({ cls := "SpendHouse$Policy", name := "or", desc := "(LSpendHouse$Node;LSpendHouse$Node;)LSpendHouse$Node;" } : Jvm.MethodName)) ∈ lw_all := lw_g (lw_at lw_m7 105 rfl) rfl
theorem q1718 : (Jvm.Cond.code ({ cls := "SpendHouse$Policy", name := "or", desc := "(LSpendHouse$Node;LSpendHouse$Node;)LSpendHouse$Node;" } : Jvm.MethodName) prog_15_method_8_code (3 : Nat) (Option.some (Jvm.ClassFile.FieldType.object "SpendHouse$Node"))) ∈ lw_all := lw_g (lw_at lw_m7 106 rfl) rfl
theorem q1719 : (Jvm.Cond.methodLink "SpendHouse$Policy" (76 : Nat) ({ cls := "SpendHouse$Node", name := "isBdu", desc := "()Z" } : Jvm.MethodName)) ∈ lw_all := lw_g (lw_at lw_m7 107 rfl) rfl
theorem q1720 : (Jvm.Cond.methodLink "SpendHouse$Policy" (61 : Nat) ({ cls := "SpendHouse$Policy", name := "some", desc := "()LSpendHouse$Node;" } : Jvm.MethodName)) ∈ lw_all := lw_g (lw_at lw_m7 108 rfl) rfl
theorem q1721 : (Jvm.Cond.privateMethod ({ cls := "SpendHouse$Policy", name := "some", desc := "()LSpendHouse$Node;" } : Jvm.MethodName)) ∈ lw_tbl := lw_at lw_m7 109 rfl
theorem q1722 : (Jvm.Cond.instanceMethod ({ cls := "SpendHouse$Policy", name := "some", desc := "()LSpendHouse$Node;" } : Jvm.MethodName)) ∈ lw_all := lw_g (lw_at lw_m7 110 rfl) rfl
theorem q1723 : (Jvm.Cond.code ({ cls := "SpendHouse$Policy", name := "some", desc := "()LSpendHouse$Node;" } : Jvm.MethodName) prog_15_method_9_code (4 : Nat) (Option.some (Jvm.ClassFile.FieldType.object "SpendHouse$Node"))) ∈ lw_all := lw_g (lw_at lw_m7 111 rfl) rfl
theorem q1724 : (Jvm.Cond.methodLink "SpendHouse$Policy" (83 : Nat) ({ cls := "SpendHouse$Policy", name := "isKey", desc := "()Z" } : Jvm.MethodName)) ∈ lw_all := lw_g (lw_at lw_m7 112 rfl) rfl
theorem q1725 : (Jvm.Cond.privateMethod ({ cls := "SpendHouse$Policy", name := "isKey", desc := "()Z" } : Jvm.MethodName)) ∈ lw_tbl := lw_at lw_m7 113 rfl
theorem q1726 : (Jvm.Cond.instanceMethod ({ cls := "SpendHouse$Policy", name := "isKey", desc := "()Z" } : Jvm.MethodName)) ∈ lw_all := lw_g (lw_at lw_m7 114 rfl) rfl
theorem q1727 : (Jvm.Cond.code ({ cls := "SpendHouse$Policy", name := "isKey", desc := "()Z" } : Jvm.MethodName) prog_15_method_4_code (1 : Nat) (Option.some Jvm.ClassFile.FieldType.boolean)) ∈ lw_all := lw_g (lw_at lw_m7 115 rfl) rfl
theorem q1728 : (Jvm.Cond.methodLink "SpendHouse$Policy" (86 : Nat) ({ cls := "SpendHouse$Policy", name := "keyOf", desc := "()I" } : Jvm.MethodName)) ∈ lw_all := lw_g (lw_at lw_m7 116 rfl) rfl
theorem q1729 : (Jvm.Cond.privateMethod ({ cls := "SpendHouse$Policy", name := "keyOf", desc := "()I" } : Jvm.MethodName)) ∈ lw_tbl := lw_at lw_m7 117 rfl
theorem q1730 : (Jvm.Cond.instanceMethod ({ cls := "SpendHouse$Policy", name := "keyOf", desc := "()I" } : Jvm.MethodName)) ∈ lw_all := lw_g (lw_at lw_m7 118 rfl) rfl
theorem q1731 : (Jvm.Cond.code ({ cls := "SpendHouse$Policy", name := "keyOf", desc := "()I" } : Jvm.MethodName) prog_15_method_5_code (1 : Nat) (Option.some Jvm.ClassFile.FieldType.int)) ∈ lw_all := lw_g (lw_at lw_m7 119 rfl) rfl
theorem q1732 : (Jvm.Cond.classLink "SpendHouse$Policy" (45 : Nat) "SpendHouse$Key") ∈ lw_all := lw_g (lw_at lw_m7 120 rfl) rfl
theorem q1733 : (Jvm.Cond.classLink "SpendHouse$Policy" (90 : Nat) "SpendHouse$Multi") ∈ lw_all := lw_g (lw_at lw_m7 121 rfl) rfl
theorem q1734 : (Jvm.Cond.methodLink "SpendHouse$Policy" (92 : Nat) ({ cls := "SpendHouse$Multi", name := "<init>", desc := "(LSpendHouse;III[I)V" } : Jvm.MethodName)) ∈ lw_all := lw_g (lw_at lw_m7 122 rfl) rfl
theorem q1735 : (Jvm.Cond.classLink "SpendHouse$Policy" (34 : Nat) "SpendHouse$Node") ∈ lw_all := lw_g (lw_at lw_m7 123 rfl) rfl
theorem q1736 : (Jvm.Cond.methodLink "SpendHouse$Policy" (95 : Nat) ({ cls := "SpendHouse$Policy", name := "loose", desc := "(LSpendHouse$Node;)LSpendHouse$Node;" } : Jvm.MethodName)) ∈ lw_all := lw_g (lw_at lw_m7 124 rfl) rfl
theorem q1737 : (Jvm.Cond.privateMethod ({ cls := "SpendHouse$Policy", name := "loose", desc := "(LSpendHouse$Node;)LSpendHouse$Node;" } : Jvm.MethodName)) ∈ lw_tbl := lw_at lw_m7 125 rfl
theorem q1738 : (Jvm.Cond.instanceMethod ({ cls := "SpendHouse$Policy", name := "loose", desc := "(LSpendHouse$Node;)LSpendHouse$Node;" } : Jvm.MethodName)) ∈ lw_all := lw_g (lw_at lw_m7 126 rfl) rfl
theorem q1739 : (Jvm.Cond.code ({ cls := "SpendHouse$Policy", name := "loose", desc := "(LSpendHouse$Node;)LSpendHouse$Node;" } : Jvm.MethodName) prog_15_method_10_code (2 : Nat) (Option.some (Jvm.ClassFile.FieldType.object "SpendHouse$Node"))) ∈ lw_all := lw_g (lw_at lw_m7 127 rfl) rfl
theorem q1740 : (Jvm.Cond.classLink "SpendHouse$Policy" (112 : Nat) "SpendHouse$Truth") ∈ lw_all := lw_g (lw_at lw_m7 128 rfl) rfl
theorem q1741 : (Jvm.Cond.methodLink "SpendHouse$Policy" (114 : Nat) ({ cls := "SpendHouse$Truth", name := "<init>", desc := "(LSpendHouse;IZ)V" } : Jvm.MethodName)) ∈ lw_all := lw_g (lw_at lw_m7 129 rfl) rfl
theorem q1742 : (Jvm.Cond.classLink "SpendHouse$Policy" (101 : Nat) "SpendHouse$Thresh") ∈ lw_all := lw_g (lw_at lw_m7 130 rfl) rfl
theorem q1743 : (Jvm.Cond.methodLink "SpendHouse$Policy" (103 : Nat) ({ cls := "SpendHouse$Thresh", name := "<init>", desc := "(LSpendHouse;III[LSpendHouse$Node;)V" } : Jvm.MethodName)) ∈ lw_all := lw_g (lw_at lw_m7 131 rfl) rfl
theorem q1744 : (Jvm.Cond.methodLink "SpendHouse" (172 : Nat) ({ cls := "SpendHouse$Fault", name := "<init>", desc := "(II)V" } : Jvm.MethodName)) ∈ lw_all := lw_g (lw_at lw_m7 132 rfl) rfl
theorem q1745 : (Jvm.Cond.methodLink "SpendHouse" (175 : Nat) ({ cls := "SpendHouse$Node", name := "nodes", desc := "()I" } : Jvm.MethodName)) ∈ lw_all := lw_g (lw_at lw_m7 133 rfl) rfl
theorem q1746 : (Jvm.Cond.declares ({ cls := "SpendHouse$Node", name := "nodes", desc := "()I" } : Jvm.MethodName)) ∈ lw_tbl := lw_at lw_m7 134 rfl
theorem q1747 : (Jvm.Cond.sameMethod "SpendHouse$Node" "SpendHouse$Node" "nodes" "()I") ∈ lw_all := lw_g (lw_at lw_m7 135 rfl) rfl
theorem q1748 : (Jvm.Cond.selects "SpendHouse$AndOr" ({ cls := "SpendHouse$Node", name := "nodes", desc := "()I" } : Jvm.MethodName) ({ cls := "SpendHouse$AndOr", name := "nodes", desc := "()I" } : Jvm.MethodName)) ∈ lw_all := lw_g (lw_at lw_m7 136 rfl) rfl
theorem q1749 : (Jvm.Cond.instanceMethod ({ cls := "SpendHouse$AndOr", name := "nodes", desc := "()I" } : Jvm.MethodName)) ∈ lw_all := lw_g (lw_at lw_m7 137 rfl) rfl
theorem q1750 : (Jvm.Cond.code ({ cls := "SpendHouse$AndOr", name := "nodes", desc := "()I" } : Jvm.MethodName) prog_2_method_8_code (1 : Nat) (Option.some Jvm.ClassFile.FieldType.int)) ∈ lw_all := lw_g (lw_at lw_m7 138 rfl) rfl
theorem q1751 : (Jvm.Cond.methodLink "SpendHouse$AndOr" (121 : Nat) ({ cls := "SpendHouse$Node", name := "nodes", desc := "()I" } : Jvm.MethodName)) ∈ lw_all := lw_g (lw_at lw_m7 139 rfl) rfl
theorem q1752 : (Jvm.Cond.instanceMethod ({ cls := "SpendHouse$Leaf", name := "nodes", desc := "()I" } : Jvm.MethodName)) ∈ lw_all := lw_g (lw_at lw_m7 140 rfl) rfl
theorem q1753 : (Jvm.Cond.code ({ cls := "SpendHouse$Leaf", name := "nodes", desc := "()I" } : Jvm.MethodName) prog_9_method_2_code (1 : Nat) (Option.some Jvm.ClassFile.FieldType.int)) ∈ lw_all := lw_g (lw_at lw_m7 141 rfl) rfl
theorem q1754 : (Jvm.Cond.instanceMethod ({ cls := "SpendHouse$Pair", name := "nodes", desc := "()I" } : Jvm.MethodName)) ∈ lw_all := lw_g (lw_at lw_m7 142 rfl) rfl
theorem q1755 : (Jvm.Cond.code ({ cls := "SpendHouse$Pair", name := "nodes", desc := "()I" } : Jvm.MethodName) prog_14_method_10_code (1 : Nat) (Option.some Jvm.ClassFile.FieldType.int)) ∈ lw_all := lw_g (lw_at lw_m7 143 rfl) rfl
theorem q1756 : (Jvm.Cond.methodLink "SpendHouse$Pair" (141 : Nat) ({ cls := "SpendHouse$Node", name := "nodes", desc := "()I" } : Jvm.MethodName)) ∈ lw_all := lw_g (lw_at lw_m7 144 rfl) rfl
theorem q1757 : (Jvm.Cond.instanceMethod ({ cls := "SpendHouse$Thresh", name := "nodes", desc := "()I" } : Jvm.MethodName)) ∈ lw_all := lw_g (lw_at lw_m7 145 rfl) rfl
theorem q1758 : (Jvm.Cond.code ({ cls := "SpendHouse$Thresh", name := "nodes", desc := "()I" } : Jvm.MethodName) prog_17_method_9_code (3 : Nat) (Option.some Jvm.ClassFile.FieldType.int)) ∈ lw_all := lw_g (lw_at lw_m7 146 rfl) rfl
theorem q1759 : (Jvm.Cond.methodLink "SpendHouse$Thresh" (124 : Nat) ({ cls := "SpendHouse$Node", name := "nodes", desc := "()I" } : Jvm.MethodName)) ∈ lw_all := lw_g (lw_at lw_m7 147 rfl) rfl
theorem q1760 : (Jvm.Cond.instanceMethod ({ cls := "SpendHouse$Wrapper", name := "nodes", desc := "()I" } : Jvm.MethodName)) ∈ lw_all := lw_g (lw_at lw_m7 148 rfl) rfl
theorem q1761 : (Jvm.Cond.code ({ cls := "SpendHouse$Wrapper", name := "nodes", desc := "()I" } : Jvm.MethodName) prog_21_method_10_code (1 : Nat) (Option.some Jvm.ClassFile.FieldType.int)) ∈ lw_all := lw_g (lw_at lw_m7 149 rfl) rfl
theorem q1762 : (Jvm.Cond.methodLink "SpendHouse$Wrapper" (136 : Nat) ({ cls := "SpendHouse$Node", name := "nodes", desc := "()I" } : Jvm.MethodName)) ∈ lw_all := lw_g (lw_at lw_m7 150 rfl) rfl
theorem q1763 : (Jvm.Cond.selects "SpendHouse$Image" ({ cls := "SpendHouse$Node", name := "nodes", desc := "()I" } : Jvm.MethodName) ({ cls := "SpendHouse$Leaf", name := "nodes", desc := "()I" } : Jvm.MethodName)) ∈ lw_all := lw_g (lw_at lw_m7 151 rfl) rfl
theorem q1764 : (Jvm.Cond.selects "SpendHouse$Key" ({ cls := "SpendHouse$Node", name := "nodes", desc := "()I" } : Jvm.MethodName) ({ cls := "SpendHouse$Leaf", name := "nodes", desc := "()I" } : Jvm.MethodName)) ∈ lw_all := lw_g (lw_at lw_m7 152 rfl) rfl
theorem q1765 : (Jvm.Cond.selects "SpendHouse$Lock" ({ cls := "SpendHouse$Node", name := "nodes", desc := "()I" } : Jvm.MethodName) ({ cls := "SpendHouse$Leaf", name := "nodes", desc := "()I" } : Jvm.MethodName)) ∈ lw_all := lw_g (lw_at lw_m7 153 rfl) rfl
theorem q1766 : (Jvm.Cond.selects "SpendHouse$Multi" ({ cls := "SpendHouse$Node", name := "nodes", desc := "()I" } : Jvm.MethodName) ({ cls := "SpendHouse$Leaf", name := "nodes", desc := "()I" } : Jvm.MethodName)) ∈ lw_all := lw_g (lw_at lw_m7 154 rfl) rfl
theorem q1767 : (Jvm.Cond.selects "SpendHouse$Pair" ({ cls := "SpendHouse$Node", name := "nodes", desc := "()I" } : Jvm.MethodName) ({ cls := "SpendHouse$Pair", name := "nodes", desc := "()I" } : Jvm.MethodName)) ∈ lw_all := lw_g (lw_at lw_m7 155 rfl) rfl
theorem q1768 : (Jvm.Cond.selects "SpendHouse$Thresh" ({ cls := "SpendHouse$Node", name := "nodes", desc := "()I" } : Jvm.MethodName) ({ cls := "SpendHouse$Thresh", name := "nodes", desc := "()I" } : Jvm.MethodName)) ∈ lw_all := lw_g (lw_at lw_m7 156 rfl) rfl
theorem q1769 : (Jvm.Cond.selects "SpendHouse$Truth" ({ cls := "SpendHouse$Node", name := "nodes", desc := "()I" } : Jvm.MethodName) ({ cls := "SpendHouse$Leaf", name := "nodes", desc := "()I" } : Jvm.MethodName)) ∈ lw_all := lw_g (lw_at lw_m7 157 rfl) rfl
theorem q1770 : (Jvm.Cond.selects "SpendHouse$Wrapper" ({ cls := "SpendHouse$Node", name := "nodes", desc := "()I" } : Jvm.MethodName) ({ cls := "SpendHouse$Wrapper", name := "nodes", desc := "()I" } : Jvm.MethodName)) ∈ lw_all := lw_g (lw_at lw_m7 158 rfl) rfl
theorem q1771 : (Jvm.Cond.methodLink "SpendHouse" (179 : Nat) ({ cls := "SpendHouse$Node", name := "depth", desc := "()I" } : Jvm.MethodName)) ∈ lw_all := lw_g (lw_at lw_m7 159 rfl) rfl
theorem q1772 : (Jvm.Cond.declares ({ cls := "SpendHouse$Node", name := "depth", desc := "()I" } : Jvm.MethodName)) ∈ lw_tbl := lw_at lw_m7 160 rfl
theorem q1773 : (Jvm.Cond.sameMethod "SpendHouse$Node" "SpendHouse$Node" "depth" "()I") ∈ lw_all := lw_g (lw_at lw_m7 161 rfl) rfl
theorem q1774 : (Jvm.Cond.selects "SpendHouse$AndOr" ({ cls := "SpendHouse$Node", name := "depth", desc := "()I" } : Jvm.MethodName) ({ cls := "SpendHouse$AndOr", name := "depth", desc := "()I" } : Jvm.MethodName)) ∈ lw_all := lw_g (lw_at lw_m7 162 rfl) rfl
theorem q1775 : (Jvm.Cond.instanceMethod ({ cls := "SpendHouse$AndOr", name := "depth", desc := "()I" } : Jvm.MethodName)) ∈ lw_all := lw_g (lw_at lw_m7 163 rfl) rfl
theorem q1776 : (Jvm.Cond.code ({ cls := "SpendHouse$AndOr", name := "depth", desc := "()I" } : Jvm.MethodName) prog_2_method_9_code (1 : Nat) (Option.some Jvm.ClassFile.FieldType.int)) ∈ lw_all := lw_g (lw_at lw_m7 164 rfl) rfl
theorem q1777 : (Jvm.Cond.methodLink "SpendHouse$AndOr" (125 : Nat) ({ cls := "SpendHouse$Node", name := "depth", desc := "()I" } : Jvm.MethodName)) ∈ lw_all := lw_g (lw_at lw_m7 165 rfl) rfl
theorem q1778 : (Jvm.Cond.instanceMethod ({ cls := "SpendHouse$Leaf", name := "depth", desc := "()I" } : Jvm.MethodName)) ∈ lw_all := lw_g (lw_at lw_m7 166 rfl) rfl
theorem q1779 : (Jvm.Cond.code ({ cls := "SpendHouse$Leaf", name := "depth", desc := "()I" } : Jvm.MethodName) prog_9_method_3_code (1 : Nat) (Option.some Jvm.ClassFile.FieldType.int)) ∈ lw_all := lw_g (lw_at lw_m7 167 rfl) rfl
theorem q1780 : (Jvm.Cond.instanceMethod ({ cls := "SpendHouse$Pair", name := "depth", desc := "()I" } : Jvm.MethodName)) ∈ lw_all := lw_g (lw_at lw_m7 168 rfl) rfl
theorem q1781 : (Jvm.Cond.code ({ cls := "SpendHouse$Pair", name := "depth", desc := "()I" } : Jvm.MethodName) prog_14_method_11_code (1 : Nat) (Option.some Jvm.ClassFile.FieldType.int)) ∈ lw_all := lw_g (lw_at lw_m7 169 rfl) rfl
theorem q1782 : (Jvm.Cond.methodLink "SpendHouse$Pair" (145 : Nat) ({ cls := "SpendHouse$Node", name := "depth", desc := "()I" } : Jvm.MethodName)) ∈ lw_all := lw_g (lw_at lw_m7 170 rfl) rfl
theorem q1783 : (Jvm.Cond.instanceMethod ({ cls := "SpendHouse$Thresh", name := "depth", desc := "()I" } : Jvm.MethodName)) ∈ lw_all := lw_g (lw_at lw_m7 171 rfl) rfl
theorem q1784 : (Jvm.Cond.code ({ cls := "SpendHouse$Thresh", name := "depth", desc := "()I" } : Jvm.MethodName) prog_17_method_10_code (3 : Nat) (Option.some Jvm.ClassFile.FieldType.int)) ∈ lw_all := lw_g (lw_at lw_m7 172 rfl) rfl
theorem q1785 : (Jvm.Cond.methodLink "SpendHouse$Thresh" (128 : Nat) ({ cls := "SpendHouse$Node", name := "depth", desc := "()I" } : Jvm.MethodName)) ∈ lw_all := lw_g (lw_at lw_m7 173 rfl) rfl
theorem q1786 : (Jvm.Cond.instanceMethod ({ cls := "SpendHouse$Wrapper", name := "depth", desc := "()I" } : Jvm.MethodName)) ∈ lw_all := lw_g (lw_at lw_m7 174 rfl) rfl
theorem q1787 : (Jvm.Cond.code ({ cls := "SpendHouse$Wrapper", name := "depth", desc := "()I" } : Jvm.MethodName) prog_21_method_11_code (1 : Nat) (Option.some Jvm.ClassFile.FieldType.int)) ∈ lw_all := lw_g (lw_at lw_m7 175 rfl) rfl
theorem q1788 : (Jvm.Cond.methodLink "SpendHouse$Wrapper" (140 : Nat) ({ cls := "SpendHouse$Node", name := "depth", desc := "()I" } : Jvm.MethodName)) ∈ lw_all := lw_g (lw_at lw_m7 176 rfl) rfl
theorem q1789 : (Jvm.Cond.methodLink "SpendHouse$Thresh" (131 : Nat) ({ cls := "java/lang/Math", name := "max", desc := "(II)I" } : Jvm.MethodName)) ∈ lw_all := lw_g (lw_at lw_m7 177 rfl) rfl
theorem q1790 : (Jvm.Cond.methodLink "SpendHouse$Pair" (148 : Nat) ({ cls := "java/lang/Math", name := "max", desc := "(II)I" } : Jvm.MethodName)) ∈ lw_all := lw_g (lw_at lw_m7 178 rfl) rfl
theorem q1791 : (Jvm.Cond.methodLink "SpendHouse$AndOr" (128 : Nat) ({ cls := "java/lang/Math", name := "max", desc := "(II)I" } : Jvm.MethodName)) ∈ lw_all := lw_g (lw_at lw_m7 179 rfl) rfl
theorem q1792 : (Jvm.Cond.selects "SpendHouse$Image" ({ cls := "SpendHouse$Node", name := "depth", desc := "()I" } : Jvm.MethodName) ({ cls := "SpendHouse$Leaf", name := "depth", desc := "()I" } : Jvm.MethodName)) ∈ lw_all := lw_g (lw_at lw_m7 180 rfl) rfl
theorem q1793 : (Jvm.Cond.selects "SpendHouse$Key" ({ cls := "SpendHouse$Node", name := "depth", desc := "()I" } : Jvm.MethodName) ({ cls := "SpendHouse$Leaf", name := "depth", desc := "()I" } : Jvm.MethodName)) ∈ lw_all := lw_g (lw_at lw_m7 181 rfl) rfl
theorem q1794 : (Jvm.Cond.selects "SpendHouse$Lock" ({ cls := "SpendHouse$Node", name := "depth", desc := "()I" } : Jvm.MethodName) ({ cls := "SpendHouse$Leaf", name := "depth", desc := "()I" } : Jvm.MethodName)) ∈ lw_all := lw_g (lw_at lw_m7 182 rfl) rfl
theorem q1795 : (Jvm.Cond.selects "SpendHouse$Multi" ({ cls := "SpendHouse$Node", name := "depth", desc := "()I" } : Jvm.MethodName) ({ cls := "SpendHouse$Leaf", name := "depth", desc := "()I" } : Jvm.MethodName)) ∈ lw_all := lw_g (lw_at lw_m7 183 rfl) rfl
theorem q1796 : (Jvm.Cond.selects "SpendHouse$Pair" ({ cls := "SpendHouse$Node", name := "depth", desc := "()I" } : Jvm.MethodName) ({ cls := "SpendHouse$Pair", name := "depth", desc := "()I" } : Jvm.MethodName)) ∈ lw_all := lw_g (lw_at lw_m7 184 rfl) rfl
theorem q1797 : (Jvm.Cond.selects "SpendHouse$Thresh" ({ cls := "SpendHouse$Node", name := "depth", desc := "()I" } : Jvm.MethodName) ({ cls := "SpendHouse$Thresh", name := "depth", desc := "()I" } : Jvm.MethodName)) ∈ lw_all := lw_g (lw_at lw_m7 185 rfl) rfl
theorem q1798 : (Jvm.Cond.selects "SpendHouse$Truth" ({ cls := "SpendHouse$Node", name := "depth", desc := "()I" } : Jvm.MethodName) ({ cls := "SpendHouse$Leaf", name := "depth", desc := "()I" } : Jvm.MethodName)) ∈ lw_all := lw_g (lw_at lw_m7 186 rfl) rfl
theorem q1799 : (Jvm.Cond.selects "SpendHouse$Wrapper" ({ cls := "SpendHouse$Node", name := "depth", desc := "()I" } : Jvm.MethodName) ({ cls := "SpendHouse$Wrapper", name := "depth", desc := "()I" } : Jvm.MethodName)) ∈ lw_all := lw_g (lw_at lw_m7 187 rfl) rfl
theorem q1800 : (Jvm.Cond.methodLink "SpendHouse" (182 : Nat) ({ cls := "SpendHouse", name := "isAtHand", desc := "(LSpendHouse$Node;LSpendHouse$Policy;)V" } : Jvm.MethodName)) ∈ lw_all := lw_g (lw_at lw_m7 188 rfl) rfl
theorem q1801 : (Jvm.Cond.privateMethod ({ cls := "SpendHouse", name := "isAtHand", desc := "(LSpendHouse$Node;LSpendHouse$Policy;)V" } : Jvm.MethodName)) ∈ lw_tbl := lw_at lw_m7 189 rfl
theorem q1802 : (Jvm.Cond.instanceMethod ({ cls := "SpendHouse", name := "isAtHand", desc := "(LSpendHouse$Node;LSpendHouse$Policy;)V" } : Jvm.MethodName)) ∈ lw_all := lw_g (lw_at lw_m7 190 rfl) rfl
theorem q1803 : (Jvm.Cond.code ({ cls := "SpendHouse", name := "isAtHand", desc := "(LSpendHouse$Node;LSpendHouse$Policy;)V" } : Jvm.MethodName) prog_1_method_16_code (5 : Nat) (Option.none : Option Jvm.ClassFile.FieldType)) ∈ lw_all := lw_g (lw_at lw_m7 191 rfl) rfl
theorem q1804 : (Jvm.Cond.methodLink "SpendHouse" (210 : Nat) ({ cls := "SpendHouse$Node", name := "emit", desc := "(LSpendHouse$Code;)V" } : Jvm.MethodName)) ∈ lw_all := lw_g (lw_at lw_m7 192 rfl) rfl
theorem q1805 : (Jvm.Cond.declares ({ cls := "SpendHouse$Node", name := "emit", desc := "(LSpendHouse$Code;)V" } : Jvm.MethodName)) ∈ lw_tbl := lw_at lw_m7 193 rfl
theorem q1806 : (Jvm.Cond.sameMethod "SpendHouse$Node" "SpendHouse$Node" "emit" "(LSpendHouse$Code;)V") ∈ lw_all := lw_g (lw_at lw_m7 194 rfl) rfl
theorem q1807 : (Jvm.Cond.selects "SpendHouse$AndOr" ({ cls := "SpendHouse$Node", name := "emit", desc := "(LSpendHouse$Code;)V" } : Jvm.MethodName) ({ cls := "SpendHouse$AndOr", name := "emit", desc := "(LSpendHouse$Code;)V" } : Jvm.MethodName)) ∈ lw_all := lw_g (lw_at lw_m7 195 rfl) rfl
theorem q1808 : (Jvm.Cond.instanceMethod ({ cls := "SpendHouse$AndOr", name := "emit", desc := "(LSpendHouse$Code;)V" } : Jvm.MethodName)) ∈ lw_all := lw_g (lw_at lw_m7 196 rfl) rfl
theorem q1809 : (Jvm.Cond.code ({ cls := "SpendHouse$AndOr", name := "emit", desc := "(LSpendHouse$Code;)V" } : Jvm.MethodName) prog_2_method_3_code (2 : Nat) (Option.none : Option Jvm.ClassFile.FieldType)) ∈ lw_all := lw_g (lw_at lw_m7 197 rfl) rfl
theorem q1810 : (Jvm.Cond.methodLink "SpendHouse$AndOr" (78 : Nat) ({ cls := "SpendHouse$Node", name := "emit", desc := "(LSpendHouse$Code;)V" } : Jvm.MethodName)) ∈ lw_all := lw_g (lw_at lw_m7 198 rfl) rfl
theorem q1811 : (Jvm.Cond.instanceMethod ({ cls := "SpendHouse$Image", name := "emit", desc := "(LSpendHouse$Code;)V" } : Jvm.MethodName)) ∈ lw_all := lw_g (lw_at lw_m7 199 rfl) rfl
theorem q1812 : (Jvm.Cond.code ({ cls := "SpendHouse$Image", name := "emit", desc := "(LSpendHouse$Code;)V" } : Jvm.MethodName) prog_6_method_3_code (4 : Nat) (Option.none : Option Jvm.ClassFile.FieldType)) ∈ lw_all := lw_g (lw_at lw_m7 200 rfl) rfl
theorem q1813 : (Jvm.Cond.methodLinkNest "SpendHouse$Image" (34 : Nat) ({ cls := "SpendHouse", name := "hasher", desc := "(I)I" } : Jvm.MethodName) "SpendHouse") ∈ lw_tbl := lw_at lw_m7 201 rfl
theorem q1814 : (Jvm.Cond.static ({ cls := "SpendHouse", name := "hasher", desc := "(I)I" } : Jvm.MethodName)) ∈ lw_all := lw_g (lw_at lw_m7 202 rfl) rfl
theorem q1815 : (Jvm.Cond.code ({ cls := "SpendHouse", name := "hasher", desc := "(I)I" } : Jvm.MethodName) prog_1_method_9_code (1 : Nat) (Option.some Jvm.ClassFile.FieldType.int)) ∈ lw_all := lw_g (lw_at lw_m7 203 rfl) rfl
theorem q1816 : (Jvm.Cond.methodLink "SpendHouse$Image" (42 : Nat) ({ cls := "SpendHouse$Hashes", name := "by", desc := "(I[BI[B)I" } : Jvm.MethodName)) ∈ lw_all := lw_g (lw_at lw_m7 204 rfl) rfl
theorem q1817 : (Jvm.Cond.instanceMethod ({ cls := "SpendHouse$Hashes", name := "by", desc := "(I[BI[B)I" } : Jvm.MethodName)) ∈ lw_all := lw_g (lw_at lw_m7 205 rfl) rfl
theorem q1818 : (Jvm.Cond.selects "SpendHouse$Hashes" ({ cls := "SpendHouse$Hashes", name := "by", desc := "(I[BI[B)I" } : Jvm.MethodName) ({ cls := "SpendHouse$Hashes", name := "by", desc := "(I[BI[B)I" } : Jvm.MethodName)) ∈ lw_all := lw_g (lw_at lw_m7 206 rfl) rfl
theorem q1819 : (Jvm.Cond.code ({ cls := "SpendHouse$Hashes", name := "by", desc := "(I[BI[B)I" } : Jvm.MethodName) prog_5_method_16_code (5 : Nat) (Option.some Jvm.ClassFile.FieldType.int)) ∈ lw_all := lw_g (lw_at lw_m7 207 rfl) rfl
theorem q1820 : (Jvm.Cond.methodLink "SpendHouse$Hashes" (119 : Nat) ({ cls := "SpendHouse$Hashes", name := "sha", desc := "([BI[B)V" } : Jvm.MethodName)) ∈ lw_all := lw_g (lw_at lw_m7 208 rfl) rfl
theorem q1821 : (Jvm.Cond.methodLink "SpendHouse$Hashes" (122 : Nat) ({ cls := "SpendHouse$Hashes", name := "ripemd", desc := "([BI[B)V" } : Jvm.MethodName)) ∈ lw_all := lw_g (lw_at lw_m7 209 rfl) rfl
theorem q1822 : (Jvm.Cond.instanceMethod ({ cls := "SpendHouse$Hashes", name := "ripemd", desc := "([BI[B)V" } : Jvm.MethodName)) ∈ lw_all := lw_g (lw_at lw_m7 210 rfl) rfl
theorem q1823 : (Jvm.Cond.selects "SpendHouse$Hashes" ({ cls := "SpendHouse$Hashes", name := "ripemd", desc := "([BI[B)V" } : Jvm.MethodName) ({ cls := "SpendHouse$Hashes", name := "ripemd", desc := "([BI[B)V" } : Jvm.MethodName)) ∈ lw_all := lw_g (lw_at lw_m7 211 rfl) rfl
theorem q1824 : (Jvm.Cond.code ({ cls := "SpendHouse$Hashes", name := "ripemd", desc := "([BI[B)V" } : Jvm.MethodName) prog_5_method_15_code (5 : Nat) (Option.none : Option Jvm.ClassFile.FieldType)) ∈ lw_all := lw_g (lw_at lw_m7 212 rfl) rfl
theorem q1825 : (Jvm.Cond.constant "SpendHouse$Hashes" (114 : Nat) (1732584193 : Int32)) ∈ lw_all := lw_g (lw_at lw_m7 213 rfl) rfl
theorem q1826 : (Jvm.Cond.constant "SpendHouse$Hashes" (115 : Nat) (-271733879 : Int32)) ∈ lw_all := lw_g (lw_at lw_m7 214 rfl) rfl
theorem q1827 : (Jvm.Cond.constant "SpendHouse$Hashes" (116 : Nat) (-1732584194 : Int32)) ∈ lw_all := lw_g (lw_at lw_m7 215 rfl) rfl
theorem q1828 : (Jvm.Cond.constant "SpendHouse$Hashes" (117 : Nat) (271733878 : Int32)) ∈ lw_all := lw_g (lw_at lw_m7 216 rfl) rfl
theorem q1829 : (Jvm.Cond.constant "SpendHouse$Hashes" (118 : Nat) (-1009589776 : Int32)) ∈ lw_all := lw_g (lw_at lw_m7 217 rfl) rfl
theorem q1830 : (Jvm.Cond.methodLink "SpendHouse$Image" (48 : Nat) ({ cls := "SpendHouse$Code", name := "op", desc := "(I)V" } : Jvm.MethodName)) ∈ lw_all := lw_g (lw_at lw_m7 218 rfl) rfl
theorem q1831 : (Jvm.Cond.instanceMethod ({ cls := "SpendHouse$Code", name := "op", desc := "(I)V" } : Jvm.MethodName)) ∈ lw_all := lw_g (lw_at lw_m7 219 rfl) rfl
theorem q1832 : (Jvm.Cond.selects "SpendHouse$Code" ({ cls := "SpendHouse$Code", name := "op", desc := "(I)V" } : Jvm.MethodName) ({ cls := "SpendHouse$Code", name := "op", desc := "(I)V" } : Jvm.MethodName)) ∈ lw_all := lw_g (lw_at lw_m7 220 rfl) rfl
theorem q1833 : (Jvm.Cond.code ({ cls := "SpendHouse$Code", name := "op", desc := "(I)V" } : Jvm.MethodName) prog_3_method_3_code (2 : Nat) (Option.none : Option Jvm.ClassFile.FieldType)) ∈ lw_all := lw_g (lw_at lw_m7 221 rfl) rfl
theorem q1834 : (Jvm.Cond.methodLink "SpendHouse$Code" (19 : Nat) ({ cls := "SpendHouse$Code", name := "put", desc := "(I)V" } : Jvm.MethodName)) ∈ lw_all := lw_g (lw_at lw_m7 222 rfl) rfl
theorem q1835 : (Jvm.Cond.privateMethod ({ cls := "SpendHouse$Code", name := "put", desc := "(I)V" } : Jvm.MethodName)) ∈ lw_tbl := lw_at lw_m7 223 rfl
theorem q1836 : (Jvm.Cond.instanceMethod ({ cls := "SpendHouse$Code", name := "put", desc := "(I)V" } : Jvm.MethodName)) ∈ lw_all := lw_g (lw_at lw_m7 224 rfl) rfl
theorem q1837 : (Jvm.Cond.code ({ cls := "SpendHouse$Code", name := "put", desc := "(I)V" } : Jvm.MethodName) prog_3_method_2_code (2 : Nat) (Option.none : Option Jvm.ClassFile.FieldType)) ∈ lw_all := lw_g (lw_at lw_m7 225 rfl) rfl
theorem q1838 : (Jvm.Cond.methodLink "SpendHouse$Image" (54 : Nat) ({ cls := "SpendHouse$Code", name := "number", desc := "(I)V" } : Jvm.MethodName)) ∈ lw_all := lw_g (lw_at lw_m7 226 rfl) rfl
theorem q1839 : (Jvm.Cond.instanceMethod ({ cls := "SpendHouse$Code", name := "number", desc := "(I)V" } : Jvm.MethodName)) ∈ lw_all := lw_g (lw_at lw_m7 227 rfl) rfl
theorem q1840 : (Jvm.Cond.selects "SpendHouse$Code" ({ cls := "SpendHouse$Code", name := "number", desc := "(I)V" } : Jvm.MethodName) ({ cls := "SpendHouse$Code", name := "number", desc := "(I)V" } : Jvm.MethodName)) ∈ lw_all := lw_g (lw_at lw_m7 228 rfl) rfl
theorem q1841 : (Jvm.Cond.code ({ cls := "SpendHouse$Code", name := "number", desc := "(I)V" } : Jvm.MethodName) prog_3_method_5_code (4 : Nat) (Option.none : Option Jvm.ClassFile.FieldType)) ∈ lw_all := lw_g (lw_at lw_m7 229 rfl) rfl
theorem q1842 : (Jvm.Cond.methodLink "SpendHouse$Image" (57 : Nat) ({ cls := "SpendHouse$Code", name := "push", desc := "([BI)V" } : Jvm.MethodName)) ∈ lw_all := lw_g (lw_at lw_m7 230 rfl) rfl
theorem q1843 : (Jvm.Cond.instanceMethod ({ cls := "SpendHouse$Code", name := "push", desc := "([BI)V" } : Jvm.MethodName)) ∈ lw_all := lw_g (lw_at lw_m7 231 rfl) rfl
theorem q1844 : (Jvm.Cond.selects "SpendHouse$Code" ({ cls := "SpendHouse$Code", name := "push", desc := "([BI)V" } : Jvm.MethodName) ({ cls := "SpendHouse$Code", name := "push", desc := "([BI)V" } : Jvm.MethodName)) ∈ lw_all := lw_g (lw_at lw_m7 232 rfl) rfl
theorem q1845 : (Jvm.Cond.code ({ cls := "SpendHouse$Code", name := "push", desc := "([BI)V" } : Jvm.MethodName) prog_3_method_4_code (4 : Nat) (Option.none : Option Jvm.ClassFile.FieldType)) ∈ lw_all := lw_g (lw_at lw_m7 233 rfl) rfl
theorem q1846 : (Jvm.Cond.instanceMethod ({ cls := "SpendHouse$Key", name := "emit", desc := "(LSpendHouse$Code;)V" } : Jvm.MethodName)) ∈ lw_all := lw_g (lw_at lw_m7 234 rfl) rfl
theorem q1847 : (Jvm.Cond.code ({ cls := "SpendHouse$Key", name := "emit", desc := "(LSpendHouse$Code;)V" } : Jvm.MethodName) prog_8_method_3_code (4 : Nat) (Option.none : Option Jvm.ClassFile.FieldType)) ∈ lw_all := lw_g (lw_at lw_m7 235 rfl) rfl
theorem q1848 : (Jvm.Cond.methodLink "SpendHouse$Key" (35 : Nat) ({ cls := "SpendHouse$Code", name := "push", desc := "([BI)V" } : Jvm.MethodName)) ∈ lw_all := lw_g (lw_at lw_m7 236 rfl) rfl
theorem q1849 : (Jvm.Cond.methodLink "SpendHouse$Key" (45 : Nat) ({ cls := "SpendHouse$Hashes", name := "by", desc := "(I[BI[B)I" } : Jvm.MethodName)) ∈ lw_all := lw_g (lw_at lw_m7 237 rfl) rfl
theorem q1850 : (Jvm.Cond.methodLink "SpendHouse$Key" (51 : Nat) ({ cls := "SpendHouse$Code", name := "op", desc := "(I)V" } : Jvm.MethodName)) ∈ lw_all := lw_g (lw_at lw_m7 238 rfl) rfl
theorem q1851 : (Jvm.Cond.instanceMethod ({ cls := "SpendHouse$Lock", name := "emit", desc := "(LSpendHouse$Code;)V" } : Jvm.MethodName)) ∈ lw_all := lw_g (lw_at lw_m7 239 rfl) rfl
theorem q1852 : (Jvm.Cond.code ({ cls := "SpendHouse$Lock", name := "emit", desc := "(LSpendHouse$Code;)V" } : Jvm.MethodName) prog_10_method_3_code (2 : Nat) (Option.none : Option Jvm.ClassFile.FieldType)) ∈ lw_all := lw_g (lw_at lw_m8 0 rfl) rfl
theorem q1853 : (Jvm.Cond.methodLink "SpendHouse$Lock" (39 : Nat) ({ cls := "SpendHouse$Code", name := "number", desc := "(I)V" } : Jvm.MethodName)) ∈ lw_all := lw_g (lw_at lw_m8 1 rfl) rfl
theorem q1854 : (Jvm.Cond.methodLink "SpendHouse$Lock" (44 : Nat) ({ cls := "SpendHouse$Code", name := "op", desc := "(I)V" } : Jvm.MethodName)) ∈ lw_all := lw_g (lw_at lw_m8 2 rfl) rfl
theorem q1855 : (Jvm.Cond.instanceMethod ({ cls := "SpendHouse$Multi", name := "emit", desc := "(LSpendHouse$Code;)V" } : Jvm.MethodName)) ∈ lw_all := lw_g (lw_at lw_m8 3 rfl) rfl
theorem q1856 : (Jvm.Cond.code ({ cls := "SpendHouse$Multi", name := "emit", desc := "(LSpendHouse$Code;)V" } : Jvm.MethodName) prog_12_method_3_code (3 : Nat) (Option.none : Option Jvm.ClassFile.FieldType)) ∈ lw_all := lw_g (lw_at lw_m8 4 rfl) rfl
theorem q1857 : (Jvm.Cond.methodLink "SpendHouse$Multi" (34 : Nat) ({ cls := "SpendHouse$Code", name := "number", desc := "(I)V" } : Jvm.MethodName)) ∈ lw_all := lw_g (lw_at lw_m8 5 rfl) rfl
theorem q1858 : (Jvm.Cond.methodLink "SpendHouse$Multi" (44 : Nat) ({ cls := "SpendHouse$Code", name := "push", desc := "([BI)V" } : Jvm.MethodName)) ∈ lw_all := lw_g (lw_at lw_m8 6 rfl) rfl
theorem q1859 : (Jvm.Cond.methodLink "SpendHouse$Multi" (48 : Nat) ({ cls := "SpendHouse$Code", name := "op", desc := "(I)V" } : Jvm.MethodName)) ∈ lw_all := lw_g (lw_at lw_m8 7 rfl) rfl
theorem q1860 : (Jvm.Cond.instanceMethod ({ cls := "SpendHouse$Pair", name := "emit", desc := "(LSpendHouse$Code;)V" } : Jvm.MethodName)) ∈ lw_all := lw_g (lw_at lw_m8 8 rfl) rfl
theorem q1861 : (Jvm.Cond.code ({ cls := "SpendHouse$Pair", name := "emit", desc := "(LSpendHouse$Code;)V" } : Jvm.MethodName) prog_14_method_4_code (2 : Nat) (Option.none : Option Jvm.ClassFile.FieldType)) ∈ lw_all := lw_g (lw_at lw_m8 9 rfl) rfl
theorem q1862 : (Jvm.Cond.methodLink "SpendHouse$Pair" (84 : Nat) ({ cls := "SpendHouse$Code", name := "op", desc := "(I)V" } : Jvm.MethodName)) ∈ lw_all := lw_g (lw_at lw_m8 10 rfl) rfl
theorem q1863 : (Jvm.Cond.methodLink "SpendHouse$Pair" (90 : Nat) ({ cls := "SpendHouse$Node", name := "emit", desc := "(LSpendHouse$Code;)V" } : Jvm.MethodName)) ∈ lw_all := lw_g (lw_at lw_m8 11 rfl) rfl
theorem q1864 : (Jvm.Cond.instanceMethod ({ cls := "SpendHouse$Thresh", name := "emit", desc := "(LSpendHouse$Code;)V" } : Jvm.MethodName)) ∈ lw_all := lw_g (lw_at lw_m8 12 rfl) rfl
theorem q1865 : (Jvm.Cond.code ({ cls := "SpendHouse$Thresh", name := "emit", desc := "(LSpendHouse$Code;)V" } : Jvm.MethodName) prog_17_method_3_code (3 : Nat) (Option.none : Option Jvm.ClassFile.FieldType)) ∈ lw_all := lw_g (lw_at lw_m8 13 rfl) rfl
theorem q1866 : (Jvm.Cond.methodLink "SpendHouse$Thresh" (65 : Nat) ({ cls := "SpendHouse$Node", name := "emit", desc := "(LSpendHouse$Code;)V" } : Jvm.MethodName)) ∈ lw_all := lw_g (lw_at lw_m8 14 rfl) rfl
theorem q1867 : (Jvm.Cond.instanceMethod ({ cls := "SpendHouse$Truth", name := "emit", desc := "(LSpendHouse$Code;)V" } : Jvm.MethodName)) ∈ lw_all := lw_g (lw_at lw_m8 15 rfl) rfl
theorem q1868 : (Jvm.Cond.code ({ cls := "SpendHouse$Truth", name := "emit", desc := "(LSpendHouse$Code;)V" } : Jvm.MethodName) prog_18_method_3_code (2 : Nat) (Option.none : Option Jvm.ClassFile.FieldType)) ∈ lw_all := lw_g (lw_at lw_m8 16 rfl) rfl
theorem q1869 : (Jvm.Cond.methodLink "SpendHouse$Truth" (26 : Nat) ({ cls := "SpendHouse$Code", name := "number", desc := "(I)V" } : Jvm.MethodName)) ∈ lw_all := lw_g (lw_at lw_m8 17 rfl) rfl
theorem q1870 : (Jvm.Cond.instanceMethod ({ cls := "SpendHouse$Wrapper", name := "emit", desc := "(LSpendHouse$Code;)V" } : Jvm.MethodName)) ∈ lw_all := lw_g (lw_at lw_m8 18 rfl) rfl
theorem q1871 : (Jvm.Cond.code ({ cls := "SpendHouse$Wrapper", name := "emit", desc := "(LSpendHouse$Code;)V" } : Jvm.MethodName) prog_21_method_4_code (2 : Nat) (Option.none : Option Jvm.ClassFile.FieldType)) ∈ lw_all := lw_g (lw_at lw_m8 19 rfl) rfl
theorem q1872 : (Jvm.Cond.methodLink "SpendHouse$Wrapper" (75 : Nat) ({ cls := "SpendHouse$Code", name := "op", desc := "(I)V" } : Jvm.MethodName)) ∈ lw_all := lw_g (lw_at lw_m8 20 rfl) rfl
theorem q1873 : (Jvm.Cond.methodLink "SpendHouse$Wrapper" (81 : Nat) ({ cls := "SpendHouse$Node", name := "emit", desc := "(LSpendHouse$Code;)V" } : Jvm.MethodName)) ∈ lw_all := lw_g (lw_at lw_m8 21 rfl) rfl
theorem q1874 : (Jvm.Cond.methodLink "SpendHouse$Wrapper" (85 : Nat) ({ cls := "SpendHouse$Code", name := "verify", desc := "()V" } : Jvm.MethodName)) ∈ lw_all := lw_g (lw_at lw_m8 22 rfl) rfl
theorem q1875 : (Jvm.Cond.instanceMethod ({ cls := "SpendHouse$Code", name := "verify", desc := "()V" } : Jvm.MethodName)) ∈ lw_all := lw_g (lw_at lw_m8 23 rfl) rfl
theorem q1876 : (Jvm.Cond.selects "SpendHouse$Code" ({ cls := "SpendHouse$Code", name := "verify", desc := "()V" } : Jvm.MethodName) ({ cls := "SpendHouse$Code", name := "verify", desc := "()V" } : Jvm.MethodName)) ∈ lw_all := lw_g (lw_at lw_m8 24 rfl) rfl
theorem q1877 : (Jvm.Cond.code ({ cls := "SpendHouse$Code", name := "verify", desc := "()V" } : Jvm.MethodName) prog_3_method_6_code (2 : Nat) (Option.none : Option Jvm.ClassFile.FieldType)) ∈ lw_all := lw_g (lw_at lw_m8 25 rfl) rfl
theorem q1878 : (Jvm.Cond.methodLink "SpendHouse$Code" (30 : Nat) ({ cls := "SpendHouse$Code", name := "op", desc := "(I)V" } : Jvm.MethodName)) ∈ lw_all := lw_g (lw_at lw_m8 26 rfl) rfl
theorem q1879 : (Jvm.Cond.methodLink "SpendHouse$Thresh" (69 : Nat) ({ cls := "SpendHouse$Code", name := "op", desc := "(I)V" } : Jvm.MethodName)) ∈ lw_all := lw_g (lw_at lw_m8 27 rfl) rfl
theorem q1880 : (Jvm.Cond.methodLink "SpendHouse$Thresh" (75 : Nat) ({ cls := "SpendHouse$Code", name := "number", desc := "(I)V" } : Jvm.MethodName)) ∈ lw_all := lw_g (lw_at lw_m8 28 rfl) rfl
theorem q1881 : (Jvm.Cond.methodLink "SpendHouse$AndOr" (82 : Nat) ({ cls := "SpendHouse$Code", name := "op", desc := "(I)V" } : Jvm.MethodName)) ∈ lw_all := lw_g (lw_at lw_m8 29 rfl) rfl
theorem q1882 : (Jvm.Cond.selects "SpendHouse$Image" ({ cls := "SpendHouse$Node", name := "emit", desc := "(LSpendHouse$Code;)V" } : Jvm.MethodName) ({ cls := "SpendHouse$Image", name := "emit", desc := "(LSpendHouse$Code;)V" } : Jvm.MethodName)) ∈ lw_all := lw_g (lw_at lw_m8 30 rfl) rfl
theorem q1883 : (Jvm.Cond.selects "SpendHouse$Key" ({ cls := "SpendHouse$Node", name := "emit", desc := "(LSpendHouse$Code;)V" } : Jvm.MethodName) ({ cls := "SpendHouse$Key", name := "emit", desc := "(LSpendHouse$Code;)V" } : Jvm.MethodName)) ∈ lw_all := lw_g (lw_at lw_m8 31 rfl) rfl
theorem q1884 : (Jvm.Cond.selects "SpendHouse$Lock" ({ cls := "SpendHouse$Node", name := "emit", desc := "(LSpendHouse$Code;)V" } : Jvm.MethodName) ({ cls := "SpendHouse$Lock", name := "emit", desc := "(LSpendHouse$Code;)V" } : Jvm.MethodName)) ∈ lw_all := lw_g (lw_at lw_m8 32 rfl) rfl
theorem q1885 : (Jvm.Cond.selects "SpendHouse$Multi" ({ cls := "SpendHouse$Node", name := "emit", desc := "(LSpendHouse$Code;)V" } : Jvm.MethodName) ({ cls := "SpendHouse$Multi", name := "emit", desc := "(LSpendHouse$Code;)V" } : Jvm.MethodName)) ∈ lw_all := lw_g (lw_at lw_m8 33 rfl) rfl
theorem q1886 : (Jvm.Cond.selects "SpendHouse$Pair" ({ cls := "SpendHouse$Node", name := "emit", desc := "(LSpendHouse$Code;)V" } : Jvm.MethodName) ({ cls := "SpendHouse$Pair", name := "emit", desc := "(LSpendHouse$Code;)V" } : Jvm.MethodName)) ∈ lw_all := lw_g (lw_at lw_m8 34 rfl) rfl
theorem q1887 : (Jvm.Cond.selects "SpendHouse$Thresh" ({ cls := "SpendHouse$Node", name := "emit", desc := "(LSpendHouse$Code;)V" } : Jvm.MethodName) ({ cls := "SpendHouse$Thresh", name := "emit", desc := "(LSpendHouse$Code;)V" } : Jvm.MethodName)) ∈ lw_all := lw_g (lw_at lw_m8 35 rfl) rfl
theorem q1888 : (Jvm.Cond.selects "SpendHouse$Truth" ({ cls := "SpendHouse$Node", name := "emit", desc := "(LSpendHouse$Code;)V" } : Jvm.MethodName) ({ cls := "SpendHouse$Truth", name := "emit", desc := "(LSpendHouse$Code;)V" } : Jvm.MethodName)) ∈ lw_all := lw_g (lw_at lw_m8 36 rfl) rfl
theorem q1889 : (Jvm.Cond.selects "SpendHouse$Wrapper" ({ cls := "SpendHouse$Node", name := "emit", desc := "(LSpendHouse$Code;)V" } : Jvm.MethodName) ({ cls := "SpendHouse$Wrapper", name := "emit", desc := "(LSpendHouse$Code;)V" } : Jvm.MethodName)) ∈ lw_all := lw_g (lw_at lw_m8 37 rfl) rfl
theorem q1890 : (Jvm.Cond.classLink "SpendHouse" (214 : Nat) "java/lang/StringBuilder") ∈ lw_all := lw_g (lw_at lw_m8 38 rfl) rfl
theorem q1891 : (Jvm.Cond.methodLink "SpendHouse" (216 : Nat) ({ cls := "java/lang/StringBuilder", name := "<init>", desc := "()V" } : Jvm.MethodName)) ∈ lw_all := lw_g (lw_at lw_m8 39 rfl) rfl
theorem q1892 : (Jvm.Cond.methodLink "SpendHouse" (217 : Nat) ({ cls := "SpendHouse$Node", name := "write", desc := "(Ljava/lang/StringBuilder;)V" } : Jvm.MethodName)) ∈ lw_all := lw_g (lw_at lw_m8 40 rfl) rfl
theorem q1893 : (Jvm.Cond.declares ({ cls := "SpendHouse$Node", name := "write", desc := "(Ljava/lang/StringBuilder;)V" } : Jvm.MethodName)) ∈ lw_tbl := lw_at lw_m8 41 rfl
theorem q1894 : (Jvm.Cond.sameMethod "SpendHouse$Node" "SpendHouse$Node" "write" "(Ljava/lang/StringBuilder;)V") ∈ lw_all := lw_g (lw_at lw_m8 42 rfl) rfl
theorem q1895 : (Jvm.Cond.selects "SpendHouse$AndOr" ({ cls := "SpendHouse$Node", name := "write", desc := "(Ljava/lang/StringBuilder;)V" } : Jvm.MethodName) ({ cls := "SpendHouse$AndOr", name := "write", desc := "(Ljava/lang/StringBuilder;)V" } : Jvm.MethodName)) ∈ lw_all := lw_g (lw_at lw_m8 43 rfl) rfl
theorem q1896 : (Jvm.Cond.instanceMethod ({ cls := "SpendHouse$AndOr", name := "write", desc := "(Ljava/lang/StringBuilder;)V" } : Jvm.MethodName)) ∈ lw_all := lw_g (lw_at lw_m8 44 rfl) rfl
theorem q1897 : (Jvm.Cond.code ({ cls := "SpendHouse$AndOr", name := "write", desc := "(Ljava/lang/StringBuilder;)V" } : Jvm.MethodName) prog_2_method_4_code (2 : Nat) (Option.none : Option Jvm.ClassFile.FieldType)) ∈ lw_all := lw_g (lw_at lw_m8 45 rfl) rfl
theorem q1898 : (Jvm.Cond.stringRef "SpendHouse$AndOr" (88 : Nat) "andor(") ∈ lw_tbl := lw_at lw_m8 46 rfl
theorem q1899 : (Jvm.Cond.methodLink "SpendHouse$AndOr" (90 : Nat) ({ cls := "java/lang/StringBuilder", name := "append", desc := "(Ljava/lang/String;)Ljava/lang/StringBuilder;" } : Jvm.MethodName)) ∈ lw_all := lw_g (lw_at lw_m8 47 rfl) rfl
theorem q1900 : (Jvm.Cond.instanceMethod ({ cls := "java/lang/StringBuilder", name := "append", desc := "(Ljava/lang/String;)Ljava/lang/StringBuilder;" } : Jvm.MethodName)) ∈ lw_all := lw_g (lw_at lw_m8 48 rfl) rfl
theorem q1901 : (Jvm.Cond.selects "java/lang/StringBuilder" ({ cls := "java/lang/StringBuilder", name := "append", desc := "(Ljava/lang/String;)Ljava/lang/StringBuilder;" } : Jvm.MethodName) ({ cls := "java/lang/StringBuilder", name := "append", desc := "(Ljava/lang/String;)Ljava/lang/StringBuilder;" } : Jvm.MethodName)) ∈ lw_all := lw_g (lw_at lw_m8 49 rfl) rfl
theorem q1902 : (Jvm.Cond.code ({ cls := "java/lang/StringBuilder", name := "append", desc := "(Ljava/lang/String;)Ljava/lang/StringBuilder;" } : Jvm.MethodName) prog_32_method_7_code (2 : Nat) (Option.some (Jvm.ClassFile.FieldType.object "java/lang/StringBuilder"))) ∈ lw_all := lw_g (lw_at lw_m8 50 rfl) rfl
theorem q1903 : (Jvm.Cond.methodLink "java/lang/StringBuilder" (29 : Nat) ({ cls := "java/lang/AbstractStringBuilder", name := "append", desc := "(Ljava/lang/String;)Ljava/lang/AbstractStringBuilder;" } : Jvm.MethodName)) ∈ lw_all := lw_g (lw_at lw_m8 51 rfl) rfl
theorem q1904 : (Jvm.Cond.instanceMethod ({ cls := "java/lang/AbstractStringBuilder", name := "append", desc := "(Ljava/lang/String;)Ljava/lang/AbstractStringBuilder;" } : Jvm.MethodName)) ∈ lw_all := lw_g (lw_at lw_m8 52 rfl) rfl
theorem q1905 : (Jvm.Cond.code ({ cls := "java/lang/AbstractStringBuilder", name := "append", desc := "(Ljava/lang/String;)Ljava/lang/AbstractStringBuilder;" } : Jvm.MethodName) prog_24_method_22_code (3 : Nat) (Option.some (Jvm.ClassFile.FieldType.object "java/lang/AbstractStringBuilder"))) ∈ lw_all := lw_g (lw_at lw_m8 53 rfl) rfl
theorem q1906 : (Jvm.Cond.methodLink "java/lang/AbstractStringBuilder" (204 : Nat) ({ cls := "java/lang/AbstractStringBuilder", name := "appendNull", desc := "()Ljava/lang/AbstractStringBuilder;" } : Jvm.MethodName)) ∈ lw_all := lw_g (lw_at lw_m8 54 rfl) rfl
theorem q1907 : (Jvm.Cond.privateMethod ({ cls := "java/lang/AbstractStringBuilder", name := "appendNull", desc := "()Ljava/lang/AbstractStringBuilder;" } : Jvm.MethodName)) ∈ lw_tbl := lw_at lw_m8 55 rfl
theorem q1908 : (Jvm.Cond.instanceMethod ({ cls := "java/lang/AbstractStringBuilder", name := "appendNull", desc := "()Ljava/lang/AbstractStringBuilder;" } : Jvm.MethodName)) ∈ lw_all := lw_g (lw_at lw_m8 56 rfl) rfl
theorem q1909 : (Jvm.Cond.code ({ cls := "java/lang/AbstractStringBuilder", name := "appendNull", desc := "()Ljava/lang/AbstractStringBuilder;" } : Jvm.MethodName) prog_24_method_26_code (3 : Nat) (Option.some (Jvm.ClassFile.FieldType.object "java/lang/AbstractStringBuilder"))) ∈ lw_all := lw_g (lw_at lw_m8 57 rfl) rfl
theorem q1910 : (Jvm.Cond.methodLink "java/lang/AbstractStringBuilder" (226 : Nat) ({ cls := "java/lang/StringUTF16", name := "putCharsAt", desc := "([BICCCC)I" } : Jvm.MethodName)) ∈ lw_all := lw_g (lw_at lw_m8 58 rfl) rfl
theorem q1911 : (Jvm.Cond.static ({ cls := "java/lang/StringUTF16", name := "putCharsAt", desc := "([BICCCC)I" } : Jvm.MethodName)) ∈ lw_all := lw_g (lw_at lw_m8 59 rfl) rfl
theorem q1912 : (Jvm.Cond.code ({ cls := "java/lang/StringUTF16", name := "putCharsAt", desc := "([BICCCC)I" } : Jvm.MethodName) prog_34_method_81_code (7 : Nat) (Option.some Jvm.ClassFile.FieldType.int)) ∈ lw_all := lw_g (lw_at lw_m8 60 rfl) rfl
theorem q1913 : (Jvm.Cond.methodLink "java/lang/AbstractStringBuilder" (32 : Nat) ({ cls := "java/lang/String", name := "length", desc := "()I" } : Jvm.MethodName)) ∈ lw_all := lw_g (lw_at lw_m8 61 rfl) rfl
theorem q1914 : (Jvm.Cond.methodLink "java/lang/AbstractStringBuilder" (208 : Nat) ({ cls := "java/lang/AbstractStringBuilder", name := "putStringAt", desc := "(ILjava/lang/String;)V" } : Jvm.MethodName)) ∈ lw_all := lw_g (lw_at lw_m8 62 rfl) rfl
theorem q1915 : (Jvm.Cond.privateMethod ({ cls := "java/lang/AbstractStringBuilder", name := "putStringAt", desc := "(ILjava/lang/String;)V" } : Jvm.MethodName)) ∈ lw_tbl := lw_at lw_m8 63 rfl
theorem q1916 : (Jvm.Cond.instanceMethod ({ cls := "java/lang/AbstractStringBuilder", name := "putStringAt", desc := "(ILjava/lang/String;)V" } : Jvm.MethodName)) ∈ lw_all := lw_g (lw_at lw_m8 64 rfl) rfl
theorem q1917 : (Jvm.Cond.code ({ cls := "java/lang/AbstractStringBuilder", name := "putStringAt", desc := "(ILjava/lang/String;)V" } : Jvm.MethodName) prog_24_method_73_code (3 : Nat) (Option.none : Option Jvm.ClassFile.FieldType)) ∈ lw_all := lw_g (lw_at lw_m8 65 rfl) rfl
theorem q1918 : (Jvm.Cond.methodLink "java/lang/AbstractStringBuilder" (397 : Nat) ({ cls := "java/lang/AbstractStringBuilder", name := "inflateIfNeededFor", desc := "(Ljava/lang/String;)V" } : Jvm.MethodName)) ∈ lw_all := lw_g (lw_at lw_m8 66 rfl) rfl
theorem q1919 : (Jvm.Cond.privateMethod ({ cls := "java/lang/AbstractStringBuilder", name := "inflateIfNeededFor", desc := "(Ljava/lang/String;)V" } : Jvm.MethodName)) ∈ lw_tbl := lw_at lw_m8 67 rfl
theorem q1920 : (Jvm.Cond.instanceMethod ({ cls := "java/lang/AbstractStringBuilder", name := "inflateIfNeededFor", desc := "(Ljava/lang/String;)V" } : Jvm.MethodName)) ∈ lw_all := lw_g (lw_at lw_m8 68 rfl) rfl
theorem q1921 : (Jvm.Cond.code ({ cls := "java/lang/AbstractStringBuilder", name := "inflateIfNeededFor", desc := "(Ljava/lang/String;)V" } : Jvm.MethodName) prog_24_method_71_code (2 : Nat) (Option.none : Option Jvm.ClassFile.FieldType)) ∈ lw_all := lw_g (lw_at lw_m8 69 rfl) rfl
theorem q1922 : (Jvm.Cond.methodLink "java/lang/AbstractStringBuilder" (40 : Nat) ({ cls := "java/lang/String", name := "coder", desc := "()B" } : Jvm.MethodName)) ∈ lw_all := lw_g (lw_at lw_m8 70 rfl) rfl
theorem q1923 : (Jvm.Cond.methodLink "java/lang/AbstractStringBuilder" (399 : Nat) ({ cls := "java/lang/String", name := "getBytes", desc := "([BIB)V" } : Jvm.MethodName)) ∈ lw_all := lw_g (lw_at lw_m8 71 rfl) rfl
theorem q1924 : (Jvm.Cond.instanceMethod ({ cls := "java/lang/String", name := "getBytes", desc := "([BIB)V" } : Jvm.MethodName)) ∈ lw_all := lw_g (lw_at lw_m8 72 rfl) rfl
theorem q1925 : (Jvm.Cond.selects "java/lang/String" ({ cls := "java/lang/String", name := "getBytes", desc := "([BIB)V" } : Jvm.MethodName) ({ cls := "java/lang/String", name := "getBytes", desc := "([BIB)V" } : Jvm.MethodName)) ∈ lw_all := lw_g (lw_at lw_m8 73 rfl) rfl
theorem q1926 : (Jvm.Cond.code ({ cls := "java/lang/String", name := "getBytes", desc := "([BIB)V" } : Jvm.MethodName) prog_31_method_147_code (4 : Nat) (Option.none : Option Jvm.ClassFile.FieldType)) ∈ lw_all := lw_g (lw_at lw_m8 74 rfl) rfl
theorem q1927 : (Jvm.Cond.methodLink "java/lang/String" (212 : Nat) ({ cls := "java/lang/System", name := "arraycopy", desc := "(Ljava/lang/Object;ILjava/lang/Object;II)V" } : Jvm.MethodName)) ∈ lw_all := lw_g (lw_at lw_m8 75 rfl) rfl
theorem q1928 : (Jvm.Cond.methodLink "java/lang/String" (106 : Nat) ({ cls := "java/lang/StringLatin1", name := "inflate", desc := "([BI[BII)V" } : Jvm.MethodName)) ∈ lw_all := lw_g (lw_at lw_m8 76 rfl) rfl
theorem q1929 : (Jvm.Cond.methodLink "SpendHouse$AndOr" (96 : Nat) ({ cls := "SpendHouse$Node", name := "write", desc := "(Ljava/lang/StringBuilder;)V" } : Jvm.MethodName)) ∈ lw_all := lw_g (lw_at lw_m8 77 rfl) rfl
theorem q1930 : (Jvm.Cond.instanceMethod ({ cls := "SpendHouse$Image", name := "write", desc := "(Ljava/lang/StringBuilder;)V" } : Jvm.MethodName)) ∈ lw_all := lw_g (lw_at lw_m8 78 rfl) rfl
theorem q1931 : (Jvm.Cond.code ({ cls := "SpendHouse$Image", name := "write", desc := "(Ljava/lang/StringBuilder;)V" } : Jvm.MethodName) prog_6_method_4_code (2 : Nat) (Option.none : Option Jvm.ClassFile.FieldType)) ∈ lw_all := lw_g (lw_at lw_m8 79 rfl) rfl
theorem q1932 : (Jvm.Cond.methodLinkNest "SpendHouse$Image" (61 : Nat) ({ cls := "SpendHouse", name := "hashed", desc := "(I)Ljava/lang/String;" } : Jvm.MethodName) "SpendHouse") ∈ lw_tbl := lw_at lw_m8 80 rfl
theorem q1933 : (Jvm.Cond.methodLink "SpendHouse$Image" (65 : Nat) ({ cls := "java/lang/StringBuilder", name := "append", desc := "(Ljava/lang/String;)Ljava/lang/StringBuilder;" } : Jvm.MethodName)) ∈ lw_all := lw_g (lw_at lw_m8 81 rfl) rfl
theorem q1934 : (Jvm.Cond.methodLink "SpendHouse$Image" (71 : Nat) ({ cls := "java/lang/StringBuilder", name := "append", desc := "(C)Ljava/lang/StringBuilder;" } : Jvm.MethodName)) ∈ lw_all := lw_g (lw_at lw_m8 82 rfl) rfl
theorem q1935 : (Jvm.Cond.methodLink "SpendHouse$Image" (74 : Nat) ({ cls := "java/lang/StringBuilder", name := "append", desc := "(I)Ljava/lang/StringBuilder;" } : Jvm.MethodName)) ∈ lw_all := lw_g (lw_at lw_m8 83 rfl) rfl
theorem q1936 : (Jvm.Cond.instanceMethod ({ cls := "java/lang/StringBuilder", name := "append", desc := "(I)Ljava/lang/StringBuilder;" } : Jvm.MethodName)) ∈ lw_all := lw_g (lw_at lw_m8 84 rfl) rfl
theorem q1937 : (Jvm.Cond.selects "java/lang/StringBuilder" ({ cls := "java/lang/StringBuilder", name := "append", desc := "(I)Ljava/lang/StringBuilder;" } : Jvm.MethodName) ({ cls := "java/lang/StringBuilder", name := "append", desc := "(I)Ljava/lang/StringBuilder;" } : Jvm.MethodName)) ∈ lw_all := lw_g (lw_at lw_m8 85 rfl) rfl
theorem q1938 : (Jvm.Cond.code ({ cls := "java/lang/StringBuilder", name := "append", desc := "(I)Ljava/lang/StringBuilder;" } : Jvm.MethodName) prog_32_method_15_code (2 : Nat) (Option.some (Jvm.ClassFile.FieldType.object "java/lang/StringBuilder"))) ∈ lw_all := lw_g (lw_at lw_m8 86 rfl) rfl
theorem q1939 : (Jvm.Cond.methodLink "java/lang/StringBuilder" (53 : Nat) ({ cls := "java/lang/AbstractStringBuilder", name := "append", desc := "(I)Ljava/lang/AbstractStringBuilder;" } : Jvm.MethodName)) ∈ lw_all := lw_g (lw_at lw_m8 87 rfl) rfl
theorem q1940 : (Jvm.Cond.instanceMethod ({ cls := "java/lang/AbstractStringBuilder", name := "append", desc := "(I)Ljava/lang/AbstractStringBuilder;" } : Jvm.MethodName)) ∈ lw_all := lw_g (lw_at lw_m8 88 rfl) rfl
theorem q1941 : (Jvm.Cond.code ({ cls := "java/lang/AbstractStringBuilder", name := "append", desc := "(I)Ljava/lang/AbstractStringBuilder;" } : Jvm.MethodName) prog_24_method_32_code (4 : Nat) (Option.some (Jvm.ClassFile.FieldType.object "java/lang/AbstractStringBuilder"))) ∈ lw_all := lw_g (lw_at lw_m8 89 rfl) rfl
theorem q1942 : (Jvm.Cond.methodLink "java/lang/AbstractStringBuilder" (245 : Nat) ({ cls := "java/lang/Integer", name := "stringSize", desc := "(I)I" } : Jvm.MethodName)) ∈ lw_all := lw_g (lw_at lw_m8 90 rfl) rfl
theorem q1943 : (Jvm.Cond.static ({ cls := "java/lang/Integer", name := "stringSize", desc := "(I)I" } : Jvm.MethodName)) ∈ lw_all := lw_g (lw_at lw_m8 91 rfl) rfl
theorem q1944 : (Jvm.Cond.code ({ cls := "java/lang/Integer", name := "stringSize", desc := "(I)I" } : Jvm.MethodName) prog_28_method_13_code (4 : Nat) (Option.some Jvm.ClassFile.FieldType.int)) ∈ lw_all := lw_g (lw_at lw_m8 92 rfl) rfl
theorem q1945 : (Jvm.Cond.methodLink "java/lang/AbstractStringBuilder" (248 : Nat) ({ cls := "java/lang/Integer", name := "getChars", desc := "(II[B)I" } : Jvm.MethodName)) ∈ lw_all := lw_g (lw_at lw_m8 93 rfl) rfl
theorem q1946 : (Jvm.Cond.static ({ cls := "java/lang/Integer", name := "getChars", desc := "(II[B)I" } : Jvm.MethodName)) ∈ lw_all := lw_g (lw_at lw_m8 94 rfl) rfl
theorem q1947 : (Jvm.Cond.code ({ cls := "java/lang/Integer", name := "getChars", desc := "(II[B)I" } : Jvm.MethodName) prog_28_method_12_code (7 : Nat) (Option.some Jvm.ClassFile.FieldType.int)) ∈ lw_all := lw_g (lw_at lw_m8 95 rfl) rfl
theorem q1948 : (Jvm.Cond.fieldLink "java/lang/Integer" (83 : Nat) "java/lang/Integer" "DigitOnes" "[B") ∈ lw_all := lw_g (lw_at lw_m8 96 rfl) rfl
theorem q1949 : (Jvm.Cond.laysStatic "java/lang/Integer" "DigitOnes" "[B") ∈ lw_tbl := lw_at lw_m8 97 rfl
theorem q1950 : (Jvm.Cond.fieldLink "java/lang/Integer" (87 : Nat) "java/lang/Integer" "DigitTens" "[B") ∈ lw_all := lw_g (lw_at lw_m8 98 rfl) rfl
theorem q1951 : (Jvm.Cond.laysStatic "java/lang/Integer" "DigitTens" "[B") ∈ lw_tbl := lw_at lw_m8 99 rfl
theorem q1952 : (Jvm.Cond.methodLink "java/lang/AbstractStringBuilder" (251 : Nat) ({ cls := "java/lang/StringUTF16", name := "getChars", desc := "(III[B)I" } : Jvm.MethodName)) ∈ lw_all := lw_g (lw_at lw_m8 100 rfl) rfl
theorem q1953 : (Jvm.Cond.static ({ cls := "java/lang/StringUTF16", name := "getChars", desc := "(III[B)I" } : Jvm.MethodName)) ∈ lw_all := lw_g (lw_at lw_m8 101 rfl) rfl
theorem q1954 : (Jvm.Cond.code ({ cls := "java/lang/StringUTF16", name := "getChars", desc := "(III[B)I" } : Jvm.MethodName) prog_34_method_77_code (5 : Nat) (Option.some Jvm.ClassFile.FieldType.int)) ∈ lw_all := lw_g (lw_at lw_m8 102 rfl) rfl
theorem q1955 : (Jvm.Cond.methodLink "java/lang/StringUTF16" (393 : Nat) ({ cls := "java/lang/StringUTF16", name := "getChars", desc := "(II[B)I" } : Jvm.MethodName)) ∈ lw_all := lw_g (lw_at lw_m8 103 rfl) rfl
theorem q1956 : (Jvm.Cond.static ({ cls := "java/lang/StringUTF16", name := "getChars", desc := "(II[B)I" } : Jvm.MethodName)) ∈ lw_all := lw_g (lw_at lw_m8 104 rfl) rfl
theorem q1957 : (Jvm.Cond.code ({ cls := "java/lang/StringUTF16", name := "getChars", desc := "(II[B)I" } : Jvm.MethodName) prog_34_method_89_code (7 : Nat) (Option.some Jvm.ClassFile.FieldType.int)) ∈ lw_all := lw_g (lw_at lw_m8 105 rfl) rfl
theorem q1958 : (Jvm.Cond.fieldLink "java/lang/StringUTF16" (403 : Nat) "java/lang/Integer" "DigitOnes" "[B") ∈ lw_all := lw_g (lw_at lw_m8 106 rfl) rfl
theorem q1959 : (Jvm.Cond.fieldLink "java/lang/StringUTF16" (407 : Nat) "java/lang/Integer" "DigitTens" "[B") ∈ lw_all := lw_g (lw_at lw_m8 107 rfl) rfl
theorem q1960 : (Jvm.Cond.instanceMethod ({ cls := "SpendHouse$Key", name := "write", desc := "(Ljava/lang/StringBuilder;)V" } : Jvm.MethodName)) ∈ lw_all := lw_g (lw_at lw_m8 108 rfl) rfl
theorem q1961 : (Jvm.Cond.code ({ cls := "SpendHouse$Key", name := "write", desc := "(Ljava/lang/StringBuilder;)V" } : Jvm.MethodName) prog_8_method_4_code (2 : Nat) (Option.none : Option Jvm.ClassFile.FieldType)) ∈ lw_all := lw_g (lw_at lw_m8 109 rfl) rfl
theorem q1962 : (Jvm.Cond.stringRef "SpendHouse$Key" (55 : Nat) "pk_h(") ∈ lw_tbl := lw_at lw_m8 110 rfl
theorem q1963 : (Jvm.Cond.stringRef "SpendHouse$Key" (57 : Nat) "pk_k(") ∈ lw_tbl := lw_at lw_m8 111 rfl
theorem q1964 : (Jvm.Cond.methodLink "SpendHouse$Key" (59 : Nat) ({ cls := "java/lang/StringBuilder", name := "append", desc := "(Ljava/lang/String;)Ljava/lang/StringBuilder;" } : Jvm.MethodName)) ∈ lw_all := lw_g (lw_at lw_m8 112 rfl) rfl
theorem q1965 : (Jvm.Cond.methodLink "SpendHouse$Key" (65 : Nat) ({ cls := "java/lang/StringBuilder", name := "append", desc := "(C)Ljava/lang/StringBuilder;" } : Jvm.MethodName)) ∈ lw_all := lw_g (lw_at lw_m8 113 rfl) rfl
theorem q1966 : (Jvm.Cond.instanceMethod ({ cls := "SpendHouse$Lock", name := "write", desc := "(Ljava/lang/StringBuilder;)V" } : Jvm.MethodName)) ∈ lw_all := lw_g (lw_at lw_m8 114 rfl) rfl
theorem q1967 : (Jvm.Cond.code ({ cls := "SpendHouse$Lock", name := "write", desc := "(Ljava/lang/StringBuilder;)V" } : Jvm.MethodName) prog_10_method_4_code (2 : Nat) (Option.none : Option Jvm.ClassFile.FieldType)) ∈ lw_all := lw_g (lw_at lw_m8 115 rfl) rfl
theorem q1968 : (Jvm.Cond.stringRef "SpendHouse$Lock" (47 : Nat) "older(") ∈ lw_tbl := lw_at lw_m8 116 rfl
theorem q1969 : (Jvm.Cond.stringRef "SpendHouse$Lock" (49 : Nat) "after(") ∈ lw_tbl := lw_at lw_m8 117 rfl
theorem q1970 : (Jvm.Cond.methodLink "SpendHouse$Lock" (51 : Nat) ({ cls := "java/lang/StringBuilder", name := "append", desc := "(Ljava/lang/String;)Ljava/lang/StringBuilder;" } : Jvm.MethodName)) ∈ lw_all := lw_g (lw_at lw_m8 118 rfl) rfl
theorem q1971 : (Jvm.Cond.methodLink "SpendHouse$Lock" (57 : Nat) ({ cls := "java/lang/StringBuilder", name := "append", desc := "(I)Ljava/lang/StringBuilder;" } : Jvm.MethodName)) ∈ lw_all := lw_g (lw_at lw_m8 119 rfl) rfl
theorem q1972 : (Jvm.Cond.methodLink "SpendHouse$Lock" (60 : Nat) ({ cls := "java/lang/StringBuilder", name := "append", desc := "(C)Ljava/lang/StringBuilder;" } : Jvm.MethodName)) ∈ lw_all := lw_g (lw_at lw_m8 120 rfl) rfl
theorem q1973 : (Jvm.Cond.instanceMethod ({ cls := "SpendHouse$Multi", name := "write", desc := "(Ljava/lang/StringBuilder;)V" } : Jvm.MethodName)) ∈ lw_all := lw_g (lw_at lw_m8 121 rfl) rfl
theorem q1974 : (Jvm.Cond.code ({ cls := "SpendHouse$Multi", name := "write", desc := "(Ljava/lang/StringBuilder;)V" } : Jvm.MethodName) prog_12_method_4_code (3 : Nat) (Option.none : Option Jvm.ClassFile.FieldType)) ∈ lw_all := lw_g (lw_at lw_m8 122 rfl) rfl
theorem q1975 : (Jvm.Cond.stringRef "SpendHouse$Multi" (54 : Nat) "multi(") ∈ lw_tbl := lw_at lw_m8 123 rfl
theorem q1976 : (Jvm.Cond.methodLink "SpendHouse$Multi" (56 : Nat) ({ cls := "java/lang/StringBuilder", name := "append", desc := "(Ljava/lang/String;)Ljava/lang/StringBuilder;" } : Jvm.MethodName)) ∈ lw_all := lw_g (lw_at lw_m8 124 rfl) rfl
theorem q1977 : (Jvm.Cond.methodLink "SpendHouse$Multi" (62 : Nat) ({ cls := "java/lang/StringBuilder", name := "append", desc := "(I)Ljava/lang/StringBuilder;" } : Jvm.MethodName)) ∈ lw_all := lw_g (lw_at lw_m8 125 rfl) rfl
theorem q1978 : (Jvm.Cond.methodLink "SpendHouse$Multi" (65 : Nat) ({ cls := "java/lang/StringBuilder", name := "append", desc := "(C)Ljava/lang/StringBuilder;" } : Jvm.MethodName)) ∈ lw_all := lw_g (lw_at lw_m8 126 rfl) rfl
theorem q1979 : (Jvm.Cond.instanceMethod ({ cls := "SpendHouse$Pair", name := "write", desc := "(Ljava/lang/StringBuilder;)V" } : Jvm.MethodName)) ∈ lw_all := lw_g (lw_at lw_m8 127 rfl) rfl
theorem q1980 : (Jvm.Cond.code ({ cls := "SpendHouse$Pair", name := "write", desc := "(Ljava/lang/StringBuilder;)V" } : Jvm.MethodName) prog_14_method_5_code (2 : Nat) (Option.none : Option Jvm.ClassFile.FieldType)) ∈ lw_all := lw_g (lw_at lw_m8 128 rfl) rfl
theorem q1981 : (Jvm.Cond.methodLinkNest "SpendHouse$Pair" (94 : Nat) ({ cls := "SpendHouse", name := "pair", desc := "(I)Ljava/lang/String;" } : Jvm.MethodName) "SpendHouse") ∈ lw_tbl := lw_at lw_m8 129 rfl
theorem q1982 : (Jvm.Cond.methodLink "SpendHouse$Pair" (98 : Nat) ({ cls := "java/lang/StringBuilder", name := "append", desc := "(Ljava/lang/String;)Ljava/lang/StringBuilder;" } : Jvm.MethodName)) ∈ lw_all := lw_g (lw_at lw_m8 130 rfl) rfl
theorem q1983 : (Jvm.Cond.methodLink "SpendHouse$Pair" (104 : Nat) ({ cls := "java/lang/StringBuilder", name := "append", desc := "(C)Ljava/lang/StringBuilder;" } : Jvm.MethodName)) ∈ lw_all := lw_g (lw_at lw_m8 131 rfl) rfl
theorem q1984 : (Jvm.Cond.methodLink "SpendHouse$Pair" (107 : Nat) ({ cls := "SpendHouse$Node", name := "write", desc := "(Ljava/lang/StringBuilder;)V" } : Jvm.MethodName)) ∈ lw_all := lw_g (lw_at lw_m8 132 rfl) rfl
theorem q1985 : (Jvm.Cond.instanceMethod ({ cls := "SpendHouse$Thresh", name := "write", desc := "(Ljava/lang/StringBuilder;)V" } : Jvm.MethodName)) ∈ lw_all := lw_g (lw_at lw_m8 133 rfl) rfl
theorem q1986 : (Jvm.Cond.code ({ cls := "SpendHouse$Thresh", name := "write", desc := "(Ljava/lang/StringBuilder;)V" } : Jvm.MethodName) prog_17_method_4_code (3 : Nat) (Option.none : Option Jvm.ClassFile.FieldType)) ∈ lw_all := lw_g (lw_at lw_m8 134 rfl) rfl
theorem q1987 : (Jvm.Cond.stringRef "SpendHouse$Thresh" (78 : Nat) "thresh(") ∈ lw_tbl := lw_at lw_m8 135 rfl
theorem q1988 : (Jvm.Cond.methodLink "SpendHouse$Thresh" (80 : Nat) ({ cls := "java/lang/StringBuilder", name := "append", desc := "(Ljava/lang/String;)Ljava/lang/StringBuilder;" } : Jvm.MethodName)) ∈ lw_all := lw_g (lw_at lw_m8 136 rfl) rfl
theorem q1989 : (Jvm.Cond.methodLink "SpendHouse$Thresh" (86 : Nat) ({ cls := "java/lang/StringBuilder", name := "append", desc := "(I)Ljava/lang/StringBuilder;" } : Jvm.MethodName)) ∈ lw_all := lw_g (lw_at lw_m8 137 rfl) rfl
theorem q1990 : (Jvm.Cond.methodLink "SpendHouse$Thresh" (89 : Nat) ({ cls := "java/lang/StringBuilder", name := "append", desc := "(C)Ljava/lang/StringBuilder;" } : Jvm.MethodName)) ∈ lw_all := lw_g (lw_at lw_m8 138 rfl) rfl
theorem q1991 : (Jvm.Cond.methodLink "SpendHouse$Thresh" (92 : Nat) ({ cls := "SpendHouse$Node", name := "write", desc := "(Ljava/lang/StringBuilder;)V" } : Jvm.MethodName)) ∈ lw_all := lw_g (lw_at lw_m8 139 rfl) rfl
theorem q1992 : (Jvm.Cond.instanceMethod ({ cls := "SpendHouse$Truth", name := "write", desc := "(Ljava/lang/StringBuilder;)V" } : Jvm.MethodName)) ∈ lw_all := lw_g (lw_at lw_m8 140 rfl) rfl
theorem q1993 : (Jvm.Cond.code ({ cls := "SpendHouse$Truth", name := "write", desc := "(Ljava/lang/StringBuilder;)V" } : Jvm.MethodName) prog_18_method_4_code (2 : Nat) (Option.none : Option Jvm.ClassFile.FieldType)) ∈ lw_all := lw_g (lw_at lw_m8 141 rfl) rfl
theorem q1994 : (Jvm.Cond.methodLink "SpendHouse$Truth" (32 : Nat) ({ cls := "java/lang/StringBuilder", name := "append", desc := "(C)Ljava/lang/StringBuilder;" } : Jvm.MethodName)) ∈ lw_all := lw_g (lw_at lw_m8 142 rfl) rfl
theorem q1995 : (Jvm.Cond.instanceMethod ({ cls := "SpendHouse$Wrapper", name := "write", desc := "(Ljava/lang/StringBuilder;)V" } : Jvm.MethodName)) ∈ lw_all := lw_g (lw_at lw_m8 143 rfl) rfl
theorem q1996 : (Jvm.Cond.code ({ cls := "SpendHouse$Wrapper", name := "write", desc := "(Ljava/lang/StringBuilder;)V" } : Jvm.MethodName) prog_21_method_5_code (2 : Nat) (Option.none : Option Jvm.ClassFile.FieldType)) ∈ lw_all := lw_g (lw_at lw_m8 144 rfl) rfl
theorem q1997 : (Jvm.Cond.methodLink "SpendHouse$Wrapper" (89 : Nat) ({ cls := "java/lang/StringBuilder", name := "append", desc := "(C)Ljava/lang/StringBuilder;" } : Jvm.MethodName)) ∈ lw_all := lw_g (lw_at lw_m8 145 rfl) rfl
theorem q1998 : (Jvm.Cond.methodLink "SpendHouse$Wrapper" (95 : Nat) ({ cls := "SpendHouse$Node", name := "writeBehind", desc := "(Ljava/lang/StringBuilder;)V" } : Jvm.MethodName)) ∈ lw_all := lw_g (lw_at lw_m8 146 rfl) rfl
theorem q1999 : (Jvm.Cond.instanceMethod ({ cls := "SpendHouse$Node", name := "writeBehind", desc := "(Ljava/lang/StringBuilder;)V" } : Jvm.MethodName)) ∈ lw_all := lw_g (lw_at lw_m8 147 rfl) rfl
theorem q2000 : (Jvm.Cond.sameMethod "SpendHouse$Node" "SpendHouse$Node" "writeBehind" "(Ljava/lang/StringBuilder;)V") ∈ lw_all := lw_g (lw_at lw_m8 148 rfl) rfl
theorem q2001 : (Jvm.Cond.selects "SpendHouse$AndOr" ({ cls := "SpendHouse$Node", name := "writeBehind", desc := "(Ljava/lang/StringBuilder;)V" } : Jvm.MethodName) ({ cls := "SpendHouse$Node", name := "writeBehind", desc := "(Ljava/lang/StringBuilder;)V" } : Jvm.MethodName)) ∈ lw_all := lw_g (lw_at lw_m8 149 rfl) rfl
theorem q2002 : (Jvm.Cond.selects "SpendHouse$Image" ({ cls := "SpendHouse$Node", name := "writeBehind", desc := "(Ljava/lang/StringBuilder;)V" } : Jvm.MethodName) ({ cls := "SpendHouse$Node", name := "writeBehind", desc := "(Ljava/lang/StringBuilder;)V" } : Jvm.MethodName)) ∈ lw_all := lw_g (lw_at lw_m8 150 rfl) rfl
theorem q2003 : (Jvm.Cond.selects "SpendHouse$Key" ({ cls := "SpendHouse$Node", name := "writeBehind", desc := "(Ljava/lang/StringBuilder;)V" } : Jvm.MethodName) ({ cls := "SpendHouse$Node", name := "writeBehind", desc := "(Ljava/lang/StringBuilder;)V" } : Jvm.MethodName)) ∈ lw_all := lw_g (lw_at lw_m8 151 rfl) rfl
theorem q2004 : (Jvm.Cond.selects "SpendHouse$Lock" ({ cls := "SpendHouse$Node", name := "writeBehind", desc := "(Ljava/lang/StringBuilder;)V" } : Jvm.MethodName) ({ cls := "SpendHouse$Node", name := "writeBehind", desc := "(Ljava/lang/StringBuilder;)V" } : Jvm.MethodName)) ∈ lw_all := lw_g (lw_at lw_m8 152 rfl) rfl
theorem q2005 : (Jvm.Cond.selects "SpendHouse$Multi" ({ cls := "SpendHouse$Node", name := "writeBehind", desc := "(Ljava/lang/StringBuilder;)V" } : Jvm.MethodName) ({ cls := "SpendHouse$Node", name := "writeBehind", desc := "(Ljava/lang/StringBuilder;)V" } : Jvm.MethodName)) ∈ lw_all := lw_g (lw_at lw_m8 153 rfl) rfl
theorem q2006 : (Jvm.Cond.selects "SpendHouse$Pair" ({ cls := "SpendHouse$Node", name := "writeBehind", desc := "(Ljava/lang/StringBuilder;)V" } : Jvm.MethodName) ({ cls := "SpendHouse$Node", name := "writeBehind", desc := "(Ljava/lang/StringBuilder;)V" } : Jvm.MethodName)) ∈ lw_all := lw_g (lw_at lw_m8 154 rfl) rfl
theorem q2007 : (Jvm.Cond.selects "SpendHouse$Thresh" ({ cls := "SpendHouse$Node", name := "writeBehind", desc := "(Ljava/lang/StringBuilder;)V" } : Jvm.MethodName) ({ cls := "SpendHouse$Node", name := "writeBehind", desc := "(Ljava/lang/StringBuilder;)V" } : Jvm.MethodName)) ∈ lw_all := lw_g (lw_at lw_m8 155 rfl) rfl
theorem q2008 : (Jvm.Cond.selects "SpendHouse$Truth" ({ cls := "SpendHouse$Node", name := "writeBehind", desc := "(Ljava/lang/StringBuilder;)V" } : Jvm.MethodName) ({ cls := "SpendHouse$Node", name := "writeBehind", desc := "(Ljava/lang/StringBuilder;)V" } : Jvm.MethodName)) ∈ lw_all := lw_g (lw_at lw_m8 156 rfl) rfl
theorem q2009 : (Jvm.Cond.selects "SpendHouse$Wrapper" ({ cls := "SpendHouse$Node", name := "writeBehind", desc := "(Ljava/lang/StringBuilder;)V" } : Jvm.MethodName) ({ cls := "SpendHouse$Wrapper", name := "writeBehind", desc := "(Ljava/lang/StringBuilder;)V" } : Jvm.MethodName)) ∈ lw_all := lw_g (lw_at lw_m8 157 rfl) rfl
theorem q2010 : (Jvm.Cond.instanceMethod ({ cls := "SpendHouse$Wrapper", name := "writeBehind", desc := "(Ljava/lang/StringBuilder;)V" } : Jvm.MethodName)) ∈ lw_all := lw_g (lw_at lw_m8 158 rfl) rfl
theorem q2011 : (Jvm.Cond.code ({ cls := "SpendHouse$Wrapper", name := "writeBehind", desc := "(Ljava/lang/StringBuilder;)V" } : Jvm.MethodName) prog_21_method_6_code (2 : Nat) (Option.none : Option Jvm.ClassFile.FieldType)) ∈ lw_all := lw_g (lw_at lw_m8 159 rfl) rfl
theorem q2012 : (Jvm.Cond.methodLink "SpendHouse$Wrapper" (99 : Nat) ({ cls := "SpendHouse$Wrapper", name := "write", desc := "(Ljava/lang/StringBuilder;)V" } : Jvm.MethodName)) ∈ lw_all := lw_g (lw_at lw_m8 160 rfl) rfl
theorem q2013 : (Jvm.Cond.code ({ cls := "SpendHouse$Node", name := "writeBehind", desc := "(Ljava/lang/StringBuilder;)V" } : Jvm.MethodName) prog_13_method_22_code (2 : Nat) (Option.none : Option Jvm.ClassFile.FieldType)) ∈ lw_all := lw_g (lw_at lw_m8 161 rfl) rfl
theorem q2014 : (Jvm.Cond.methodLink "SpendHouse$Node" (79 : Nat) ({ cls := "java/lang/StringBuilder", name := "append", desc := "(C)Ljava/lang/StringBuilder;" } : Jvm.MethodName)) ∈ lw_all := lw_g (lw_at lw_m8 162 rfl) rfl
theorem q2015 : (Jvm.Cond.methodLink "SpendHouse$Node" (85 : Nat) ({ cls := "SpendHouse$Node", name := "write", desc := "(Ljava/lang/StringBuilder;)V" } : Jvm.MethodName)) ∈ lw_all := lw_g (lw_at lw_m8 163 rfl) rfl
theorem q2016 : (Jvm.Cond.methodLink "SpendHouse$AndOr" (100 : Nat) ({ cls := "java/lang/StringBuilder", name := "append", desc := "(C)Ljava/lang/StringBuilder;" } : Jvm.MethodName)) ∈ lw_all := lw_g (lw_at lw_m8 164 rfl) rfl
theorem q2017 : (Jvm.Cond.selects "SpendHouse$Image" ({ cls := "SpendHouse$Node", name := "write", desc := "(Ljava/lang/StringBuilder;)V" } : Jvm.MethodName) ({ cls := "SpendHouse$Image", name := "write", desc := "(Ljava/lang/StringBuilder;)V" } : Jvm.MethodName)) ∈ lw_all := lw_g (lw_at lw_m8 165 rfl) rfl
theorem q2018 : (Jvm.Cond.selects "SpendHouse$Key" ({ cls := "SpendHouse$Node", name := "write", desc := "(Ljava/lang/StringBuilder;)V" } : Jvm.MethodName) ({ cls := "SpendHouse$Key", name := "write", desc := "(Ljava/lang/StringBuilder;)V" } : Jvm.MethodName)) ∈ lw_all := lw_g (lw_at lw_m8 166 rfl) rfl
theorem q2019 : (Jvm.Cond.selects "SpendHouse$Lock" ({ cls := "SpendHouse$Node", name := "write", desc := "(Ljava/lang/StringBuilder;)V" } : Jvm.MethodName) ({ cls := "SpendHouse$Lock", name := "write", desc := "(Ljava/lang/StringBuilder;)V" } : Jvm.MethodName)) ∈ lw_all := lw_g (lw_at lw_m8 167 rfl) rfl
theorem q2020 : (Jvm.Cond.selects "SpendHouse$Multi" ({ cls := "SpendHouse$Node", name := "write", desc := "(Ljava/lang/StringBuilder;)V" } : Jvm.MethodName) ({ cls := "SpendHouse$Multi", name := "write", desc := "(Ljava/lang/StringBuilder;)V" } : Jvm.MethodName)) ∈ lw_all := lw_g (lw_at lw_m8 168 rfl) rfl
theorem q2021 : (Jvm.Cond.selects "SpendHouse$Pair" ({ cls := "SpendHouse$Node", name := "write", desc := "(Ljava/lang/StringBuilder;)V" } : Jvm.MethodName) ({ cls := "SpendHouse$Pair", name := "write", desc := "(Ljava/lang/StringBuilder;)V" } : Jvm.MethodName)) ∈ lw_all := lw_g (lw_at lw_m8 169 rfl) rfl
theorem q2022 : (Jvm.Cond.selects "SpendHouse$Thresh" ({ cls := "SpendHouse$Node", name := "write", desc := "(Ljava/lang/StringBuilder;)V" } : Jvm.MethodName) ({ cls := "SpendHouse$Thresh", name := "write", desc := "(Ljava/lang/StringBuilder;)V" } : Jvm.MethodName)) ∈ lw_all := lw_g (lw_at lw_m8 170 rfl) rfl
theorem q2023 : (Jvm.Cond.selects "SpendHouse$Truth" ({ cls := "SpendHouse$Node", name := "write", desc := "(Ljava/lang/StringBuilder;)V" } : Jvm.MethodName) ({ cls := "SpendHouse$Truth", name := "write", desc := "(Ljava/lang/StringBuilder;)V" } : Jvm.MethodName)) ∈ lw_all := lw_g (lw_at lw_m8 171 rfl) rfl
theorem q2024 : (Jvm.Cond.selects "SpendHouse$Wrapper" ({ cls := "SpendHouse$Node", name := "write", desc := "(Ljava/lang/StringBuilder;)V" } : Jvm.MethodName) ({ cls := "SpendHouse$Wrapper", name := "write", desc := "(Ljava/lang/StringBuilder;)V" } : Jvm.MethodName)) ∈ lw_all := lw_g (lw_at lw_m8 172 rfl) rfl
theorem q2025 : (Jvm.Cond.methodLink "SpendHouse" (221 : Nat) ({ cls := "java/lang/StringBuilder", name := "toString", desc := "()Ljava/lang/String;" } : Jvm.MethodName)) ∈ lw_all := lw_g (lw_at lw_m8 173 rfl) rfl
theorem q2026 : (Jvm.Cond.methodLink "SpendHouse" (225 : Nat) ({ cls := "SpendHouse$Node", name := "count", desc := "([I)V" } : Jvm.MethodName)) ∈ lw_all := lw_g (lw_at lw_m8 174 rfl) rfl
theorem q2027 : (Jvm.Cond.declares ({ cls := "SpendHouse$Node", name := "count", desc := "([I)V" } : Jvm.MethodName)) ∈ lw_tbl := lw_at lw_m8 175 rfl
theorem q2028 : (Jvm.Cond.sameMethod "SpendHouse$Node" "SpendHouse$Node" "count" "([I)V") ∈ lw_all := lw_g (lw_at lw_m8 176 rfl) rfl
theorem q2029 : (Jvm.Cond.selects "SpendHouse$AndOr" ({ cls := "SpendHouse$Node", name := "count", desc := "([I)V" } : Jvm.MethodName) ({ cls := "SpendHouse$AndOr", name := "count", desc := "([I)V" } : Jvm.MethodName)) ∈ lw_all := lw_g (lw_at lw_m8 177 rfl) rfl
theorem q2030 : (Jvm.Cond.instanceMethod ({ cls := "SpendHouse$AndOr", name := "count", desc := "([I)V" } : Jvm.MethodName)) ∈ lw_all := lw_g (lw_at lw_m8 178 rfl) rfl
theorem q2031 : (Jvm.Cond.code ({ cls := "SpendHouse$AndOr", name := "count", desc := "([I)V" } : Jvm.MethodName) prog_2_method_10_code (2 : Nat) (Option.none : Option Jvm.ClassFile.FieldType)) ∈ lw_all := lw_g (lw_at lw_m8 179 rfl) rfl
theorem q2032 : (Jvm.Cond.methodLink "SpendHouse$AndOr" (134 : Nat) ({ cls := "SpendHouse$Node", name := "count", desc := "([I)V" } : Jvm.MethodName)) ∈ lw_all := lw_g (lw_at lw_m8 180 rfl) rfl
theorem q2033 : (Jvm.Cond.instanceMethod ({ cls := "SpendHouse$Leaf", name := "count", desc := "([I)V" } : Jvm.MethodName)) ∈ lw_all := lw_g (lw_at lw_m8 181 rfl) rfl
theorem q2034 : (Jvm.Cond.code ({ cls := "SpendHouse$Leaf", name := "count", desc := "([I)V" } : Jvm.MethodName) prog_9_method_4_code (2 : Nat) (Option.none : Option Jvm.ClassFile.FieldType)) ∈ lw_all := lw_g (lw_at lw_m8 182 rfl) rfl
theorem q2035 : (Jvm.Cond.instanceMethod ({ cls := "SpendHouse$Key", name := "count", desc := "([I)V" } : Jvm.MethodName)) ∈ lw_all := lw_g (lw_at lw_m8 183 rfl) rfl
theorem q2036 : (Jvm.Cond.code ({ cls := "SpendHouse$Key", name := "count", desc := "([I)V" } : Jvm.MethodName) prog_8_method_9_code (2 : Nat) (Option.none : Option Jvm.ClassFile.FieldType)) ∈ lw_all := lw_g (lw_at lw_m8 184 rfl) rfl
theorem q2037 : (Jvm.Cond.instanceMethod ({ cls := "SpendHouse$Multi", name := "count", desc := "([I)V" } : Jvm.MethodName)) ∈ lw_all := lw_g (lw_at lw_m8 185 rfl) rfl
theorem q2038 : (Jvm.Cond.code ({ cls := "SpendHouse$Multi", name := "count", desc := "([I)V" } : Jvm.MethodName) prog_12_method_8_code (3 : Nat) (Option.none : Option Jvm.ClassFile.FieldType)) ∈ lw_all := lw_g (lw_at lw_m8 186 rfl) rfl
theorem q2039 : (Jvm.Cond.instanceMethod ({ cls := "SpendHouse$Pair", name := "count", desc := "([I)V" } : Jvm.MethodName)) ∈ lw_all := lw_g (lw_at lw_m8 187 rfl) rfl
theorem q2040 : (Jvm.Cond.code ({ cls := "SpendHouse$Pair", name := "count", desc := "([I)V" } : Jvm.MethodName) prog_14_method_12_code (2 : Nat) (Option.none : Option Jvm.ClassFile.FieldType)) ∈ lw_all := lw_g (lw_at lw_m8 188 rfl) rfl
theorem q2041 : (Jvm.Cond.methodLink "SpendHouse$Pair" (154 : Nat) ({ cls := "SpendHouse$Node", name := "count", desc := "([I)V" } : Jvm.MethodName)) ∈ lw_all := lw_g (lw_at lw_m8 189 rfl) rfl
theorem q2042 : (Jvm.Cond.instanceMethod ({ cls := "SpendHouse$Thresh", name := "count", desc := "([I)V" } : Jvm.MethodName)) ∈ lw_all := lw_g (lw_at lw_m8 190 rfl) rfl
theorem q2043 : (Jvm.Cond.code ({ cls := "SpendHouse$Thresh", name := "count", desc := "([I)V" } : Jvm.MethodName) prog_17_method_11_code (3 : Nat) (Option.none : Option Jvm.ClassFile.FieldType)) ∈ lw_all := lw_g (lw_at lw_m8 191 rfl) rfl
theorem q2044 : (Jvm.Cond.methodLink "SpendHouse$Thresh" (137 : Nat) ({ cls := "SpendHouse$Node", name := "count", desc := "([I)V" } : Jvm.MethodName)) ∈ lw_all := lw_g (lw_at lw_m8 192 rfl) rfl
theorem q2045 : (Jvm.Cond.instanceMethod ({ cls := "SpendHouse$Wrapper", name := "count", desc := "([I)V" } : Jvm.MethodName)) ∈ lw_all := lw_g (lw_at lw_m8 193 rfl) rfl
theorem q2046 : (Jvm.Cond.code ({ cls := "SpendHouse$Wrapper", name := "count", desc := "([I)V" } : Jvm.MethodName) prog_21_method_12_code (2 : Nat) (Option.none : Option Jvm.ClassFile.FieldType)) ∈ lw_all := lw_g (lw_at lw_m8 194 rfl) rfl
theorem q2047 : (Jvm.Cond.methodLink "SpendHouse$Wrapper" (143 : Nat) ({ cls := "SpendHouse$Node", name := "count", desc := "([I)V" } : Jvm.MethodName)) ∈ lw_all := lw_g (lw_at lw_m8 195 rfl) rfl
theorem q2048 : (Jvm.Cond.selects "SpendHouse$Image" ({ cls := "SpendHouse$Node", name := "count", desc := "([I)V" } : Jvm.MethodName) ({ cls := "SpendHouse$Leaf", name := "count", desc := "([I)V" } : Jvm.MethodName)) ∈ lw_all := lw_g (lw_at lw_m8 196 rfl) rfl
theorem q2049 : (Jvm.Cond.selects "SpendHouse$Key" ({ cls := "SpendHouse$Node", name := "count", desc := "([I)V" } : Jvm.MethodName) ({ cls := "SpendHouse$Key", name := "count", desc := "([I)V" } : Jvm.MethodName)) ∈ lw_all := lw_g (lw_at lw_m8 197 rfl) rfl
theorem q2050 : (Jvm.Cond.selects "SpendHouse$Lock" ({ cls := "SpendHouse$Node", name := "count", desc := "([I)V" } : Jvm.MethodName) ({ cls := "SpendHouse$Leaf", name := "count", desc := "([I)V" } : Jvm.MethodName)) ∈ lw_all := lw_g (lw_at lw_m8 198 rfl) rfl
theorem q2051 : (Jvm.Cond.selects "SpendHouse$Multi" ({ cls := "SpendHouse$Node", name := "count", desc := "([I)V" } : Jvm.MethodName) ({ cls := "SpendHouse$Multi", name := "count", desc := "([I)V" } : Jvm.MethodName)) ∈ lw_all := lw_g (lw_at lw_m8 199 rfl) rfl
theorem q2052 : (Jvm.Cond.selects "SpendHouse$Pair" ({ cls := "SpendHouse$Node", name := "count", desc := "([I)V" } : Jvm.MethodName) ({ cls := "SpendHouse$Pair", name := "count", desc := "([I)V" } : Jvm.MethodName)) ∈ lw_all := lw_g (lw_at lw_m8 200 rfl) rfl
theorem q2053 : (Jvm.Cond.selects "SpendHouse$Thresh" ({ cls := "SpendHouse$Node", name := "count", desc := "([I)V" } : Jvm.MethodName) ({ cls := "SpendHouse$Thresh", name := "count", desc := "([I)V" } : Jvm.MethodName)) ∈ lw_all := lw_g (lw_at lw_m8 201 rfl) rfl
theorem q2054 : (Jvm.Cond.selects "SpendHouse$Truth" ({ cls := "SpendHouse$Node", name := "count", desc := "([I)V" } : Jvm.MethodName) ({ cls := "SpendHouse$Leaf", name := "count", desc := "([I)V" } : Jvm.MethodName)) ∈ lw_all := lw_g (lw_at lw_m8 202 rfl) rfl
theorem q2055 : (Jvm.Cond.selects "SpendHouse$Wrapper" ({ cls := "SpendHouse$Node", name := "count", desc := "([I)V" } : Jvm.MethodName) ({ cls := "SpendHouse$Wrapper", name := "count", desc := "([I)V" } : Jvm.MethodName)) ∈ lw_all := lw_g (lw_at lw_m8 203 rfl) rfl
theorem q2056 : (Jvm.Cond.methodLink "SpendHouseLaw" (28 : Nat) ({ cls := "SpendHouse", name := "policy", desc := "()I" } : Jvm.MethodName)) ∈ lw_all := lw_g (lw_at lw_m8 204 rfl) rfl
theorem q2057 : (Jvm.Cond.instanceMethod ({ cls := "SpendHouse", name := "policy", desc := "()I" } : Jvm.MethodName)) ∈ lw_all := lw_g (lw_at lw_m8 205 rfl) rfl
theorem q2058 : (Jvm.Cond.selects "SpendHouse" ({ cls := "SpendHouse", name := "policy", desc := "()I" } : Jvm.MethodName) ({ cls := "SpendHouse", name := "policy", desc := "()I" } : Jvm.MethodName)) ∈ lw_all := lw_g (lw_at lw_m8 206 rfl) rfl
theorem q2059 : (Jvm.Cond.code ({ cls := "SpendHouse", name := "policy", desc := "()I" } : Jvm.MethodName) prog_1_method_18_code (1 : Nat) (Option.some Jvm.ClassFile.FieldType.int)) ∈ lw_all := lw_g (lw_at lw_m8 207 rfl) rfl
theorem q2060 : (Jvm.Cond.methodLink "SpendHouseLaw" (32 : Nat) ({ cls := "SpendHouse", name := "fault", desc := "(I)I" } : Jvm.MethodName)) ∈ lw_all := lw_g (lw_at lw_m8 208 rfl) rfl
theorem q2061 : (Jvm.Cond.instanceMethod ({ cls := "SpendHouse", name := "fault", desc := "(I)I" } : Jvm.MethodName)) ∈ lw_all := lw_g (lw_at lw_m8 209 rfl) rfl
theorem q2062 : (Jvm.Cond.selects "SpendHouse" ({ cls := "SpendHouse", name := "fault", desc := "(I)I" } : Jvm.MethodName) ({ cls := "SpendHouse", name := "fault", desc := "(I)I" } : Jvm.MethodName)) ∈ lw_all := lw_g (lw_at lw_m8 210 rfl) rfl
theorem q2063 : (Jvm.Cond.code ({ cls := "SpendHouse", name := "fault", desc := "(I)I" } : Jvm.MethodName) prog_1_method_19_code (2 : Nat) (Option.some Jvm.ClassFile.FieldType.int)) ∈ lw_all := lw_g (lw_at lw_m8 211 rfl) rfl
theorem q2064 : (Jvm.Cond.methodLink "SpendHouseLaw" (36 : Nat) ({ cls := "SpendHouse", name := "written", desc := "()I" } : Jvm.MethodName)) ∈ lw_all := lw_g (lw_at lw_m8 212 rfl) rfl
theorem q2065 : (Jvm.Cond.instanceMethod ({ cls := "SpendHouse", name := "written", desc := "()I" } : Jvm.MethodName)) ∈ lw_all := lw_g (lw_at lw_m8 213 rfl) rfl
theorem q2066 : (Jvm.Cond.selects "SpendHouse" ({ cls := "SpendHouse", name := "written", desc := "()I" } : Jvm.MethodName) ({ cls := "SpendHouse", name := "written", desc := "()I" } : Jvm.MethodName)) ∈ lw_all := lw_g (lw_at lw_m8 214 rfl) rfl
theorem q2067 : (Jvm.Cond.code ({ cls := "SpendHouse", name := "written", desc := "()I" } : Jvm.MethodName) prog_1_method_20_code (1 : Nat) (Option.some Jvm.ClassFile.FieldType.int)) ∈ lw_all := lw_g (lw_at lw_m8 215 rfl) rfl
theorem q2068 : (Jvm.Cond.methodLink "SpendHouse" (239 : Nat) ({ cls := "java/lang/String", name := "length", desc := "()I" } : Jvm.MethodName)) ∈ lw_all := lw_g (lw_at lw_m8 216 rfl) rfl
theorem q2069 : (Jvm.Cond.methodLink "SpendHouseLaw" (40 : Nat) ({ cls := "SpendHouse", name := "letter", desc := "(I)I" } : Jvm.MethodName)) ∈ lw_all := lw_g (lw_at lw_m8 217 rfl) rfl
theorem q2070 : (Jvm.Cond.instanceMethod ({ cls := "SpendHouse", name := "letter", desc := "(I)I" } : Jvm.MethodName)) ∈ lw_all := lw_g (lw_at lw_m8 218 rfl) rfl
theorem q2071 : (Jvm.Cond.selects "SpendHouse" ({ cls := "SpendHouse", name := "letter", desc := "(I)I" } : Jvm.MethodName) ({ cls := "SpendHouse", name := "letter", desc := "(I)I" } : Jvm.MethodName)) ∈ lw_all := lw_g (lw_at lw_m8 219 rfl) rfl
theorem q2072 : (Jvm.Cond.code ({ cls := "SpendHouse", name := "letter", desc := "(I)I" } : Jvm.MethodName) prog_1_method_21_code (2 : Nat) (Option.some Jvm.ClassFile.FieldType.int)) ∈ lw_all := lw_g (lw_at lw_m8 220 rfl) rfl
theorem q2073 : (Jvm.Cond.methodLink "SpendHouse" (244 : Nat) ({ cls := "java/lang/String", name := "charAt", desc := "(I)C" } : Jvm.MethodName)) ∈ lw_all := lw_g (lw_at lw_m8 221 rfl) rfl
theorem q2074 : (Jvm.Cond.methodLink "SpendHouseLaw" (44 : Nat) ({ cls := "SpendHouse", name := "type", desc := "(I)I" } : Jvm.MethodName)) ∈ lw_all := lw_g (lw_at lw_m8 222 rfl) rfl
theorem q2075 : (Jvm.Cond.instanceMethod ({ cls := "SpendHouse", name := "type", desc := "(I)I" } : Jvm.MethodName)) ∈ lw_all := lw_g (lw_at lw_m8 223 rfl) rfl
theorem q2076 : (Jvm.Cond.selects "SpendHouse" ({ cls := "SpendHouse", name := "type", desc := "(I)I" } : Jvm.MethodName) ({ cls := "SpendHouse", name := "type", desc := "(I)I" } : Jvm.MethodName)) ∈ lw_all := lw_g (lw_at lw_m8 224 rfl) rfl
theorem q2077 : (Jvm.Cond.code ({ cls := "SpendHouse", name := "type", desc := "(I)I" } : Jvm.MethodName) prog_1_method_24_code (2 : Nat) (Option.some Jvm.ClassFile.FieldType.int)) ∈ lw_all := lw_g (lw_at lw_m8 225 rfl) rfl
theorem q2078 : (Jvm.Cond.methodLink "SpendHouse" (260 : Nat) ({ cls := "SpendHouse", name := "bit", desc := "(Z)I" } : Jvm.MethodName)) ∈ lw_all := lw_g (lw_at lw_m8 226 rfl) rfl
theorem q2079 : (Jvm.Cond.static ({ cls := "SpendHouse", name := "bit", desc := "(Z)I" } : Jvm.MethodName)) ∈ lw_all := lw_g (lw_at lw_m8 227 rfl) rfl
theorem q2080 : (Jvm.Cond.code ({ cls := "SpendHouse", name := "bit", desc := "(Z)I" } : Jvm.MethodName) prog_1_method_23_code (1 : Nat) (Option.some Jvm.ClassFile.FieldType.int)) ∈ lw_all := lw_g (lw_at lw_m8 228 rfl) rfl
theorem q2081 : (Jvm.Cond.methodLink "SpendHouse" (281 : Nat) ({ cls := "SpendHouse", name := "isSane", desc := "()Z" } : Jvm.MethodName)) ∈ lw_all := lw_g (lw_at lw_m8 229 rfl) rfl
theorem q2082 : (Jvm.Cond.privateMethod ({ cls := "SpendHouse", name := "isSane", desc := "()Z" } : Jvm.MethodName)) ∈ lw_tbl := lw_at lw_m8 230 rfl
theorem q2083 : (Jvm.Cond.instanceMethod ({ cls := "SpendHouse", name := "isSane", desc := "()Z" } : Jvm.MethodName)) ∈ lw_all := lw_g (lw_at lw_m8 231 rfl) rfl
theorem q2084 : (Jvm.Cond.code ({ cls := "SpendHouse", name := "isSane", desc := "()Z" } : Jvm.MethodName) prog_1_method_22_code (1 : Nat) (Option.some Jvm.ClassFile.FieldType.boolean)) ∈ lw_all := lw_g (lw_at lw_m8 232 rfl) rfl
theorem q2085 : (Jvm.Cond.methodLink "SpendHouseLaw" (48 : Nat) ({ cls := "SpendHouse", name := "code", desc := "(I)I" } : Jvm.MethodName)) ∈ lw_all := lw_g (lw_at lw_m8 233 rfl) rfl
theorem q2086 : (Jvm.Cond.instanceMethod ({ cls := "SpendHouse", name := "code", desc := "(I)I" } : Jvm.MethodName)) ∈ lw_all := lw_g (lw_at lw_m8 234 rfl) rfl
theorem q2087 : (Jvm.Cond.selects "SpendHouse" ({ cls := "SpendHouse", name := "code", desc := "(I)I" } : Jvm.MethodName) ({ cls := "SpendHouse", name := "code", desc := "(I)I" } : Jvm.MethodName)) ∈ lw_all := lw_g (lw_at lw_m8 235 rfl) rfl
theorem q2088 : (Jvm.Cond.code ({ cls := "SpendHouse", name := "code", desc := "(I)I" } : Jvm.MethodName) prog_1_method_25_code (2 : Nat) (Option.some Jvm.ClassFile.FieldType.int)) ∈ lw_all := lw_g (lw_at lw_m8 236 rfl) rfl
theorem q2089 : (Jvm.Cond.methodLink "SpendHouseLaw" (52 : Nat) ({ cls := "SpendHouse", name := "sign", desc := "(IZ)Z" } : Jvm.MethodName)) ∈ lw_all := lw_g (lw_at lw_m8 237 rfl) rfl
theorem q2090 : (Jvm.Cond.instanceMethod ({ cls := "SpendHouse", name := "sign", desc := "(IZ)Z" } : Jvm.MethodName)) ∈ lw_all := lw_g (lw_at lw_m8 238 rfl) rfl
theorem q2091 : (Jvm.Cond.selects "SpendHouse" ({ cls := "SpendHouse", name := "sign", desc := "(IZ)Z" } : Jvm.MethodName) ({ cls := "SpendHouse", name := "sign", desc := "(IZ)Z" } : Jvm.MethodName)) ∈ lw_all := lw_g (lw_at lw_m8 239 rfl) rfl
theorem q2092 : (Jvm.Cond.code ({ cls := "SpendHouse", name := "sign", desc := "(IZ)Z" } : Jvm.MethodName) prog_1_method_26_code (4 : Nat) (Option.some Jvm.ClassFile.FieldType.boolean)) ∈ lw_all := lw_g (lw_at lw_m9 0 rfl) rfl
theorem q2093 : (Jvm.Cond.methodLink "SpendHouseLaw" (57 : Nat) ({ cls := "SpendHouse", name := "know", desc := "(IZ)Z" } : Jvm.MethodName)) ∈ lw_all := lw_g (lw_at lw_m9 1 rfl) rfl
theorem q2094 : (Jvm.Cond.instanceMethod ({ cls := "SpendHouse", name := "know", desc := "(IZ)Z" } : Jvm.MethodName)) ∈ lw_all := lw_g (lw_at lw_m9 2 rfl) rfl
theorem q2095 : (Jvm.Cond.selects "SpendHouse" ({ cls := "SpendHouse", name := "know", desc := "(IZ)Z" } : Jvm.MethodName) ({ cls := "SpendHouse", name := "know", desc := "(IZ)Z" } : Jvm.MethodName)) ∈ lw_all := lw_g (lw_at lw_m9 3 rfl) rfl
theorem q2096 : (Jvm.Cond.code ({ cls := "SpendHouse", name := "know", desc := "(IZ)Z" } : Jvm.MethodName) prog_1_method_27_code (4 : Nat) (Option.some Jvm.ClassFile.FieldType.boolean)) ∈ lw_all := lw_g (lw_at lw_m9 4 rfl) rfl
theorem q2097 : (Jvm.Cond.methodLink "SpendHouseLaw" (61 : Nat) ({ cls := "SpendHouse", name := "lock", desc := "(II)I" } : Jvm.MethodName)) ∈ lw_all := lw_g (lw_at lw_m9 5 rfl) rfl
theorem q2098 : (Jvm.Cond.instanceMethod ({ cls := "SpendHouse", name := "lock", desc := "(II)I" } : Jvm.MethodName)) ∈ lw_all := lw_g (lw_at lw_m9 6 rfl) rfl
theorem q2099 : (Jvm.Cond.selects "SpendHouse" ({ cls := "SpendHouse", name := "lock", desc := "(II)I" } : Jvm.MethodName) ({ cls := "SpendHouse", name := "lock", desc := "(II)I" } : Jvm.MethodName)) ∈ lw_all := lw_g (lw_at lw_m9 7 rfl) rfl
theorem q2100 : (Jvm.Cond.code ({ cls := "SpendHouse", name := "lock", desc := "(II)I" } : Jvm.MethodName) prog_1_method_28_code (3 : Nat) (Option.some Jvm.ClassFile.FieldType.int)) ∈ lw_all := lw_g (lw_at lw_m9 8 rfl) rfl
theorem q2101 : (Jvm.Cond.methodLink "SpendHouseLaw" (66 : Nat) ({ cls := "SpendHouse", name := "meaning", desc := "(I)I" } : Jvm.MethodName)) ∈ lw_all := lw_g (lw_at lw_m9 9 rfl) rfl
theorem q2102 : (Jvm.Cond.instanceMethod ({ cls := "SpendHouse", name := "meaning", desc := "(I)I" } : Jvm.MethodName)) ∈ lw_all := lw_g (lw_at lw_m9 10 rfl) rfl
theorem q2103 : (Jvm.Cond.selects "SpendHouse" ({ cls := "SpendHouse", name := "meaning", desc := "(I)I" } : Jvm.MethodName) ({ cls := "SpendHouse", name := "meaning", desc := "(I)I" } : Jvm.MethodName)) ∈ lw_all := lw_g (lw_at lw_m9 11 rfl) rfl
theorem q2104 : (Jvm.Cond.code ({ cls := "SpendHouse", name := "meaning", desc := "(I)I" } : Jvm.MethodName) prog_1_method_29_code (2 : Nat) (Option.some Jvm.ClassFile.FieldType.int)) ∈ lw_all := lw_g (lw_at lw_m9 12 rfl) rfl
theorem q2105 : (Jvm.Cond.methodLink "SpendHouse" (288 : Nat) ({ cls := "SpendHouse$Node", name := "holds", desc := "()Z" } : Jvm.MethodName)) ∈ lw_all := lw_g (lw_at lw_m9 13 rfl) rfl
theorem q2106 : (Jvm.Cond.declares ({ cls := "SpendHouse$Node", name := "holds", desc := "()Z" } : Jvm.MethodName)) ∈ lw_tbl := lw_at lw_m9 14 rfl
theorem q2107 : (Jvm.Cond.sameMethod "SpendHouse$Node" "SpendHouse$Node" "holds" "()Z") ∈ lw_all := lw_g (lw_at lw_m9 15 rfl) rfl
theorem q2108 : (Jvm.Cond.selects "SpendHouse$AndOr" ({ cls := "SpendHouse$Node", name := "holds", desc := "()Z" } : Jvm.MethodName) ({ cls := "SpendHouse$AndOr", name := "holds", desc := "()Z" } : Jvm.MethodName)) ∈ lw_all := lw_g (lw_at lw_m9 16 rfl) rfl
theorem q2109 : (Jvm.Cond.instanceMethod ({ cls := "SpendHouse$AndOr", name := "holds", desc := "()Z" } : Jvm.MethodName)) ∈ lw_all := lw_g (lw_at lw_m9 17 rfl) rfl
theorem q2110 : (Jvm.Cond.code ({ cls := "SpendHouse$AndOr", name := "holds", desc := "()Z" } : Jvm.MethodName) prog_2_method_5_code (1 : Nat) (Option.some Jvm.ClassFile.FieldType.boolean)) ∈ lw_all := lw_g (lw_at lw_m9 18 rfl) rfl
theorem q2111 : (Jvm.Cond.methodLink "SpendHouse$AndOr" (103 : Nat) ({ cls := "SpendHouse$Node", name := "holds", desc := "()Z" } : Jvm.MethodName)) ∈ lw_all := lw_g (lw_at lw_m9 19 rfl) rfl
theorem q2112 : (Jvm.Cond.instanceMethod ({ cls := "SpendHouse$Image", name := "holds", desc := "()Z" } : Jvm.MethodName)) ∈ lw_all := lw_g (lw_at lw_m9 20 rfl) rfl
theorem q2113 : (Jvm.Cond.code ({ cls := "SpendHouse$Image", name := "holds", desc := "()Z" } : Jvm.MethodName) prog_6_method_5_code (1 : Nat) (Option.some Jvm.ClassFile.FieldType.boolean)) ∈ lw_all := lw_g (lw_at lw_m9 21 rfl) rfl
theorem q2114 : (Jvm.Cond.instanceMethod ({ cls := "SpendHouse$Key", name := "holds", desc := "()Z" } : Jvm.MethodName)) ∈ lw_all := lw_g (lw_at lw_m9 22 rfl) rfl
theorem q2115 : (Jvm.Cond.code ({ cls := "SpendHouse$Key", name := "holds", desc := "()Z" } : Jvm.MethodName) prog_8_method_5_code (1 : Nat) (Option.some Jvm.ClassFile.FieldType.boolean)) ∈ lw_all := lw_g (lw_at lw_m9 23 rfl) rfl
theorem q2116 : (Jvm.Cond.instanceMethod ({ cls := "SpendHouse$Lock", name := "holds", desc := "()Z" } : Jvm.MethodName)) ∈ lw_all := lw_g (lw_at lw_m9 24 rfl) rfl
theorem q2117 : (Jvm.Cond.code ({ cls := "SpendHouse$Lock", name := "holds", desc := "()Z" } : Jvm.MethodName) prog_10_method_5_code (1 : Nat) (Option.some Jvm.ClassFile.FieldType.boolean)) ∈ lw_all := lw_g (lw_at lw_m9 25 rfl) rfl
theorem q2118 : (Jvm.Cond.methodLinkNest "SpendHouse$Lock" (63 : Nat) ({ cls := "SpendHouse", name := "isOlder", desc := "(I)Z" } : Jvm.MethodName) "SpendHouse") ∈ lw_tbl := lw_at lw_m9 26 rfl
theorem q2119 : (Jvm.Cond.privateMethod ({ cls := "SpendHouse", name := "isOlder", desc := "(I)Z" } : Jvm.MethodName)) ∈ lw_tbl := lw_at lw_m9 27 rfl
theorem q2120 : (Jvm.Cond.instanceMethod ({ cls := "SpendHouse", name := "isOlder", desc := "(I)Z" } : Jvm.MethodName)) ∈ lw_all := lw_g (lw_at lw_m9 28 rfl) rfl
theorem q2121 : (Jvm.Cond.code ({ cls := "SpendHouse", name := "isOlder", desc := "(I)Z" } : Jvm.MethodName) prog_1_method_6_code (2 : Nat) (Option.some Jvm.ClassFile.FieldType.boolean)) ∈ lw_all := lw_g (lw_at lw_m9 29 rfl) rfl
theorem q2122 : (Jvm.Cond.constant "SpendHouse" (107 : Nat) (65535 : Int32)) ∈ lw_all := lw_g (lw_at lw_m9 30 rfl) rfl
theorem q2123 : (Jvm.Cond.methodLinkNest "SpendHouse$Lock" (66 : Nat) ({ cls := "SpendHouse", name := "isAfter", desc := "(I)Z" } : Jvm.MethodName) "SpendHouse") ∈ lw_tbl := lw_at lw_m9 31 rfl
theorem q2124 : (Jvm.Cond.privateMethod ({ cls := "SpendHouse", name := "isAfter", desc := "(I)Z" } : Jvm.MethodName)) ∈ lw_tbl := lw_at lw_m9 32 rfl
theorem q2125 : (Jvm.Cond.instanceMethod ({ cls := "SpendHouse", name := "isAfter", desc := "(I)Z" } : Jvm.MethodName)) ∈ lw_all := lw_g (lw_at lw_m9 33 rfl) rfl
theorem q2126 : (Jvm.Cond.code ({ cls := "SpendHouse", name := "isAfter", desc := "(I)Z" } : Jvm.MethodName) prog_1_method_5_code (2 : Nat) (Option.some Jvm.ClassFile.FieldType.boolean)) ∈ lw_all := lw_g (lw_at lw_m9 34 rfl) rfl
theorem q2127 : (Jvm.Cond.methodLink "SpendHouse" (94 : Nat) ({ cls := "SpendHouse", name := "isDate", desc := "(I)Z" } : Jvm.MethodName)) ∈ lw_all := lw_g (lw_at lw_m9 35 rfl) rfl
theorem q2128 : (Jvm.Cond.constant "SpendHouse" (103 : Nat) (-2147483648 : Int32)) ∈ lw_all := lw_g (lw_at lw_m9 36 rfl) rfl
theorem q2129 : (Jvm.Cond.instanceMethod ({ cls := "SpendHouse$Multi", name := "holds", desc := "()Z" } : Jvm.MethodName)) ∈ lw_all := lw_g (lw_at lw_m9 37 rfl) rfl
theorem q2130 : (Jvm.Cond.code ({ cls := "SpendHouse$Multi", name := "holds", desc := "()Z" } : Jvm.MethodName) prog_12_method_5_code (3 : Nat) (Option.some Jvm.ClassFile.FieldType.boolean)) ∈ lw_all := lw_g (lw_at lw_m9 38 rfl) rfl
theorem q2131 : (Jvm.Cond.instanceMethod ({ cls := "SpendHouse$Pair", name := "holds", desc := "()Z" } : Jvm.MethodName)) ∈ lw_all := lw_g (lw_at lw_m9 39 rfl) rfl
theorem q2132 : (Jvm.Cond.code ({ cls := "SpendHouse$Pair", name := "holds", desc := "()Z" } : Jvm.MethodName) prog_14_method_6_code (1 : Nat) (Option.some Jvm.ClassFile.FieldType.boolean)) ∈ lw_all := lw_g (lw_at lw_m9 40 rfl) rfl
theorem q2133 : (Jvm.Cond.methodLink "SpendHouse$Pair" (111 : Nat) ({ cls := "SpendHouse$Node", name := "holds", desc := "()Z" } : Jvm.MethodName)) ∈ lw_all := lw_g (lw_at lw_m9 41 rfl) rfl
theorem q2134 : (Jvm.Cond.instanceMethod ({ cls := "SpendHouse$Thresh", name := "holds", desc := "()Z" } : Jvm.MethodName)) ∈ lw_all := lw_g (lw_at lw_m9 42 rfl) rfl
theorem q2135 : (Jvm.Cond.code ({ cls := "SpendHouse$Thresh", name := "holds", desc := "()Z" } : Jvm.MethodName) prog_17_method_5_code (3 : Nat) (Option.some Jvm.ClassFile.FieldType.boolean)) ∈ lw_all := lw_g (lw_at lw_m9 43 rfl) rfl
theorem q2136 : (Jvm.Cond.methodLink "SpendHouse$Thresh" (96 : Nat) ({ cls := "SpendHouse$Node", name := "holds", desc := "()Z" } : Jvm.MethodName)) ∈ lw_all := lw_g (lw_at lw_m9 44 rfl) rfl
theorem q2137 : (Jvm.Cond.instanceMethod ({ cls := "SpendHouse$Truth", name := "holds", desc := "()Z" } : Jvm.MethodName)) ∈ lw_all := lw_g (lw_at lw_m9 45 rfl) rfl
theorem q2138 : (Jvm.Cond.code ({ cls := "SpendHouse$Truth", name := "holds", desc := "()Z" } : Jvm.MethodName) prog_18_method_5_code (1 : Nat) (Option.some Jvm.ClassFile.FieldType.boolean)) ∈ lw_all := lw_g (lw_at lw_m9 46 rfl) rfl
theorem q2139 : (Jvm.Cond.instanceMethod ({ cls := "SpendHouse$Wrapper", name := "holds", desc := "()Z" } : Jvm.MethodName)) ∈ lw_all := lw_g (lw_at lw_m9 47 rfl) rfl
theorem q2140 : (Jvm.Cond.code ({ cls := "SpendHouse$Wrapper", name := "holds", desc := "()Z" } : Jvm.MethodName) prog_21_method_7_code (1 : Nat) (Option.some Jvm.ClassFile.FieldType.boolean)) ∈ lw_all := lw_g (lw_at lw_m9 48 rfl) rfl
theorem q2141 : (Jvm.Cond.methodLink "SpendHouse$Wrapper" (102 : Nat) ({ cls := "SpendHouse$Node", name := "holds", desc := "()Z" } : Jvm.MethodName)) ∈ lw_all := lw_g (lw_at lw_m9 49 rfl) rfl
theorem q2142 : (Jvm.Cond.selects "SpendHouse$Image" ({ cls := "SpendHouse$Node", name := "holds", desc := "()Z" } : Jvm.MethodName) ({ cls := "SpendHouse$Image", name := "holds", desc := "()Z" } : Jvm.MethodName)) ∈ lw_all := lw_g (lw_at lw_m9 50 rfl) rfl
theorem q2143 : (Jvm.Cond.selects "SpendHouse$Key" ({ cls := "SpendHouse$Node", name := "holds", desc := "()Z" } : Jvm.MethodName) ({ cls := "SpendHouse$Key", name := "holds", desc := "()Z" } : Jvm.MethodName)) ∈ lw_all := lw_g (lw_at lw_m9 51 rfl) rfl
theorem q2144 : (Jvm.Cond.selects "SpendHouse$Lock" ({ cls := "SpendHouse$Node", name := "holds", desc := "()Z" } : Jvm.MethodName) ({ cls := "SpendHouse$Lock", name := "holds", desc := "()Z" } : Jvm.MethodName)) ∈ lw_all := lw_g (lw_at lw_m9 52 rfl) rfl
theorem q2145 : (Jvm.Cond.selects "SpendHouse$Multi" ({ cls := "SpendHouse$Node", name := "holds", desc := "()Z" } : Jvm.MethodName) ({ cls := "SpendHouse$Multi", name := "holds", desc := "()Z" } : Jvm.MethodName)) ∈ lw_all := lw_g (lw_at lw_m9 53 rfl) rfl
theorem q2146 : (Jvm.Cond.selects "SpendHouse$Pair" ({ cls := "SpendHouse$Node", name := "holds", desc := "()Z" } : Jvm.MethodName) ({ cls := "SpendHouse$Pair", name := "holds", desc := "()Z" } : Jvm.MethodName)) ∈ lw_all := lw_g (lw_at lw_m9 54 rfl) rfl
theorem q2147 : (Jvm.Cond.selects "SpendHouse$Thresh" ({ cls := "SpendHouse$Node", name := "holds", desc := "()Z" } : Jvm.MethodName) ({ cls := "SpendHouse$Thresh", name := "holds", desc := "()Z" } : Jvm.MethodName)) ∈ lw_all := lw_g (lw_at lw_m9 55 rfl) rfl
theorem q2148 : (Jvm.Cond.selects "SpendHouse$Truth" ({ cls := "SpendHouse$Node", name := "holds", desc := "()Z" } : Jvm.MethodName) ({ cls := "SpendHouse$Truth", name := "holds", desc := "()Z" } : Jvm.MethodName)) ∈ lw_all := lw_g (lw_at lw_m9 56 rfl) rfl
theorem q2149 : (Jvm.Cond.selects "SpendHouse$Wrapper" ({ cls := "SpendHouse$Node", name := "holds", desc := "()Z" } : Jvm.MethodName) ({ cls := "SpendHouse$Wrapper", name := "holds", desc := "()Z" } : Jvm.MethodName)) ∈ lw_all := lw_g (lw_at lw_m9 57 rfl) rfl
theorem q2150 : (Jvm.Cond.methodLink "SpendHouse" (291 : Nat) ({ cls := "SpendHouse$Policy", name := "holds", desc := "()Z" } : Jvm.MethodName)) ∈ lw_all := lw_g (lw_at lw_m9 58 rfl) rfl
theorem q2151 : (Jvm.Cond.instanceMethod ({ cls := "SpendHouse$Policy", name := "holds", desc := "()Z" } : Jvm.MethodName)) ∈ lw_all := lw_g (lw_at lw_m9 59 rfl) rfl
theorem q2152 : (Jvm.Cond.selects "SpendHouse$Policy" ({ cls := "SpendHouse$Policy", name := "holds", desc := "()Z" } : Jvm.MethodName) ({ cls := "SpendHouse$Policy", name := "holds", desc := "()Z" } : Jvm.MethodName)) ∈ lw_all := lw_g (lw_at lw_m9 60 rfl) rfl
theorem q2153 : (Jvm.Cond.code ({ cls := "SpendHouse$Policy", name := "holds", desc := "()Z" } : Jvm.MethodName) prog_15_method_3_code (3 : Nat) (Option.some Jvm.ClassFile.FieldType.boolean)) ∈ lw_all := lw_g (lw_at lw_m9 61 rfl) rfl
theorem q2154 : (Jvm.Cond.methodLink "SpendHouse$Policy" (33 : Nat) ({ cls := "SpendHouse$Node", name := "holds", desc := "()Z" } : Jvm.MethodName)) ∈ lw_all := lw_g (lw_at lw_m9 62 rfl) rfl
theorem q2155 : (Jvm.Cond.methodLink "SpendHouse$Policy" (39 : Nat) ({ cls := "SpendHouse$Policy", name := "holds", desc := "()Z" } : Jvm.MethodName)) ∈ lw_all := lw_g (lw_at lw_m9 63 rfl) rfl
theorem q2156 : (Jvm.Cond.methodLink "SpendHouseLaw" (70 : Nat) ({ cls := "SpendHouse", name := "satisfy", desc := "()I" } : Jvm.MethodName)) ∈ lw_all := lw_g (lw_at lw_m9 64 rfl) rfl
theorem q2157 : (Jvm.Cond.instanceMethod ({ cls := "SpendHouse", name := "satisfy", desc := "()I" } : Jvm.MethodName)) ∈ lw_all := lw_g (lw_at lw_m9 65 rfl) rfl
theorem q2158 : (Jvm.Cond.selects "SpendHouse" ({ cls := "SpendHouse", name := "satisfy", desc := "()I" } : Jvm.MethodName) ({ cls := "SpendHouse", name := "satisfy", desc := "()I" } : Jvm.MethodName)) ∈ lw_all := lw_g (lw_at lw_m9 66 rfl) rfl
theorem q2159 : (Jvm.Cond.code ({ cls := "SpendHouse", name := "satisfy", desc := "()I" } : Jvm.MethodName) prog_1_method_33_code (2 : Nat) (Option.some Jvm.ClassFile.FieldType.int)) ∈ lw_all := lw_g (lw_at lw_m9 67 rfl) rfl
theorem q2160 : (Jvm.Cond.methodLink "SpendHouse" (333 : Nat) ({ cls := "SpendHouse$Node", name := "forget", desc := "()V" } : Jvm.MethodName)) ∈ lw_all := lw_g (lw_at lw_m9 68 rfl) rfl
theorem q2161 : (Jvm.Cond.instanceMethod ({ cls := "SpendHouse$Node", name := "forget", desc := "()V" } : Jvm.MethodName)) ∈ lw_all := lw_g (lw_at lw_m9 69 rfl) rfl
theorem q2162 : (Jvm.Cond.sameMethod "SpendHouse$Node" "SpendHouse$Node" "forget" "()V") ∈ lw_all := lw_g (lw_at lw_m9 70 rfl) rfl
theorem q2163 : (Jvm.Cond.selects "SpendHouse$AndOr" ({ cls := "SpendHouse$Node", name := "forget", desc := "()V" } : Jvm.MethodName) ({ cls := "SpendHouse$AndOr", name := "forget", desc := "()V" } : Jvm.MethodName)) ∈ lw_all := lw_g (lw_at lw_m9 71 rfl) rfl
theorem q2164 : (Jvm.Cond.instanceMethod ({ cls := "SpendHouse$AndOr", name := "forget", desc := "()V" } : Jvm.MethodName)) ∈ lw_all := lw_g (lw_at lw_m9 72 rfl) rfl
theorem q2165 : (Jvm.Cond.code ({ cls := "SpendHouse$AndOr", name := "forget", desc := "()V" } : Jvm.MethodName) prog_2_method_11_code (1 : Nat) (Option.none : Option Jvm.ClassFile.FieldType)) ∈ lw_all := lw_g (lw_at lw_m9 73 rfl) rfl
theorem q2166 : (Jvm.Cond.methodLink "SpendHouse$AndOr" (138 : Nat) ({ cls := "SpendHouse$Node", name := "forget", desc := "()V" } : Jvm.MethodName)) ∈ lw_all := lw_g (lw_at lw_m9 74 rfl) rfl
theorem q2167 : (Jvm.Cond.code ({ cls := "SpendHouse$Node", name := "forget", desc := "()V" } : Jvm.MethodName) prog_13_method_21_code (1 : Nat) (Option.none : Option Jvm.ClassFile.FieldType)) ∈ lw_all := lw_g (lw_at lw_m9 75 rfl) rfl
theorem q2168 : (Jvm.Cond.instanceMethod ({ cls := "SpendHouse$Pair", name := "forget", desc := "()V" } : Jvm.MethodName)) ∈ lw_all := lw_g (lw_at lw_m9 76 rfl) rfl
theorem q2169 : (Jvm.Cond.code ({ cls := "SpendHouse$Pair", name := "forget", desc := "()V" } : Jvm.MethodName) prog_14_method_13_code (1 : Nat) (Option.none : Option Jvm.ClassFile.FieldType)) ∈ lw_all := lw_g (lw_at lw_m9 77 rfl) rfl
theorem q2170 : (Jvm.Cond.methodLink "SpendHouse$Pair" (158 : Nat) ({ cls := "SpendHouse$Node", name := "forget", desc := "()V" } : Jvm.MethodName)) ∈ lw_all := lw_g (lw_at lw_m9 78 rfl) rfl
theorem q2171 : (Jvm.Cond.instanceMethod ({ cls := "SpendHouse$Thresh", name := "forget", desc := "()V" } : Jvm.MethodName)) ∈ lw_all := lw_g (lw_at lw_m9 79 rfl) rfl
theorem q2172 : (Jvm.Cond.code ({ cls := "SpendHouse$Thresh", name := "forget", desc := "()V" } : Jvm.MethodName) prog_17_method_12_code (2 : Nat) (Option.none : Option Jvm.ClassFile.FieldType)) ∈ lw_all := lw_g (lw_at lw_m9 80 rfl) rfl
theorem q2173 : (Jvm.Cond.methodLink "SpendHouse$Thresh" (141 : Nat) ({ cls := "SpendHouse$Node", name := "forget", desc := "()V" } : Jvm.MethodName)) ∈ lw_all := lw_g (lw_at lw_m9 81 rfl) rfl
theorem q2174 : (Jvm.Cond.instanceMethod ({ cls := "SpendHouse$Wrapper", name := "forget", desc := "()V" } : Jvm.MethodName)) ∈ lw_all := lw_g (lw_at lw_m9 82 rfl) rfl
theorem q2175 : (Jvm.Cond.code ({ cls := "SpendHouse$Wrapper", name := "forget", desc := "()V" } : Jvm.MethodName) prog_21_method_13_code (1 : Nat) (Option.none : Option Jvm.ClassFile.FieldType)) ∈ lw_all := lw_g (lw_at lw_m9 83 rfl) rfl
theorem q2176 : (Jvm.Cond.methodLink "SpendHouse$Wrapper" (147 : Nat) ({ cls := "SpendHouse$Node", name := "forget", desc := "()V" } : Jvm.MethodName)) ∈ lw_all := lw_g (lw_at lw_m9 84 rfl) rfl
theorem q2177 : (Jvm.Cond.selects "SpendHouse$Image" ({ cls := "SpendHouse$Node", name := "forget", desc := "()V" } : Jvm.MethodName) ({ cls := "SpendHouse$Node", name := "forget", desc := "()V" } : Jvm.MethodName)) ∈ lw_all := lw_g (lw_at lw_m9 85 rfl) rfl
theorem q2178 : (Jvm.Cond.selects "SpendHouse$Key" ({ cls := "SpendHouse$Node", name := "forget", desc := "()V" } : Jvm.MethodName) ({ cls := "SpendHouse$Node", name := "forget", desc := "()V" } : Jvm.MethodName)) ∈ lw_all := lw_g (lw_at lw_m9 86 rfl) rfl
theorem q2179 : (Jvm.Cond.selects "SpendHouse$Lock" ({ cls := "SpendHouse$Node", name := "forget", desc := "()V" } : Jvm.MethodName) ({ cls := "SpendHouse$Node", name := "forget", desc := "()V" } : Jvm.MethodName)) ∈ lw_all := lw_g (lw_at lw_m9 87 rfl) rfl
theorem q2180 : (Jvm.Cond.selects "SpendHouse$Multi" ({ cls := "SpendHouse$Node", name := "forget", desc := "()V" } : Jvm.MethodName) ({ cls := "SpendHouse$Node", name := "forget", desc := "()V" } : Jvm.MethodName)) ∈ lw_all := lw_g (lw_at lw_m9 88 rfl) rfl
theorem q2181 : (Jvm.Cond.selects "SpendHouse$Pair" ({ cls := "SpendHouse$Node", name := "forget", desc := "()V" } : Jvm.MethodName) ({ cls := "SpendHouse$Pair", name := "forget", desc := "()V" } : Jvm.MethodName)) ∈ lw_all := lw_g (lw_at lw_m9 89 rfl) rfl
theorem q2182 : (Jvm.Cond.selects "SpendHouse$Thresh" ({ cls := "SpendHouse$Node", name := "forget", desc := "()V" } : Jvm.MethodName) ({ cls := "SpendHouse$Thresh", name := "forget", desc := "()V" } : Jvm.MethodName)) ∈ lw_all := lw_g (lw_at lw_m9 90 rfl) rfl
theorem q2183 : (Jvm.Cond.selects "SpendHouse$Truth" ({ cls := "SpendHouse$Node", name := "forget", desc := "()V" } : Jvm.MethodName) ({ cls := "SpendHouse$Node", name := "forget", desc := "()V" } : Jvm.MethodName)) ∈ lw_all := lw_g (lw_at lw_m9 91 rfl) rfl
theorem q2184 : (Jvm.Cond.selects "SpendHouse$Wrapper" ({ cls := "SpendHouse$Node", name := "forget", desc := "()V" } : Jvm.MethodName) ({ cls := "SpendHouse$Wrapper", name := "forget", desc := "()V" } : Jvm.MethodName)) ∈ lw_all := lw_g (lw_at lw_m9 92 rfl) rfl
theorem q2185 : (Jvm.Cond.methodLink "SpendHouse" (336 : Nat) ({ cls := "SpendHouse$Node", name := "yes", desc := "(LSpendHouse$Ways;)LSpendHouse$Way;" } : Jvm.MethodName)) ∈ lw_all := lw_g (lw_at lw_m9 93 rfl) rfl
theorem q2186 : (Jvm.Cond.instanceMethod ({ cls := "SpendHouse$Node", name := "yes", desc := "(LSpendHouse$Ways;)LSpendHouse$Way;" } : Jvm.MethodName)) ∈ lw_all := lw_g (lw_at lw_m9 94 rfl) rfl
theorem q2187 : (Jvm.Cond.sameMethod "SpendHouse$Node" "SpendHouse$Node" "yes" "(LSpendHouse$Ways;)LSpendHouse$Way;") ∈ lw_all := lw_g (lw_at lw_m9 95 rfl) rfl
theorem q2188 : (Jvm.Cond.selects "SpendHouse$AndOr" ({ cls := "SpendHouse$Node", name := "yes", desc := "(LSpendHouse$Ways;)LSpendHouse$Way;" } : Jvm.MethodName) ({ cls := "SpendHouse$Node", name := "yes", desc := "(LSpendHouse$Ways;)LSpendHouse$Way;" } : Jvm.MethodName)) ∈ lw_all := lw_g (lw_at lw_m9 96 rfl) rfl
theorem q2189 : (Jvm.Cond.selects "SpendHouse$Image" ({ cls := "SpendHouse$Node", name := "yes", desc := "(LSpendHouse$Ways;)LSpendHouse$Way;" } : Jvm.MethodName) ({ cls := "SpendHouse$Node", name := "yes", desc := "(LSpendHouse$Ways;)LSpendHouse$Way;" } : Jvm.MethodName)) ∈ lw_all := lw_g (lw_at lw_m9 97 rfl) rfl
theorem q2190 : (Jvm.Cond.selects "SpendHouse$Key" ({ cls := "SpendHouse$Node", name := "yes", desc := "(LSpendHouse$Ways;)LSpendHouse$Way;" } : Jvm.MethodName) ({ cls := "SpendHouse$Node", name := "yes", desc := "(LSpendHouse$Ways;)LSpendHouse$Way;" } : Jvm.MethodName)) ∈ lw_all := lw_g (lw_at lw_m9 98 rfl) rfl
theorem q2191 : (Jvm.Cond.selects "SpendHouse$Lock" ({ cls := "SpendHouse$Node", name := "yes", desc := "(LSpendHouse$Ways;)LSpendHouse$Way;" } : Jvm.MethodName) ({ cls := "SpendHouse$Node", name := "yes", desc := "(LSpendHouse$Ways;)LSpendHouse$Way;" } : Jvm.MethodName)) ∈ lw_all := lw_g (lw_at lw_m9 99 rfl) rfl
theorem q2192 : (Jvm.Cond.selects "SpendHouse$Multi" ({ cls := "SpendHouse$Node", name := "yes", desc := "(LSpendHouse$Ways;)LSpendHouse$Way;" } : Jvm.MethodName) ({ cls := "SpendHouse$Node", name := "yes", desc := "(LSpendHouse$Ways;)LSpendHouse$Way;" } : Jvm.MethodName)) ∈ lw_all := lw_g (lw_at lw_m9 100 rfl) rfl
theorem q2193 : (Jvm.Cond.selects "SpendHouse$Pair" ({ cls := "SpendHouse$Node", name := "yes", desc := "(LSpendHouse$Ways;)LSpendHouse$Way;" } : Jvm.MethodName) ({ cls := "SpendHouse$Node", name := "yes", desc := "(LSpendHouse$Ways;)LSpendHouse$Way;" } : Jvm.MethodName)) ∈ lw_all := lw_g (lw_at lw_m9 101 rfl) rfl
theorem q2194 : (Jvm.Cond.selects "SpendHouse$Thresh" ({ cls := "SpendHouse$Node", name := "yes", desc := "(LSpendHouse$Ways;)LSpendHouse$Way;" } : Jvm.MethodName) ({ cls := "SpendHouse$Node", name := "yes", desc := "(LSpendHouse$Ways;)LSpendHouse$Way;" } : Jvm.MethodName)) ∈ lw_all := lw_g (lw_at lw_m9 102 rfl) rfl
theorem q2195 : (Jvm.Cond.selects "SpendHouse$Truth" ({ cls := "SpendHouse$Node", name := "yes", desc := "(LSpendHouse$Ways;)LSpendHouse$Way;" } : Jvm.MethodName) ({ cls := "SpendHouse$Node", name := "yes", desc := "(LSpendHouse$Ways;)LSpendHouse$Way;" } : Jvm.MethodName)) ∈ lw_all := lw_g (lw_at lw_m9 103 rfl) rfl
theorem q2196 : (Jvm.Cond.selects "SpendHouse$Wrapper" ({ cls := "SpendHouse$Node", name := "yes", desc := "(LSpendHouse$Ways;)LSpendHouse$Way;" } : Jvm.MethodName) ({ cls := "SpendHouse$Node", name := "yes", desc := "(LSpendHouse$Ways;)LSpendHouse$Way;" } : Jvm.MethodName)) ∈ lw_all := lw_g (lw_at lw_m9 104 rfl) rfl
theorem q2197 : (Jvm.Cond.code ({ cls := "SpendHouse$Node", name := "yes", desc := "(LSpendHouse$Ways;)LSpendHouse$Way;" } : Jvm.MethodName) prog_13_method_19_code (2 : Nat) (Option.some (Jvm.ClassFile.FieldType.object "SpendHouse$Way"))) ∈ lw_all := lw_g (lw_at lw_m9 105 rfl) rfl
theorem q2198 : (Jvm.Cond.methodLink "SpendHouse$Node" (69 : Nat) ({ cls := "SpendHouse$Node", name := "satisfied", desc := "(LSpendHouse$Ways;)LSpendHouse$Way;" } : Jvm.MethodName)) ∈ lw_all := lw_g (lw_at lw_m9 106 rfl) rfl
theorem q2199 : (Jvm.Cond.declares ({ cls := "SpendHouse$Node", name := "satisfied", desc := "(LSpendHouse$Ways;)LSpendHouse$Way;" } : Jvm.MethodName)) ∈ lw_tbl := lw_at lw_m9 107 rfl
theorem q2200 : (Jvm.Cond.sameMethod "SpendHouse$Node" "SpendHouse$Node" "satisfied" "(LSpendHouse$Ways;)LSpendHouse$Way;") ∈ lw_all := lw_g (lw_at lw_m9 108 rfl) rfl
theorem q2201 : (Jvm.Cond.selects "SpendHouse$AndOr" ({ cls := "SpendHouse$Node", name := "satisfied", desc := "(LSpendHouse$Ways;)LSpendHouse$Way;" } : Jvm.MethodName) ({ cls := "SpendHouse$AndOr", name := "satisfied", desc := "(LSpendHouse$Ways;)LSpendHouse$Way;" } : Jvm.MethodName)) ∈ lw_all := lw_g (lw_at lw_m9 109 rfl) rfl
theorem q2202 : (Jvm.Cond.instanceMethod ({ cls := "SpendHouse$AndOr", name := "satisfied", desc := "(LSpendHouse$Ways;)LSpendHouse$Way;" } : Jvm.MethodName)) ∈ lw_all := lw_g (lw_at lw_m9 110 rfl) rfl
theorem q2203 : (Jvm.Cond.code ({ cls := "SpendHouse$AndOr", name := "satisfied", desc := "(LSpendHouse$Ways;)LSpendHouse$Way;" } : Jvm.MethodName) prog_2_method_6_code (2 : Nat) (Option.some (Jvm.ClassFile.FieldType.object "SpendHouse$Way"))) ∈ lw_all := lw_g (lw_at lw_m9 111 rfl) rfl
theorem q2204 : (Jvm.Cond.methodLink "SpendHouse$AndOr" (105 : Nat) ({ cls := "SpendHouse$Node", name := "yes", desc := "(LSpendHouse$Ways;)LSpendHouse$Way;" } : Jvm.MethodName)) ∈ lw_all := lw_g (lw_at lw_m9 112 rfl) rfl
theorem q2205 : (Jvm.Cond.methodLink "SpendHouse$AndOr" (109 : Nat) ({ cls := "SpendHouse$Ways", name := "both", desc := "(LSpendHouse$Way;LSpendHouse$Way;)LSpendHouse$Way;" } : Jvm.MethodName)) ∈ lw_all := lw_g (lw_at lw_m9 113 rfl) rfl
theorem q2206 : (Jvm.Cond.instanceMethod ({ cls := "SpendHouse$Ways", name := "both", desc := "(LSpendHouse$Way;LSpendHouse$Way;)LSpendHouse$Way;" } : Jvm.MethodName)) ∈ lw_all := lw_g (lw_at lw_m9 114 rfl) rfl
theorem q2207 : (Jvm.Cond.selects "SpendHouse$Ways" ({ cls := "SpendHouse$Ways", name := "both", desc := "(LSpendHouse$Way;LSpendHouse$Way;)LSpendHouse$Way;" } : Jvm.MethodName) ({ cls := "SpendHouse$Ways", name := "both", desc := "(LSpendHouse$Way;LSpendHouse$Way;)LSpendHouse$Way;" } : Jvm.MethodName)) ∈ lw_all := lw_g (lw_at lw_m9 115 rfl) rfl
theorem q2208 : (Jvm.Cond.code ({ cls := "SpendHouse$Ways", name := "both", desc := "(LSpendHouse$Way;LSpendHouse$Way;)LSpendHouse$Way;" } : Jvm.MethodName) prog_20_method_5_code (4 : Nat) (Option.some (Jvm.ClassFile.FieldType.object "SpendHouse$Way"))) ∈ lw_all := lw_g (lw_at lw_m9 116 rfl) rfl
theorem q2209 : (Jvm.Cond.methodLink "SpendHouse$Ways" (48 : Nat) ({ cls := "SpendHouse$Ways", name := "next", desc := "(II)LSpendHouse$Way;" } : Jvm.MethodName)) ∈ lw_all := lw_g (lw_at lw_m9 117 rfl) rfl
theorem q2210 : (Jvm.Cond.privateMethod ({ cls := "SpendHouse$Ways", name := "next", desc := "(II)LSpendHouse$Way;" } : Jvm.MethodName)) ∈ lw_tbl := lw_at lw_m9 118 rfl
theorem q2211 : (Jvm.Cond.instanceMethod ({ cls := "SpendHouse$Ways", name := "next", desc := "(II)LSpendHouse$Way;" } : Jvm.MethodName)) ∈ lw_all := lw_g (lw_at lw_m9 119 rfl) rfl
theorem q2212 : (Jvm.Cond.code ({ cls := "SpendHouse$Ways", name := "next", desc := "(II)LSpendHouse$Way;" } : Jvm.MethodName) prog_20_method_2_code (4 : Nat) (Option.some (Jvm.ClassFile.FieldType.object "SpendHouse$Way"))) ∈ lw_all := lw_g (lw_at lw_m9 120 rfl) rfl
theorem q2213 : (Jvm.Cond.instantiable "SpendHouse$Way" (8 : Nat)) ∈ lw_all := lw_g (lw_at lw_m9 121 rfl) rfl
theorem q2214 : (Jvm.Cond.methodLinkNest "SpendHouse$Ways" (21 : Nat) ({ cls := "SpendHouse$Way", name := "<init>", desc := "()V" } : Jvm.MethodName) "SpendHouse") ∈ lw_tbl := lw_at lw_m9 122 rfl
theorem q2215 : (Jvm.Cond.instanceMethod ({ cls := "SpendHouse$Way", name := "<init>", desc := "()V" } : Jvm.MethodName)) ∈ lw_all := lw_g (lw_at lw_m9 123 rfl) rfl
theorem q2216 : (Jvm.Cond.code ({ cls := "SpendHouse$Way", name := "<init>", desc := "()V" } : Jvm.MethodName) prog_19_method_1_code (1 : Nat) (Option.none : Option Jvm.ClassFile.FieldType)) ∈ lw_all := lw_g (lw_at lw_m9 124 rfl) rfl
theorem q2217 : (Jvm.Cond.methodLink "SpendHouse$Way" (1 : Nat) ({ cls := "java/lang/Object", name := "<init>", desc := "()V" } : Jvm.MethodName)) ∈ lw_all := lw_g (lw_at lw_m9 125 rfl) rfl
theorem q2218 : (Jvm.Cond.fieldLinkNest "SpendHouse$Ways" (22 : Nat) "SpendHouse$Way" "kind" "I" "SpendHouse") ∈ lw_tbl := lw_at lw_m9 126 rfl
theorem q2219 : (Jvm.Cond.fieldLinkNest "SpendHouse" (295 : Nat) "SpendHouse$Way" "kind" "I" "SpendHouse") ∈ lw_tbl := lw_at lw_m9 127 rfl
theorem q2220 : (Jvm.Cond.fieldLinkNest "SpendHouse$Ways" (25 : Nat) "SpendHouse$Way" "number" "I" "SpendHouse") ∈ lw_tbl := lw_at lw_m9 128 rfl
theorem q2221 : (Jvm.Cond.fieldLinkNest "SpendHouse" (310 : Nat) "SpendHouse$Way" "number" "I" "SpendHouse") ∈ lw_tbl := lw_at lw_m9 129 rfl
theorem q2222 : (Jvm.Cond.fieldLinkNest "SpendHouse$Ways" (45 : Nat) "SpendHouse$Way" "cost" "I" "SpendHouse") ∈ lw_tbl := lw_at lw_m9 130 rfl
theorem q2223 : (Jvm.Cond.fieldLinkNest "SpendHouse$Ways" (28 : Nat) "SpendHouse$Way" "can" "Z" "SpendHouse") ∈ lw_tbl := lw_at lw_m9 131 rfl
theorem q2224 : (Jvm.Cond.fieldLinkNest "SpendHouse$Wrapper" (125 : Nat) "SpendHouse$Way" "can" "Z" "SpendHouse") ∈ lw_tbl := lw_at lw_m9 132 rfl
theorem q2225 : (Jvm.Cond.fieldLinkNest "SpendHouse" (340 : Nat) "SpendHouse$Way" "can" "Z" "SpendHouse") ∈ lw_tbl := lw_at lw_m9 133 rfl
theorem q2226 : (Jvm.Cond.fieldLinkNest "SpendHouse$Ways" (32 : Nat) "SpendHouse$Way" "bad" "Z" "SpendHouse") ∈ lw_tbl := lw_at lw_m9 134 rfl
theorem q2227 : (Jvm.Cond.fieldLinkNest "SpendHouse$Wrapper" (133 : Nat) "SpendHouse$Way" "bad" "Z" "SpendHouse") ∈ lw_tbl := lw_at lw_m9 135 rfl
theorem q2228 : (Jvm.Cond.fieldLinkNest "SpendHouse" (343 : Nat) "SpendHouse$Way" "bad" "Z" "SpendHouse") ∈ lw_tbl := lw_at lw_m9 136 rfl
theorem q2229 : (Jvm.Cond.fieldLinkNest "SpendHouse$Ways" (35 : Nat) "SpendHouse$Way" "signed" "Z" "SpendHouse") ∈ lw_tbl := lw_at lw_m9 137 rfl
theorem q2230 : (Jvm.Cond.fieldLinkNest "SpendHouse$Wrapper" (130 : Nat) "SpendHouse$Way" "signed" "Z" "SpendHouse") ∈ lw_tbl := lw_at lw_m9 138 rfl
theorem q2231 : (Jvm.Cond.fieldLinkNest "SpendHouse$Ways" (38 : Nat) "SpendHouse$Way" "low" "LSpendHouse$Way;" "SpendHouse") ∈ lw_tbl := lw_at lw_m9 139 rfl
theorem q2232 : (Jvm.Cond.fieldLinkNest "SpendHouse" (298 : Nat) "SpendHouse$Way" "low" "LSpendHouse$Way;" "SpendHouse") ∈ lw_tbl := lw_at lw_m9 140 rfl
theorem q2233 : (Jvm.Cond.fieldLinkNest "SpendHouse$Ways" (42 : Nat) "SpendHouse$Way" "high" "LSpendHouse$Way;" "SpendHouse") ∈ lw_tbl := lw_at lw_m9 141 rfl
theorem q2234 : (Jvm.Cond.fieldLinkNest "SpendHouse" (306 : Nat) "SpendHouse$Way" "high" "LSpendHouse$Way;" "SpendHouse") ∈ lw_tbl := lw_at lw_m9 142 rfl
theorem q2235 : (Jvm.Cond.lays "SpendHouse$Way" "SpendHouse$Way" "kind" "I") ∈ lw_all := lw_g (lw_at lw_m9 143 rfl) rfl
theorem q2237 : (Jvm.Cond.lays "SpendHouse$Way" "SpendHouse$Way" "number" "I") ∈ lw_all := lw_g (lw_at lw_m9 145 rfl) rfl
theorem q2239 : (Jvm.Cond.lays "SpendHouse$Way" "SpendHouse$Way" "cost" "I") ∈ lw_all := lw_g (lw_at lw_m9 147 rfl) rfl
theorem q2241 : (Jvm.Cond.lays "SpendHouse$Way" "SpendHouse$Way" "can" "Z") ∈ lw_all := lw_g (lw_at lw_m9 149 rfl) rfl
theorem q2243 : (Jvm.Cond.lays "SpendHouse$Way" "SpendHouse$Way" "bad" "Z") ∈ lw_all := lw_g (lw_at lw_m9 151 rfl) rfl
theorem q2245 : (Jvm.Cond.lays "SpendHouse$Way" "SpendHouse$Way" "signed" "Z") ∈ lw_all := lw_g (lw_at lw_m9 153 rfl) rfl
theorem q2247 : (Jvm.Cond.lays "SpendHouse$Way" "SpendHouse$Way" "low" "LSpendHouse$Way;") ∈ lw_all := lw_g (lw_at lw_m9 155 rfl) rfl
theorem q2249 : (Jvm.Cond.lays "SpendHouse$Way" "SpendHouse$Way" "high" "LSpendHouse$Way;") ∈ lw_all := lw_g (lw_at lw_m9 157 rfl) rfl
theorem q2251 : (Jvm.Cond.superclass "SpendHouse$Way" "java/lang/Object") ∈ lw_all := lw_g (lw_at lw_m9 159 rfl) rfl
theorem q2252 : (Jvm.Cond.methodLink "SpendHouse$AndOr" (115 : Nat) ({ cls := "SpendHouse$Node", name := "no", desc := "(LSpendHouse$Ways;)LSpendHouse$Way;" } : Jvm.MethodName)) ∈ lw_all := lw_g (lw_at lw_m9 160 rfl) rfl
theorem q2253 : (Jvm.Cond.instanceMethod ({ cls := "SpendHouse$Node", name := "no", desc := "(LSpendHouse$Ways;)LSpendHouse$Way;" } : Jvm.MethodName)) ∈ lw_all := lw_g (lw_at lw_m9 161 rfl) rfl
theorem q2254 : (Jvm.Cond.sameMethod "SpendHouse$Node" "SpendHouse$Node" "no" "(LSpendHouse$Ways;)LSpendHouse$Way;") ∈ lw_all := lw_g (lw_at lw_m9 162 rfl) rfl
theorem q2255 : (Jvm.Cond.selects "SpendHouse$AndOr" ({ cls := "SpendHouse$Node", name := "no", desc := "(LSpendHouse$Ways;)LSpendHouse$Way;" } : Jvm.MethodName) ({ cls := "SpendHouse$Node", name := "no", desc := "(LSpendHouse$Ways;)LSpendHouse$Way;" } : Jvm.MethodName)) ∈ lw_all := lw_g (lw_at lw_m9 163 rfl) rfl
theorem q2256 : (Jvm.Cond.selects "SpendHouse$Image" ({ cls := "SpendHouse$Node", name := "no", desc := "(LSpendHouse$Ways;)LSpendHouse$Way;" } : Jvm.MethodName) ({ cls := "SpendHouse$Node", name := "no", desc := "(LSpendHouse$Ways;)LSpendHouse$Way;" } : Jvm.MethodName)) ∈ lw_all := lw_g (lw_at lw_m9 164 rfl) rfl
theorem q2257 : (Jvm.Cond.selects "SpendHouse$Key" ({ cls := "SpendHouse$Node", name := "no", desc := "(LSpendHouse$Ways;)LSpendHouse$Way;" } : Jvm.MethodName) ({ cls := "SpendHouse$Node", name := "no", desc := "(LSpendHouse$Ways;)LSpendHouse$Way;" } : Jvm.MethodName)) ∈ lw_all := lw_g (lw_at lw_m9 165 rfl) rfl
theorem q2258 : (Jvm.Cond.selects "SpendHouse$Lock" ({ cls := "SpendHouse$Node", name := "no", desc := "(LSpendHouse$Ways;)LSpendHouse$Way;" } : Jvm.MethodName) ({ cls := "SpendHouse$Node", name := "no", desc := "(LSpendHouse$Ways;)LSpendHouse$Way;" } : Jvm.MethodName)) ∈ lw_all := lw_g (lw_at lw_m9 166 rfl) rfl
theorem q2259 : (Jvm.Cond.selects "SpendHouse$Multi" ({ cls := "SpendHouse$Node", name := "no", desc := "(LSpendHouse$Ways;)LSpendHouse$Way;" } : Jvm.MethodName) ({ cls := "SpendHouse$Node", name := "no", desc := "(LSpendHouse$Ways;)LSpendHouse$Way;" } : Jvm.MethodName)) ∈ lw_all := lw_g (lw_at lw_m9 167 rfl) rfl
theorem q2260 : (Jvm.Cond.selects "SpendHouse$Pair" ({ cls := "SpendHouse$Node", name := "no", desc := "(LSpendHouse$Ways;)LSpendHouse$Way;" } : Jvm.MethodName) ({ cls := "SpendHouse$Node", name := "no", desc := "(LSpendHouse$Ways;)LSpendHouse$Way;" } : Jvm.MethodName)) ∈ lw_all := lw_g (lw_at lw_m9 168 rfl) rfl
theorem q2261 : (Jvm.Cond.selects "SpendHouse$Thresh" ({ cls := "SpendHouse$Node", name := "no", desc := "(LSpendHouse$Ways;)LSpendHouse$Way;" } : Jvm.MethodName) ({ cls := "SpendHouse$Node", name := "no", desc := "(LSpendHouse$Ways;)LSpendHouse$Way;" } : Jvm.MethodName)) ∈ lw_all := lw_g (lw_at lw_m9 169 rfl) rfl
theorem q2262 : (Jvm.Cond.selects "SpendHouse$Truth" ({ cls := "SpendHouse$Node", name := "no", desc := "(LSpendHouse$Ways;)LSpendHouse$Way;" } : Jvm.MethodName) ({ cls := "SpendHouse$Node", name := "no", desc := "(LSpendHouse$Ways;)LSpendHouse$Way;" } : Jvm.MethodName)) ∈ lw_all := lw_g (lw_at lw_m9 170 rfl) rfl
theorem q2263 : (Jvm.Cond.selects "SpendHouse$Wrapper" ({ cls := "SpendHouse$Node", name := "no", desc := "(LSpendHouse$Ways;)LSpendHouse$Way;" } : Jvm.MethodName) ({ cls := "SpendHouse$Node", name := "no", desc := "(LSpendHouse$Ways;)LSpendHouse$Way;" } : Jvm.MethodName)) ∈ lw_all := lw_g (lw_at lw_m9 171 rfl) rfl
theorem q2264 : (Jvm.Cond.code ({ cls := "SpendHouse$Node", name := "no", desc := "(LSpendHouse$Ways;)LSpendHouse$Way;" } : Jvm.MethodName) prog_13_method_20_code (2 : Nat) (Option.some (Jvm.ClassFile.FieldType.object "SpendHouse$Way"))) ∈ lw_all := lw_g (lw_at lw_m9 172 rfl) rfl
theorem q2265 : (Jvm.Cond.methodLink "SpendHouse$Node" (76 : Nat) ({ cls := "SpendHouse$Node", name := "dissatisfied", desc := "(LSpendHouse$Ways;)LSpendHouse$Way;" } : Jvm.MethodName)) ∈ lw_all := lw_g (lw_at lw_m9 173 rfl) rfl
theorem q2266 : (Jvm.Cond.declares ({ cls := "SpendHouse$Node", name := "dissatisfied", desc := "(LSpendHouse$Ways;)LSpendHouse$Way;" } : Jvm.MethodName)) ∈ lw_tbl := lw_at lw_m9 174 rfl
theorem q2267 : (Jvm.Cond.sameMethod "SpendHouse$Node" "SpendHouse$Node" "dissatisfied" "(LSpendHouse$Ways;)LSpendHouse$Way;") ∈ lw_all := lw_g (lw_at lw_m9 175 rfl) rfl
theorem q2268 : (Jvm.Cond.selects "SpendHouse$AndOr" ({ cls := "SpendHouse$Node", name := "dissatisfied", desc := "(LSpendHouse$Ways;)LSpendHouse$Way;" } : Jvm.MethodName) ({ cls := "SpendHouse$AndOr", name := "dissatisfied", desc := "(LSpendHouse$Ways;)LSpendHouse$Way;" } : Jvm.MethodName)) ∈ lw_all := lw_g (lw_at lw_m9 176 rfl) rfl
theorem q2269 : (Jvm.Cond.instanceMethod ({ cls := "SpendHouse$AndOr", name := "dissatisfied", desc := "(LSpendHouse$Ways;)LSpendHouse$Way;" } : Jvm.MethodName)) ∈ lw_all := lw_g (lw_at lw_m9 177 rfl) rfl
theorem q2270 : (Jvm.Cond.code ({ cls := "SpendHouse$AndOr", name := "dissatisfied", desc := "(LSpendHouse$Ways;)LSpendHouse$Way;" } : Jvm.MethodName) prog_2_method_7_code (2 : Nat) (Option.some (Jvm.ClassFile.FieldType.object "SpendHouse$Way"))) ∈ lw_all := lw_g (lw_at lw_m9 178 rfl) rfl
theorem q2271 : (Jvm.Cond.selects "SpendHouse$Image" ({ cls := "SpendHouse$Node", name := "dissatisfied", desc := "(LSpendHouse$Ways;)LSpendHouse$Way;" } : Jvm.MethodName) ({ cls := "SpendHouse$Image", name := "dissatisfied", desc := "(LSpendHouse$Ways;)LSpendHouse$Way;" } : Jvm.MethodName)) ∈ lw_all := lw_g (lw_at lw_m9 179 rfl) rfl
theorem q2272 : (Jvm.Cond.instanceMethod ({ cls := "SpendHouse$Image", name := "dissatisfied", desc := "(LSpendHouse$Ways;)LSpendHouse$Way;" } : Jvm.MethodName)) ∈ lw_all := lw_g (lw_at lw_m9 180 rfl) rfl
theorem q2273 : (Jvm.Cond.code ({ cls := "SpendHouse$Image", name := "dissatisfied", desc := "(LSpendHouse$Ways;)LSpendHouse$Way;" } : Jvm.MethodName) prog_6_method_7_code (2 : Nat) (Option.some (Jvm.ClassFile.FieldType.object "SpendHouse$Way"))) ∈ lw_all := lw_g (lw_at lw_m9 181 rfl) rfl
theorem q2274 : (Jvm.Cond.methodLink "SpendHouse$Image" (81 : Nat) ({ cls := "SpendHouse$Ways", name := "one", desc := "(IIZ)LSpendHouse$Way;" } : Jvm.MethodName)) ∈ lw_all := lw_g (lw_at lw_m9 182 rfl) rfl
theorem q2275 : (Jvm.Cond.instanceMethod ({ cls := "SpendHouse$Ways", name := "one", desc := "(IIZ)LSpendHouse$Way;" } : Jvm.MethodName)) ∈ lw_all := lw_g (lw_at lw_m9 183 rfl) rfl
theorem q2276 : (Jvm.Cond.selects "SpendHouse$Ways" ({ cls := "SpendHouse$Ways", name := "one", desc := "(IIZ)LSpendHouse$Way;" } : Jvm.MethodName) ({ cls := "SpendHouse$Ways", name := "one", desc := "(IIZ)LSpendHouse$Way;" } : Jvm.MethodName)) ∈ lw_all := lw_g (lw_at lw_m9 184 rfl) rfl
theorem q2277 : (Jvm.Cond.code ({ cls := "SpendHouse$Ways", name := "one", desc := "(IIZ)LSpendHouse$Way;" } : Jvm.MethodName) prog_20_method_3_code (5 : Nat) (Option.some (Jvm.ClassFile.FieldType.object "SpendHouse$Way"))) ∈ lw_all := lw_g (lw_at lw_m9 185 rfl) rfl
theorem q2278 : (Jvm.Cond.selects "SpendHouse$Key" ({ cls := "SpendHouse$Node", name := "dissatisfied", desc := "(LSpendHouse$Ways;)LSpendHouse$Way;" } : Jvm.MethodName) ({ cls := "SpendHouse$Key", name := "dissatisfied", desc := "(LSpendHouse$Ways;)LSpendHouse$Way;" } : Jvm.MethodName)) ∈ lw_all := lw_g (lw_at lw_m9 186 rfl) rfl
theorem q2279 : (Jvm.Cond.instanceMethod ({ cls := "SpendHouse$Key", name := "dissatisfied", desc := "(LSpendHouse$Ways;)LSpendHouse$Way;" } : Jvm.MethodName)) ∈ lw_all := lw_g (lw_at lw_m9 187 rfl) rfl
theorem q2280 : (Jvm.Cond.code ({ cls := "SpendHouse$Key", name := "dissatisfied", desc := "(LSpendHouse$Ways;)LSpendHouse$Way;" } : Jvm.MethodName) prog_8_method_8_code (2 : Nat) (Option.some (Jvm.ClassFile.FieldType.object "SpendHouse$Way"))) ∈ lw_all := lw_g (lw_at lw_m9 188 rfl) rfl
theorem q2281 : (Jvm.Cond.methodLink "SpendHouse$Key" (72 : Nat) ({ cls := "SpendHouse$Ways", name := "one", desc := "(IIZ)LSpendHouse$Way;" } : Jvm.MethodName)) ∈ lw_all := lw_g (lw_at lw_m9 189 rfl) rfl
theorem q2282 : (Jvm.Cond.methodLink "SpendHouse$Key" (82 : Nat) ({ cls := "SpendHouse$Key", name := "with", desc := "(LSpendHouse$Way;LSpendHouse$Ways;)LSpendHouse$Way;" } : Jvm.MethodName)) ∈ lw_all := lw_g (lw_at lw_m9 190 rfl) rfl
theorem q2283 : (Jvm.Cond.privateMethod ({ cls := "SpendHouse$Key", name := "with", desc := "(LSpendHouse$Way;LSpendHouse$Ways;)LSpendHouse$Way;" } : Jvm.MethodName)) ∈ lw_tbl := lw_at lw_m9 191 rfl
theorem q2284 : (Jvm.Cond.instanceMethod ({ cls := "SpendHouse$Key", name := "with", desc := "(LSpendHouse$Way;LSpendHouse$Ways;)LSpendHouse$Way;" } : Jvm.MethodName)) ∈ lw_all := lw_g (lw_at lw_m9 192 rfl) rfl
theorem q2285 : (Jvm.Cond.code ({ cls := "SpendHouse$Key", name := "with", desc := "(LSpendHouse$Way;LSpendHouse$Ways;)LSpendHouse$Way;" } : Jvm.MethodName) prog_8_method_6_code (3 : Nat) (Option.some (Jvm.ClassFile.FieldType.object "SpendHouse$Way"))) ∈ lw_all := lw_g (lw_at lw_m9 193 rfl) rfl
theorem q2286 : (Jvm.Cond.methodLink "SpendHouse$Key" (78 : Nat) ({ cls := "SpendHouse$Ways", name := "both", desc := "(LSpendHouse$Way;LSpendHouse$Way;)LSpendHouse$Way;" } : Jvm.MethodName)) ∈ lw_all := lw_g (lw_at lw_m9 194 rfl) rfl
theorem q2287 : (Jvm.Cond.selects "SpendHouse$Lock" ({ cls := "SpendHouse$Node", name := "dissatisfied", desc := "(LSpendHouse$Ways;)LSpendHouse$Way;" } : Jvm.MethodName) ({ cls := "SpendHouse$Lock", name := "dissatisfied", desc := "(LSpendHouse$Ways;)LSpendHouse$Way;" } : Jvm.MethodName)) ∈ lw_all := lw_g (lw_at lw_m9 195 rfl) rfl
theorem q2288 : (Jvm.Cond.instanceMethod ({ cls := "SpendHouse$Lock", name := "dissatisfied", desc := "(LSpendHouse$Ways;)LSpendHouse$Way;" } : Jvm.MethodName)) ∈ lw_all := lw_g (lw_at lw_m9 196 rfl) rfl
theorem q2289 : (Jvm.Cond.code ({ cls := "SpendHouse$Lock", name := "dissatisfied", desc := "(LSpendHouse$Ways;)LSpendHouse$Way;" } : Jvm.MethodName) prog_10_method_7_code (2 : Nat) (Option.some (Jvm.ClassFile.FieldType.object "SpendHouse$Way"))) ∈ lw_all := lw_g (lw_at lw_m9 197 rfl) rfl
theorem q2290 : (Jvm.Cond.methodLink "SpendHouse$Lock" (79 : Nat) ({ cls := "SpendHouse$Ways", name := "never", desc := "()LSpendHouse$Way;" } : Jvm.MethodName)) ∈ lw_all := lw_g (lw_at lw_m9 198 rfl) rfl
theorem q2291 : (Jvm.Cond.instanceMethod ({ cls := "SpendHouse$Ways", name := "never", desc := "()LSpendHouse$Way;" } : Jvm.MethodName)) ∈ lw_all := lw_g (lw_at lw_m9 199 rfl) rfl
theorem q2292 : (Jvm.Cond.selects "SpendHouse$Ways" ({ cls := "SpendHouse$Ways", name := "never", desc := "()LSpendHouse$Way;" } : Jvm.MethodName) ({ cls := "SpendHouse$Ways", name := "never", desc := "()LSpendHouse$Way;" } : Jvm.MethodName)) ∈ lw_all := lw_g (lw_at lw_m9 200 rfl) rfl
theorem q2293 : (Jvm.Cond.code ({ cls := "SpendHouse$Ways", name := "never", desc := "()LSpendHouse$Way;" } : Jvm.MethodName) prog_20_method_4_code (1 : Nat) (Option.some (Jvm.ClassFile.FieldType.object "SpendHouse$Way"))) ∈ lw_all := lw_g (lw_at lw_m9 201 rfl) rfl
theorem q2294 : (Jvm.Cond.methodLink "SpendHouse$Ways" (52 : Nat) ({ cls := "SpendHouse$Ways", name := "one", desc := "(IIZ)LSpendHouse$Way;" } : Jvm.MethodName)) ∈ lw_all := lw_g (lw_at lw_m9 202 rfl) rfl
theorem q2295 : (Jvm.Cond.selects "SpendHouse$Multi" ({ cls := "SpendHouse$Node", name := "dissatisfied", desc := "(LSpendHouse$Ways;)LSpendHouse$Way;" } : Jvm.MethodName) ({ cls := "SpendHouse$Multi", name := "dissatisfied", desc := "(LSpendHouse$Ways;)LSpendHouse$Way;" } : Jvm.MethodName)) ∈ lw_all := lw_g (lw_at lw_m9 203 rfl) rfl
theorem q2296 : (Jvm.Cond.instanceMethod ({ cls := "SpendHouse$Multi", name := "dissatisfied", desc := "(LSpendHouse$Ways;)LSpendHouse$Way;" } : Jvm.MethodName)) ∈ lw_all := lw_g (lw_at lw_m9 204 rfl) rfl
theorem q2297 : (Jvm.Cond.code ({ cls := "SpendHouse$Multi", name := "dissatisfied", desc := "(LSpendHouse$Ways;)LSpendHouse$Way;" } : Jvm.MethodName) prog_12_method_7_code (4 : Nat) (Option.some (Jvm.ClassFile.FieldType.object "SpendHouse$Way"))) ∈ lw_all := lw_g (lw_at lw_m9 205 rfl) rfl
theorem q2298 : (Jvm.Cond.methodLink "SpendHouse$Multi" (76 : Nat) ({ cls := "SpendHouse$Ways", name := "one", desc := "(IIZ)LSpendHouse$Way;" } : Jvm.MethodName)) ∈ lw_all := lw_g (lw_at lw_m9 206 rfl) rfl
theorem q2299 : (Jvm.Cond.methodLink "SpendHouse$Multi" (82 : Nat) ({ cls := "SpendHouse$Ways", name := "both", desc := "(LSpendHouse$Way;LSpendHouse$Way;)LSpendHouse$Way;" } : Jvm.MethodName)) ∈ lw_all := lw_g (lw_at lw_m9 207 rfl) rfl
theorem q2300 : (Jvm.Cond.selects "SpendHouse$Pair" ({ cls := "SpendHouse$Node", name := "dissatisfied", desc := "(LSpendHouse$Ways;)LSpendHouse$Way;" } : Jvm.MethodName) ({ cls := "SpendHouse$Pair", name := "dissatisfied", desc := "(LSpendHouse$Ways;)LSpendHouse$Way;" } : Jvm.MethodName)) ∈ lw_all := lw_g (lw_at lw_m9 208 rfl) rfl
theorem q2301 : (Jvm.Cond.instanceMethod ({ cls := "SpendHouse$Pair", name := "dissatisfied", desc := "(LSpendHouse$Ways;)LSpendHouse$Way;" } : Jvm.MethodName)) ∈ lw_all := lw_g (lw_at lw_m9 209 rfl) rfl
theorem q2302 : (Jvm.Cond.code ({ cls := "SpendHouse$Pair", name := "dissatisfied", desc := "(LSpendHouse$Ways;)LSpendHouse$Way;" } : Jvm.MethodName) prog_14_method_9_code (2 : Nat) (Option.some (Jvm.ClassFile.FieldType.object "SpendHouse$Way"))) ∈ lw_all := lw_g (lw_at lw_m9 210 rfl) rfl
theorem q2303 : (Jvm.Cond.methodLink "SpendHouse$Pair" (137 : Nat) ({ cls := "SpendHouse$Ways", name := "never", desc := "()LSpendHouse$Way;" } : Jvm.MethodName)) ∈ lw_all := lw_g (lw_at lw_m9 211 rfl) rfl
theorem q2304 : (Jvm.Cond.methodLink "SpendHouse$Pair" (127 : Nat) ({ cls := "SpendHouse$Node", name := "no", desc := "(LSpendHouse$Ways;)LSpendHouse$Way;" } : Jvm.MethodName)) ∈ lw_all := lw_g (lw_at lw_m9 212 rfl) rfl
theorem q2305 : (Jvm.Cond.methodLink "SpendHouse$Pair" (133 : Nat) ({ cls := "SpendHouse$Pair", name := "under", desc := "(LSpendHouse$Way;ILSpendHouse$Ways;)LSpendHouse$Way;" } : Jvm.MethodName)) ∈ lw_all := lw_g (lw_at lw_m9 213 rfl) rfl
theorem q2306 : (Jvm.Cond.privateMethod ({ cls := "SpendHouse$Pair", name := "under", desc := "(LSpendHouse$Way;ILSpendHouse$Ways;)LSpendHouse$Way;" } : Jvm.MethodName)) ∈ lw_tbl := lw_at lw_m9 214 rfl
theorem q2307 : (Jvm.Cond.instanceMethod ({ cls := "SpendHouse$Pair", name := "under", desc := "(LSpendHouse$Way;ILSpendHouse$Ways;)LSpendHouse$Way;" } : Jvm.MethodName)) ∈ lw_all := lw_g (lw_at lw_m9 215 rfl) rfl
theorem q2308 : (Jvm.Cond.code ({ cls := "SpendHouse$Pair", name := "under", desc := "(LSpendHouse$Way;ILSpendHouse$Ways;)LSpendHouse$Way;" } : Jvm.MethodName) prog_14_method_7_code (4 : Nat) (Option.some (Jvm.ClassFile.FieldType.object "SpendHouse$Way"))) ∈ lw_all := lw_g (lw_at lw_m9 216 rfl) rfl
theorem q2309 : (Jvm.Cond.methodLink "SpendHouse$Pair" (113 : Nat) ({ cls := "SpendHouse$Ways", name := "one", desc := "(IIZ)LSpendHouse$Way;" } : Jvm.MethodName)) ∈ lw_all := lw_g (lw_at lw_m9 217 rfl) rfl
theorem q2310 : (Jvm.Cond.methodLink "SpendHouse$Pair" (119 : Nat) ({ cls := "SpendHouse$Ways", name := "both", desc := "(LSpendHouse$Way;LSpendHouse$Way;)LSpendHouse$Way;" } : Jvm.MethodName)) ∈ lw_all := lw_g (lw_at lw_m9 218 rfl) rfl
theorem q2311 : (Jvm.Cond.methodLink "SpendHouse$Pair" (130 : Nat) ({ cls := "SpendHouse$Ways", name := "or", desc := "(LSpendHouse$Way;LSpendHouse$Way;)LSpendHouse$Way;" } : Jvm.MethodName)) ∈ lw_all := lw_g (lw_at lw_m9 219 rfl) rfl
theorem q2312 : (Jvm.Cond.instanceMethod ({ cls := "SpendHouse$Ways", name := "or", desc := "(LSpendHouse$Way;LSpendHouse$Way;)LSpendHouse$Way;" } : Jvm.MethodName)) ∈ lw_all := lw_g (lw_at lw_m9 220 rfl) rfl
theorem q2313 : (Jvm.Cond.selects "SpendHouse$Ways" ({ cls := "SpendHouse$Ways", name := "or", desc := "(LSpendHouse$Way;LSpendHouse$Way;)LSpendHouse$Way;" } : Jvm.MethodName) ({ cls := "SpendHouse$Ways", name := "or", desc := "(LSpendHouse$Way;LSpendHouse$Way;)LSpendHouse$Way;" } : Jvm.MethodName)) ∈ lw_all := lw_g (lw_at lw_m9 221 rfl) rfl
theorem q2314 : (Jvm.Cond.code ({ cls := "SpendHouse$Ways", name := "or", desc := "(LSpendHouse$Way;LSpendHouse$Way;)LSpendHouse$Way;" } : Jvm.MethodName) prog_20_method_6_code (5 : Nat) (Option.some (Jvm.ClassFile.FieldType.object "SpendHouse$Way"))) ∈ lw_all := lw_g (lw_at lw_m9 222 rfl) rfl
theorem q2315 : (Jvm.Cond.methodLink "SpendHouse$Ways" (56 : Nat) ({ cls := "SpendHouse$Ways", name := "both", desc := "(LSpendHouse$Way;LSpendHouse$Way;)LSpendHouse$Way;" } : Jvm.MethodName)) ∈ lw_all := lw_g (lw_at lw_m9 223 rfl) rfl
theorem q2316 : (Jvm.Cond.selects "SpendHouse$Thresh" ({ cls := "SpendHouse$Node", name := "dissatisfied", desc := "(LSpendHouse$Ways;)LSpendHouse$Way;" } : Jvm.MethodName) ({ cls := "SpendHouse$Thresh", name := "dissatisfied", desc := "(LSpendHouse$Ways;)LSpendHouse$Way;" } : Jvm.MethodName)) ∈ lw_all := lw_g (lw_at lw_m9 224 rfl) rfl
theorem q2317 : (Jvm.Cond.instanceMethod ({ cls := "SpendHouse$Thresh", name := "dissatisfied", desc := "(LSpendHouse$Ways;)LSpendHouse$Way;" } : Jvm.MethodName)) ∈ lw_all := lw_g (lw_at lw_m9 225 rfl) rfl
theorem q2318 : (Jvm.Cond.code ({ cls := "SpendHouse$Thresh", name := "dissatisfied", desc := "(LSpendHouse$Ways;)LSpendHouse$Way;" } : Jvm.MethodName) prog_17_method_8_code (2 : Nat) (Option.some (Jvm.ClassFile.FieldType.object "SpendHouse$Way"))) ∈ lw_all := lw_g (lw_at lw_m9 226 rfl) rfl
theorem q2319 : (Jvm.Cond.methodLink "SpendHouse$Thresh" (120 : Nat) ({ cls := "SpendHouse$Thresh", name := "chosen", desc := "(ILSpendHouse$Ways;)LSpendHouse$Way;" } : Jvm.MethodName)) ∈ lw_all := lw_g (lw_at lw_m9 227 rfl) rfl
theorem q2320 : (Jvm.Cond.privateMethod ({ cls := "SpendHouse$Thresh", name := "chosen", desc := "(ILSpendHouse$Ways;)LSpendHouse$Way;" } : Jvm.MethodName)) ∈ lw_tbl := lw_at lw_m9 228 rfl
theorem q2321 : (Jvm.Cond.instanceMethod ({ cls := "SpendHouse$Thresh", name := "chosen", desc := "(ILSpendHouse$Ways;)LSpendHouse$Way;" } : Jvm.MethodName)) ∈ lw_all := lw_g (lw_at lw_m9 229 rfl) rfl
theorem q2322 : (Jvm.Cond.code ({ cls := "SpendHouse$Thresh", name := "chosen", desc := "(ILSpendHouse$Ways;)LSpendHouse$Way;" } : Jvm.MethodName) prog_17_method_6_code (7 : Nat) (Option.some (Jvm.ClassFile.FieldType.object "SpendHouse$Way"))) ∈ lw_all := lw_g (lw_at lw_m9 230 rfl) rfl
theorem q2323 : (Jvm.Cond.classLink "SpendHouse$Thresh" (98 : Nat) "SpendHouse$Way") ∈ lw_all := lw_g (lw_at lw_m9 231 rfl) rfl
theorem q2324 : (Jvm.Cond.methodLink "SpendHouse$Thresh" (100 : Nat) ({ cls := "SpendHouse$Ways", name := "one", desc := "(IIZ)LSpendHouse$Way;" } : Jvm.MethodName)) ∈ lw_all := lw_g (lw_at lw_m9 232 rfl) rfl
theorem q2325 : (Jvm.Cond.methodLink "SpendHouse$Thresh" (106 : Nat) ({ cls := "SpendHouse$Node", name := "no", desc := "(LSpendHouse$Ways;)LSpendHouse$Way;" } : Jvm.MethodName)) ∈ lw_all := lw_g (lw_at lw_m9 233 rfl) rfl
theorem q2326 : (Jvm.Cond.methodLink "SpendHouse$Thresh" (110 : Nat) ({ cls := "SpendHouse$Ways", name := "both", desc := "(LSpendHouse$Way;LSpendHouse$Way;)LSpendHouse$Way;" } : Jvm.MethodName)) ∈ lw_all := lw_g (lw_at lw_m9 234 rfl) rfl
theorem q2327 : (Jvm.Cond.methodLink "SpendHouse$Thresh" (114 : Nat) ({ cls := "SpendHouse$Node", name := "yes", desc := "(LSpendHouse$Ways;)LSpendHouse$Way;" } : Jvm.MethodName)) ∈ lw_all := lw_g (lw_at lw_m9 235 rfl) rfl
theorem q2328 : (Jvm.Cond.methodLink "SpendHouse$Thresh" (117 : Nat) ({ cls := "SpendHouse$Ways", name := "or", desc := "(LSpendHouse$Way;LSpendHouse$Way;)LSpendHouse$Way;" } : Jvm.MethodName)) ∈ lw_all := lw_g (lw_at lw_m9 236 rfl) rfl
theorem q2329 : (Jvm.Cond.selects "SpendHouse$Truth" ({ cls := "SpendHouse$Node", name := "dissatisfied", desc := "(LSpendHouse$Ways;)LSpendHouse$Way;" } : Jvm.MethodName) ({ cls := "SpendHouse$Truth", name := "dissatisfied", desc := "(LSpendHouse$Ways;)LSpendHouse$Way;" } : Jvm.MethodName)) ∈ lw_all := lw_g (lw_at lw_m9 237 rfl) rfl
theorem q2330 : (Jvm.Cond.instanceMethod ({ cls := "SpendHouse$Truth", name := "dissatisfied", desc := "(LSpendHouse$Ways;)LSpendHouse$Way;" } : Jvm.MethodName)) ∈ lw_all := lw_g (lw_at lw_m9 238 rfl) rfl
theorem q2331 : (Jvm.Cond.code ({ cls := "SpendHouse$Truth", name := "dissatisfied", desc := "(LSpendHouse$Ways;)LSpendHouse$Way;" } : Jvm.MethodName) prog_18_method_7_code (2 : Nat) (Option.some (Jvm.ClassFile.FieldType.object "SpendHouse$Way"))) ∈ lw_all := lw_g (lw_at lw_m9 239 rfl) rfl
theorem q2332 : (Jvm.Cond.methodLink "SpendHouse$Truth" (38 : Nat) ({ cls := "SpendHouse$Ways", name := "one", desc := "(IIZ)LSpendHouse$Way;" } : Jvm.MethodName)) ∈ lw_all := lw_g (lw_at lw_m10 0 rfl) rfl
theorem q2333 : (Jvm.Cond.selects "SpendHouse$Wrapper" ({ cls := "SpendHouse$Node", name := "dissatisfied", desc := "(LSpendHouse$Ways;)LSpendHouse$Way;" } : Jvm.MethodName) ({ cls := "SpendHouse$Wrapper", name := "dissatisfied", desc := "(LSpendHouse$Ways;)LSpendHouse$Way;" } : Jvm.MethodName)) ∈ lw_all := lw_g (lw_at lw_m10 1 rfl) rfl
theorem q2334 : (Jvm.Cond.instanceMethod ({ cls := "SpendHouse$Wrapper", name := "dissatisfied", desc := "(LSpendHouse$Ways;)LSpendHouse$Way;" } : Jvm.MethodName)) ∈ lw_all := lw_g (lw_at lw_m10 2 rfl) rfl
theorem q2335 : (Jvm.Cond.code ({ cls := "SpendHouse$Wrapper", name := "dissatisfied", desc := "(LSpendHouse$Ways;)LSpendHouse$Way;" } : Jvm.MethodName) prog_21_method_9_code (3 : Nat) (Option.some (Jvm.ClassFile.FieldType.object "SpendHouse$Way"))) ∈ lw_all := lw_g (lw_at lw_m10 3 rfl) rfl
theorem q2336 : (Jvm.Cond.methodLink "SpendHouse$Wrapper" (118 : Nat) ({ cls := "SpendHouse$Ways", name := "never", desc := "()LSpendHouse$Way;" } : Jvm.MethodName)) ∈ lw_all := lw_g (lw_at lw_m10 4 rfl) rfl
theorem q2337 : (Jvm.Cond.methodLink "SpendHouse$Wrapper" (122 : Nat) ({ cls := "SpendHouse$Node", name := "no", desc := "(LSpendHouse$Ways;)LSpendHouse$Way;" } : Jvm.MethodName)) ∈ lw_all := lw_g (lw_at lw_m10 5 rfl) rfl
theorem q2338 : (Jvm.Cond.methodLink "SpendHouse$Wrapper" (108 : Nat) ({ cls := "SpendHouse$Ways", name := "one", desc := "(IIZ)LSpendHouse$Way;" } : Jvm.MethodName)) ∈ lw_all := lw_g (lw_at lw_m10 6 rfl) rfl
theorem q2339 : (Jvm.Cond.methodLink "SpendHouse$AndOr" (118 : Nat) ({ cls := "SpendHouse$Ways", name := "or", desc := "(LSpendHouse$Way;LSpendHouse$Way;)LSpendHouse$Way;" } : Jvm.MethodName)) ∈ lw_all := lw_g (lw_at lw_m10 7 rfl) rfl
theorem q2340 : (Jvm.Cond.selects "SpendHouse$Image" ({ cls := "SpendHouse$Node", name := "satisfied", desc := "(LSpendHouse$Ways;)LSpendHouse$Way;" } : Jvm.MethodName) ({ cls := "SpendHouse$Image", name := "satisfied", desc := "(LSpendHouse$Ways;)LSpendHouse$Way;" } : Jvm.MethodName)) ∈ lw_all := lw_g (lw_at lw_m10 8 rfl) rfl
theorem q2341 : (Jvm.Cond.instanceMethod ({ cls := "SpendHouse$Image", name := "satisfied", desc := "(LSpendHouse$Ways;)LSpendHouse$Way;" } : Jvm.MethodName)) ∈ lw_all := lw_g (lw_at lw_m10 9 rfl) rfl
theorem q2342 : (Jvm.Cond.code ({ cls := "SpendHouse$Image", name := "satisfied", desc := "(LSpendHouse$Ways;)LSpendHouse$Way;" } : Jvm.MethodName) prog_6_method_6_code (2 : Nat) (Option.some (Jvm.ClassFile.FieldType.object "SpendHouse$Way"))) ∈ lw_all := lw_g (lw_at lw_m10 10 rfl) rfl
theorem q2343 : (Jvm.Cond.selects "SpendHouse$Key" ({ cls := "SpendHouse$Node", name := "satisfied", desc := "(LSpendHouse$Ways;)LSpendHouse$Way;" } : Jvm.MethodName) ({ cls := "SpendHouse$Key", name := "satisfied", desc := "(LSpendHouse$Ways;)LSpendHouse$Way;" } : Jvm.MethodName)) ∈ lw_all := lw_g (lw_at lw_m10 11 rfl) rfl
theorem q2344 : (Jvm.Cond.instanceMethod ({ cls := "SpendHouse$Key", name := "satisfied", desc := "(LSpendHouse$Ways;)LSpendHouse$Way;" } : Jvm.MethodName)) ∈ lw_all := lw_g (lw_at lw_m10 12 rfl) rfl
theorem q2345 : (Jvm.Cond.code ({ cls := "SpendHouse$Key", name := "satisfied", desc := "(LSpendHouse$Ways;)LSpendHouse$Way;" } : Jvm.MethodName) prog_8_method_7_code (2 : Nat) (Option.some (Jvm.ClassFile.FieldType.object "SpendHouse$Way"))) ∈ lw_all := lw_g (lw_at lw_m10 13 rfl) rfl
theorem q2346 : (Jvm.Cond.selects "SpendHouse$Lock" ({ cls := "SpendHouse$Node", name := "satisfied", desc := "(LSpendHouse$Ways;)LSpendHouse$Way;" } : Jvm.MethodName) ({ cls := "SpendHouse$Lock", name := "satisfied", desc := "(LSpendHouse$Ways;)LSpendHouse$Way;" } : Jvm.MethodName)) ∈ lw_all := lw_g (lw_at lw_m10 14 rfl) rfl
theorem q2347 : (Jvm.Cond.instanceMethod ({ cls := "SpendHouse$Lock", name := "satisfied", desc := "(LSpendHouse$Ways;)LSpendHouse$Way;" } : Jvm.MethodName)) ∈ lw_all := lw_g (lw_at lw_m10 15 rfl) rfl
theorem q2348 : (Jvm.Cond.code ({ cls := "SpendHouse$Lock", name := "satisfied", desc := "(LSpendHouse$Ways;)LSpendHouse$Way;" } : Jvm.MethodName) prog_10_method_6_code (2 : Nat) (Option.some (Jvm.ClassFile.FieldType.object "SpendHouse$Way"))) ∈ lw_all := lw_g (lw_at lw_m10 16 rfl) rfl
theorem q2349 : (Jvm.Cond.methodLink "SpendHouse$Lock" (69 : Nat) ({ cls := "SpendHouse$Lock", name := "holds", desc := "()Z" } : Jvm.MethodName)) ∈ lw_all := lw_g (lw_at lw_m10 17 rfl) rfl
theorem q2350 : (Jvm.Cond.methodLink "SpendHouse$Lock" (73 : Nat) ({ cls := "SpendHouse$Ways", name := "one", desc := "(IIZ)LSpendHouse$Way;" } : Jvm.MethodName)) ∈ lw_all := lw_g (lw_at lw_m10 18 rfl) rfl
theorem q2351 : (Jvm.Cond.selects "SpendHouse$Multi" ({ cls := "SpendHouse$Node", name := "satisfied", desc := "(LSpendHouse$Ways;)LSpendHouse$Way;" } : Jvm.MethodName) ({ cls := "SpendHouse$Multi", name := "satisfied", desc := "(LSpendHouse$Ways;)LSpendHouse$Way;" } : Jvm.MethodName)) ∈ lw_all := lw_g (lw_at lw_m10 19 rfl) rfl
theorem q2352 : (Jvm.Cond.instanceMethod ({ cls := "SpendHouse$Multi", name := "satisfied", desc := "(LSpendHouse$Ways;)LSpendHouse$Way;" } : Jvm.MethodName)) ∈ lw_all := lw_g (lw_at lw_m10 20 rfl) rfl
theorem q2353 : (Jvm.Cond.code ({ cls := "SpendHouse$Multi", name := "satisfied", desc := "(LSpendHouse$Ways;)LSpendHouse$Way;" } : Jvm.MethodName) prog_12_method_6_code (5 : Nat) (Option.some (Jvm.ClassFile.FieldType.object "SpendHouse$Way"))) ∈ lw_all := lw_g (lw_at lw_m10 21 rfl) rfl
theorem q2354 : (Jvm.Cond.methodLink "SpendHouse$Multi" (72 : Nat) ({ cls := "SpendHouse$Multi", name := "holds", desc := "()Z" } : Jvm.MethodName)) ∈ lw_all := lw_g (lw_at lw_m10 22 rfl) rfl
theorem q2355 : (Jvm.Cond.selects "SpendHouse$Pair" ({ cls := "SpendHouse$Node", name := "satisfied", desc := "(LSpendHouse$Ways;)LSpendHouse$Way;" } : Jvm.MethodName) ({ cls := "SpendHouse$Pair", name := "satisfied", desc := "(LSpendHouse$Ways;)LSpendHouse$Way;" } : Jvm.MethodName)) ∈ lw_all := lw_g (lw_at lw_m10 23 rfl) rfl
theorem q2356 : (Jvm.Cond.instanceMethod ({ cls := "SpendHouse$Pair", name := "satisfied", desc := "(LSpendHouse$Ways;)LSpendHouse$Way;" } : Jvm.MethodName)) ∈ lw_all := lw_g (lw_at lw_m10 24 rfl) rfl
theorem q2357 : (Jvm.Cond.code ({ cls := "SpendHouse$Pair", name := "satisfied", desc := "(LSpendHouse$Ways;)LSpendHouse$Way;" } : Jvm.MethodName) prog_14_method_8_code (2 : Nat) (Option.some (Jvm.ClassFile.FieldType.object "SpendHouse$Way"))) ∈ lw_all := lw_g (lw_at lw_m10 25 rfl) rfl
theorem q2358 : (Jvm.Cond.methodLink "SpendHouse$Pair" (123 : Nat) ({ cls := "SpendHouse$Node", name := "yes", desc := "(LSpendHouse$Ways;)LSpendHouse$Way;" } : Jvm.MethodName)) ∈ lw_all := lw_g (lw_at lw_m10 26 rfl) rfl
theorem q2359 : (Jvm.Cond.selects "SpendHouse$Thresh" ({ cls := "SpendHouse$Node", name := "satisfied", desc := "(LSpendHouse$Ways;)LSpendHouse$Way;" } : Jvm.MethodName) ({ cls := "SpendHouse$Thresh", name := "satisfied", desc := "(LSpendHouse$Ways;)LSpendHouse$Way;" } : Jvm.MethodName)) ∈ lw_all := lw_g (lw_at lw_m10 27 rfl) rfl
theorem q2360 : (Jvm.Cond.instanceMethod ({ cls := "SpendHouse$Thresh", name := "satisfied", desc := "(LSpendHouse$Ways;)LSpendHouse$Way;" } : Jvm.MethodName)) ∈ lw_all := lw_g (lw_at lw_m10 28 rfl) rfl
theorem q2361 : (Jvm.Cond.code ({ cls := "SpendHouse$Thresh", name := "satisfied", desc := "(LSpendHouse$Ways;)LSpendHouse$Way;" } : Jvm.MethodName) prog_17_method_7_code (2 : Nat) (Option.some (Jvm.ClassFile.FieldType.object "SpendHouse$Way"))) ∈ lw_all := lw_g (lw_at lw_m10 29 rfl) rfl
theorem q2362 : (Jvm.Cond.selects "SpendHouse$Truth" ({ cls := "SpendHouse$Node", name := "satisfied", desc := "(LSpendHouse$Ways;)LSpendHouse$Way;" } : Jvm.MethodName) ({ cls := "SpendHouse$Truth", name := "satisfied", desc := "(LSpendHouse$Ways;)LSpendHouse$Way;" } : Jvm.MethodName)) ∈ lw_all := lw_g (lw_at lw_m10 30 rfl) rfl
theorem q2363 : (Jvm.Cond.instanceMethod ({ cls := "SpendHouse$Truth", name := "satisfied", desc := "(LSpendHouse$Ways;)LSpendHouse$Way;" } : Jvm.MethodName)) ∈ lw_all := lw_g (lw_at lw_m10 31 rfl) rfl
theorem q2364 : (Jvm.Cond.code ({ cls := "SpendHouse$Truth", name := "satisfied", desc := "(LSpendHouse$Ways;)LSpendHouse$Way;" } : Jvm.MethodName) prog_18_method_6_code (2 : Nat) (Option.some (Jvm.ClassFile.FieldType.object "SpendHouse$Way"))) ∈ lw_all := lw_g (lw_at lw_m10 32 rfl) rfl
theorem q2365 : (Jvm.Cond.selects "SpendHouse$Wrapper" ({ cls := "SpendHouse$Node", name := "satisfied", desc := "(LSpendHouse$Ways;)LSpendHouse$Way;" } : Jvm.MethodName) ({ cls := "SpendHouse$Wrapper", name := "satisfied", desc := "(LSpendHouse$Ways;)LSpendHouse$Way;" } : Jvm.MethodName)) ∈ lw_all := lw_g (lw_at lw_m10 33 rfl) rfl
theorem q2366 : (Jvm.Cond.instanceMethod ({ cls := "SpendHouse$Wrapper", name := "satisfied", desc := "(LSpendHouse$Ways;)LSpendHouse$Way;" } : Jvm.MethodName)) ∈ lw_all := lw_g (lw_at lw_m10 34 rfl) rfl
theorem q2367 : (Jvm.Cond.code ({ cls := "SpendHouse$Wrapper", name := "satisfied", desc := "(LSpendHouse$Ways;)LSpendHouse$Way;" } : Jvm.MethodName) prog_21_method_8_code (2 : Nat) (Option.some (Jvm.ClassFile.FieldType.object "SpendHouse$Way"))) ∈ lw_all := lw_g (lw_at lw_m10 35 rfl) rfl
theorem q2368 : (Jvm.Cond.methodLink "SpendHouse$Wrapper" (104 : Nat) ({ cls := "SpendHouse$Node", name := "yes", desc := "(LSpendHouse$Ways;)LSpendHouse$Way;" } : Jvm.MethodName)) ∈ lw_all := lw_g (lw_at lw_m10 36 rfl) rfl
theorem q2369 : (Jvm.Cond.methodLink "SpendHouse$Wrapper" (114 : Nat) ({ cls := "SpendHouse$Ways", name := "both", desc := "(LSpendHouse$Way;LSpendHouse$Way;)LSpendHouse$Way;" } : Jvm.MethodName)) ∈ lw_all := lw_g (lw_at lw_m10 37 rfl) rfl
theorem q2370 : (Jvm.Cond.methodLink "SpendHouse" (302 : Nat) ({ cls := "SpendHouse", name := "lay", desc := "(LSpendHouse$Way;)V" } : Jvm.MethodName)) ∈ lw_all := lw_g (lw_at lw_m10 38 rfl) rfl
theorem q2371 : (Jvm.Cond.privateMethod ({ cls := "SpendHouse", name := "lay", desc := "(LSpendHouse$Way;)V" } : Jvm.MethodName)) ∈ lw_tbl := lw_at lw_m10 39 rfl
theorem q2372 : (Jvm.Cond.instanceMethod ({ cls := "SpendHouse", name := "lay", desc := "(LSpendHouse$Way;)V" } : Jvm.MethodName)) ∈ lw_all := lw_g (lw_at lw_m10 40 rfl) rfl
theorem q2373 : (Jvm.Cond.code ({ cls := "SpendHouse", name := "lay", desc := "(LSpendHouse$Way;)V" } : Jvm.MethodName) prog_1_method_31_code (3 : Nat) (Option.none : Option Jvm.ClassFile.FieldType)) ∈ lw_all := lw_g (lw_at lw_m10 41 rfl) rfl
theorem q2374 : (Jvm.Cond.methodLink "SpendHouse" (313 : Nat) ({ cls := "SpendHouse", name := "signature", desc := "(LSpendHouse$Item;I)V" } : Jvm.MethodName)) ∈ lw_all := lw_g (lw_at lw_m10 42 rfl) rfl
theorem q2375 : (Jvm.Cond.static ({ cls := "SpendHouse", name := "signature", desc := "(LSpendHouse$Item;I)V" } : Jvm.MethodName)) ∈ lw_all := lw_g (lw_at lw_m10 43 rfl) rfl
theorem q2376 : (Jvm.Cond.code ({ cls := "SpendHouse", name := "signature", desc := "(LSpendHouse$Item;I)V" } : Jvm.MethodName) prog_1_method_32_code (3 : Nat) (Option.none : Option Jvm.ClassFile.FieldType)) ∈ lw_all := lw_g (lw_at lw_m10 44 rfl) rfl
theorem q2377 : (Jvm.Cond.methodLink "SpendHouse" (326 : Nat) ({ cls := "SpendHouse", name := "signatureByte", desc := "(II)I" } : Jvm.MethodName)) ∈ lw_all := lw_g (lw_at lw_m10 45 rfl) rfl
theorem q2378 : (Jvm.Cond.static ({ cls := "SpendHouse", name := "signatureByte", desc := "(II)I" } : Jvm.MethodName)) ∈ lw_all := lw_g (lw_at lw_m10 46 rfl) rfl
theorem q2379 : (Jvm.Cond.code ({ cls := "SpendHouse", name := "signatureByte", desc := "(II)I" } : Jvm.MethodName) prog_1_method_3_code (2 : Nat) (Option.some Jvm.ClassFile.FieldType.int)) ∈ lw_all := lw_g (lw_at lw_m10 47 rfl) rfl
theorem q2380 : (Jvm.Cond.methodLink "SpendHouse" (317 : Nat) ({ cls := "SpendHouse$Item", name := "copy", desc := "([BI)V" } : Jvm.MethodName)) ∈ lw_all := lw_g (lw_at lw_m10 48 rfl) rfl
theorem q2381 : (Jvm.Cond.instanceMethod ({ cls := "SpendHouse$Item", name := "copy", desc := "([BI)V" } : Jvm.MethodName)) ∈ lw_all := lw_g (lw_at lw_m10 49 rfl) rfl
theorem q2382 : (Jvm.Cond.selects "SpendHouse$Item" ({ cls := "SpendHouse$Item", name := "copy", desc := "([BI)V" } : Jvm.MethodName) ({ cls := "SpendHouse$Item", name := "copy", desc := "([BI)V" } : Jvm.MethodName)) ∈ lw_all := lw_g (lw_at lw_m10 50 rfl) rfl
theorem q2383 : (Jvm.Cond.code ({ cls := "SpendHouse$Item", name := "copy", desc := "([BI)V" } : Jvm.MethodName) prog_7_method_4_code (4 : Nat) (Option.none : Option Jvm.ClassFile.FieldType)) ∈ lw_all := lw_g (lw_at lw_m10 51 rfl) rfl
theorem q2384 : (Jvm.Cond.methodLink "SpendHouse" (321 : Nat) ({ cls := "SpendHouse$Item", name := "set", desc := "(J)V" } : Jvm.MethodName)) ∈ lw_all := lw_g (lw_at lw_m10 52 rfl) rfl
theorem q2385 : (Jvm.Cond.instanceMethod ({ cls := "SpendHouse$Item", name := "set", desc := "(J)V" } : Jvm.MethodName)) ∈ lw_all := lw_g (lw_at lw_m10 53 rfl) rfl
theorem q2386 : (Jvm.Cond.selects "SpendHouse$Item" ({ cls := "SpendHouse$Item", name := "set", desc := "(J)V" } : Jvm.MethodName) ({ cls := "SpendHouse$Item", name := "set", desc := "(J)V" } : Jvm.MethodName)) ∈ lw_all := lw_g (lw_at lw_m10 54 rfl) rfl
theorem q2387 : (Jvm.Cond.code ({ cls := "SpendHouse$Item", name := "set", desc := "(J)V" } : Jvm.MethodName) prog_7_method_7_code (5 : Nat) (Option.none : Option Jvm.ClassFile.FieldType)) ∈ lw_all := lw_g (lw_at lw_m10 55 rfl) rfl
theorem q2388 : (Jvm.Cond.methodLink "SpendHouse$Item" (19 : Nat) ({ cls := "java/lang/Math", name := "abs", desc := "(J)J" } : Jvm.MethodName)) ∈ lw_all := lw_g (lw_at lw_m10 56 rfl) rfl
theorem q2389 : (Jvm.Cond.static ({ cls := "java/lang/Math", name := "abs", desc := "(J)J" } : Jvm.MethodName)) ∈ lw_all := lw_g (lw_at lw_m10 57 rfl) rfl
theorem q2390 : (Jvm.Cond.code ({ cls := "java/lang/Math", name := "abs", desc := "(J)J" } : Jvm.MethodName) prog_29_method_61_code (2 : Nat) (Option.some Jvm.ClassFile.FieldType.long)) ∈ lw_all := lw_g (lw_at lw_m10 58 rfl) rfl
theorem q2391 : (Jvm.Cond.methodLink "SpendHouseLaw" (74 : Nat) ({ cls := "SpendHouse", name := "item", desc := "(II)I" } : Jvm.MethodName)) ∈ lw_all := lw_g (lw_at lw_m10 59 rfl) rfl
theorem q2392 : (Jvm.Cond.instanceMethod ({ cls := "SpendHouse", name := "item", desc := "(II)I" } : Jvm.MethodName)) ∈ lw_all := lw_g (lw_at lw_m10 60 rfl) rfl
theorem q2393 : (Jvm.Cond.selects "SpendHouse" ({ cls := "SpendHouse", name := "item", desc := "(II)I" } : Jvm.MethodName) ({ cls := "SpendHouse", name := "item", desc := "(II)I" } : Jvm.MethodName)) ∈ lw_all := lw_g (lw_at lw_m10 61 rfl) rfl
theorem q2394 : (Jvm.Cond.code ({ cls := "SpendHouse", name := "item", desc := "(II)I" } : Jvm.MethodName) prog_1_method_34_code (3 : Nat) (Option.some Jvm.ClassFile.FieldType.int)) ∈ lw_all := lw_g (lw_at lw_m10 62 rfl) rfl
theorem q2395 : (Jvm.Cond.methodLink "SpendHouseLaw" (78 : Nat) ({ cls := "SpendHouse", name := "add", desc := "(II)I" } : Jvm.MethodName)) ∈ lw_all := lw_g (lw_at lw_m10 63 rfl) rfl
theorem q2396 : (Jvm.Cond.instanceMethod ({ cls := "SpendHouse", name := "add", desc := "(II)I" } : Jvm.MethodName)) ∈ lw_all := lw_g (lw_at lw_m10 64 rfl) rfl
theorem q2397 : (Jvm.Cond.selects "SpendHouse" ({ cls := "SpendHouse", name := "add", desc := "(II)I" } : Jvm.MethodName) ({ cls := "SpendHouse", name := "add", desc := "(II)I" } : Jvm.MethodName)) ∈ lw_all := lw_g (lw_at lw_m10 65 rfl) rfl
theorem q2398 : (Jvm.Cond.code ({ cls := "SpendHouse", name := "add", desc := "(II)I" } : Jvm.MethodName) prog_1_method_35_code (5 : Nat) (Option.some Jvm.ClassFile.FieldType.int)) ∈ lw_all := lw_g (lw_at lw_m10 66 rfl) rfl
theorem q2399 : (Jvm.Cond.methodLink "SpendHouseLaw" (82 : Nat) ({ cls := "SpendHouse", name := "give", desc := "(II)I" } : Jvm.MethodName)) ∈ lw_all := lw_g (lw_at lw_m10 67 rfl) rfl
theorem q2400 : (Jvm.Cond.instanceMethod ({ cls := "SpendHouse", name := "give", desc := "(II)I" } : Jvm.MethodName)) ∈ lw_all := lw_g (lw_at lw_m10 68 rfl) rfl
theorem q2401 : (Jvm.Cond.selects "SpendHouse" ({ cls := "SpendHouse", name := "give", desc := "(II)I" } : Jvm.MethodName) ({ cls := "SpendHouse", name := "give", desc := "(II)I" } : Jvm.MethodName)) ∈ lw_all := lw_g (lw_at lw_m10 69 rfl) rfl
theorem q2402 : (Jvm.Cond.code ({ cls := "SpendHouse", name := "give", desc := "(II)I" } : Jvm.MethodName) prog_1_method_36_code (4 : Nat) (Option.some Jvm.ClassFile.FieldType.int)) ∈ lw_all := lw_g (lw_at lw_m10 70 rfl) rfl
theorem q2403 : (Jvm.Cond.methodLink "SpendHouseLaw" (86 : Nat) ({ cls := "SpendHouse", name := "swap", desc := "(II)I" } : Jvm.MethodName)) ∈ lw_all := lw_g (lw_at lw_m10 71 rfl) rfl
theorem q2404 : (Jvm.Cond.instanceMethod ({ cls := "SpendHouse", name := "swap", desc := "(II)I" } : Jvm.MethodName)) ∈ lw_all := lw_g (lw_at lw_m10 72 rfl) rfl
theorem q2405 : (Jvm.Cond.selects "SpendHouse" ({ cls := "SpendHouse", name := "swap", desc := "(II)I" } : Jvm.MethodName) ({ cls := "SpendHouse", name := "swap", desc := "(II)I" } : Jvm.MethodName)) ∈ lw_all := lw_g (lw_at lw_m10 73 rfl) rfl
theorem q2406 : (Jvm.Cond.code ({ cls := "SpendHouse", name := "swap", desc := "(II)I" } : Jvm.MethodName) prog_1_method_37_code (4 : Nat) (Option.some Jvm.ClassFile.FieldType.int)) ∈ lw_all := lw_g (lw_at lw_m10 74 rfl) rfl
theorem q2407 : (Jvm.Cond.methodLink "SpendHouseLaw" (90 : Nat) ({ cls := "SpendHouse", name := "alter", desc := "(III)I" } : Jvm.MethodName)) ∈ lw_all := lw_g (lw_at lw_m10 75 rfl) rfl
theorem q2408 : (Jvm.Cond.instanceMethod ({ cls := "SpendHouse", name := "alter", desc := "(III)I" } : Jvm.MethodName)) ∈ lw_all := lw_g (lw_at lw_m10 76 rfl) rfl
theorem q2409 : (Jvm.Cond.selects "SpendHouse" ({ cls := "SpendHouse", name := "alter", desc := "(III)I" } : Jvm.MethodName) ({ cls := "SpendHouse", name := "alter", desc := "(III)I" } : Jvm.MethodName)) ∈ lw_all := lw_g (lw_at lw_m10 77 rfl) rfl
theorem q2410 : (Jvm.Cond.code ({ cls := "SpendHouse", name := "alter", desc := "(III)I" } : Jvm.MethodName) prog_1_method_38_code (4 : Nat) (Option.some Jvm.ClassFile.FieldType.int)) ∈ lw_all := lw_g (lw_at lw_m10 78 rfl) rfl
theorem q2411 : (Jvm.Cond.methodLink "SpendHouseLaw" (95 : Nat) ({ cls := "SpendHouse", name := "forget", desc := "()I" } : Jvm.MethodName)) ∈ lw_all := lw_g (lw_at lw_m10 79 rfl) rfl
theorem q2412 : (Jvm.Cond.instanceMethod ({ cls := "SpendHouse", name := "forget", desc := "()I" } : Jvm.MethodName)) ∈ lw_all := lw_g (lw_at lw_m10 80 rfl) rfl
theorem q2413 : (Jvm.Cond.selects "SpendHouse" ({ cls := "SpendHouse", name := "forget", desc := "()I" } : Jvm.MethodName) ({ cls := "SpendHouse", name := "forget", desc := "()I" } : Jvm.MethodName)) ∈ lw_all := lw_g (lw_at lw_m10 81 rfl) rfl
theorem q2414 : (Jvm.Cond.code ({ cls := "SpendHouse", name := "forget", desc := "()I" } : Jvm.MethodName) prog_1_method_39_code (2 : Nat) (Option.some Jvm.ClassFile.FieldType.int)) ∈ lw_all := lw_g (lw_at lw_m10 82 rfl) rfl
theorem q2415 : (Jvm.Cond.methodLink "SpendHouseLaw" (99 : Nat) ({ cls := "SpendHouse", name := "run", desc := "()I" } : Jvm.MethodName)) ∈ lw_all := lw_g (lw_at lw_m10 83 rfl) rfl
theorem q2416 : (Jvm.Cond.instanceMethod ({ cls := "SpendHouse", name := "run", desc := "()I" } : Jvm.MethodName)) ∈ lw_all := lw_g (lw_at lw_m10 84 rfl) rfl
theorem q2417 : (Jvm.Cond.selects "SpendHouse" ({ cls := "SpendHouse", name := "run", desc := "()I" } : Jvm.MethodName) ({ cls := "SpendHouse", name := "run", desc := "()I" } : Jvm.MethodName)) ∈ lw_all := lw_g (lw_at lw_m10 85 rfl) rfl
theorem q2418 : (Jvm.Cond.code ({ cls := "SpendHouse", name := "run", desc := "()I" } : Jvm.MethodName) prog_1_method_40_code (1 : Nat) (Option.some Jvm.ClassFile.FieldType.int)) ∈ lw_all := lw_g (lw_at lw_m10 86 rfl) rfl
theorem q2419 : (Jvm.Cond.methodLink "SpendHouse" (346 : Nat) ({ cls := "SpendHouse$Machine", name := "run", desc := "(LSpendHouse$Code;)I" } : Jvm.MethodName)) ∈ lw_all := lw_g (lw_at lw_m10 87 rfl) rfl
theorem q2420 : (Jvm.Cond.instanceMethod ({ cls := "SpendHouse$Machine", name := "run", desc := "(LSpendHouse$Code;)I" } : Jvm.MethodName)) ∈ lw_all := lw_g (lw_at lw_m10 88 rfl) rfl
theorem q2421 : (Jvm.Cond.selects "SpendHouse$Machine" ({ cls := "SpendHouse$Machine", name := "run", desc := "(LSpendHouse$Code;)I" } : Jvm.MethodName) ({ cls := "SpendHouse$Machine", name := "run", desc := "(LSpendHouse$Code;)I" } : Jvm.MethodName)) ∈ lw_all := lw_g (lw_at lw_m10 89 rfl) rfl
theorem q2422 : (Jvm.Cond.code ({ cls := "SpendHouse$Machine", name := "run", desc := "(LSpendHouse$Code;)I" } : Jvm.MethodName) prog_11_method_8_code (5 : Nat) (Option.some Jvm.ClassFile.FieldType.int)) ∈ lw_all := lw_g (lw_at lw_m10 90 rfl) rfl
theorem q2423 : (Jvm.Cond.methodLink "SpendHouse$Machine" (47 : Nat) ({ cls := "SpendHouse$Machine", name := "push", desc := "()LSpendHouse$Item;" } : Jvm.MethodName)) ∈ lw_all := lw_g (lw_at lw_m10 91 rfl) rfl
theorem q2424 : (Jvm.Cond.privateMethod ({ cls := "SpendHouse$Machine", name := "push", desc := "()LSpendHouse$Item;" } : Jvm.MethodName)) ∈ lw_tbl := lw_at lw_m10 92 rfl
theorem q2425 : (Jvm.Cond.instanceMethod ({ cls := "SpendHouse$Machine", name := "push", desc := "()LSpendHouse$Item;" } : Jvm.MethodName)) ∈ lw_all := lw_g (lw_at lw_m10 93 rfl) rfl
theorem q2426 : (Jvm.Cond.code ({ cls := "SpendHouse$Machine", name := "push", desc := "()LSpendHouse$Item;" } : Jvm.MethodName) prog_11_method_4_code (3 : Nat) (Option.some (Jvm.ClassFile.FieldType.object "SpendHouse$Item"))) ∈ lw_all := lw_g (lw_at lw_m10 94 rfl) rfl
theorem q2427 : (Jvm.Cond.methodLink "SpendHouse$Machine" (84 : Nat) ({ cls := "SpendHouse$Item", name := "copy", desc := "(LSpendHouse$Item;)V" } : Jvm.MethodName)) ∈ lw_all := lw_g (lw_at lw_m10 95 rfl) rfl
theorem q2428 : (Jvm.Cond.instanceMethod ({ cls := "SpendHouse$Item", name := "copy", desc := "(LSpendHouse$Item;)V" } : Jvm.MethodName)) ∈ lw_all := lw_g (lw_at lw_m10 96 rfl) rfl
theorem q2429 : (Jvm.Cond.selects "SpendHouse$Item" ({ cls := "SpendHouse$Item", name := "copy", desc := "(LSpendHouse$Item;)V" } : Jvm.MethodName) ({ cls := "SpendHouse$Item", name := "copy", desc := "(LSpendHouse$Item;)V" } : Jvm.MethodName)) ∈ lw_all := lw_g (lw_at lw_m10 97 rfl) rfl
theorem q2430 : (Jvm.Cond.code ({ cls := "SpendHouse$Item", name := "copy", desc := "(LSpendHouse$Item;)V" } : Jvm.MethodName) prog_7_method_2_code (3 : Nat) (Option.none : Option Jvm.ClassFile.FieldType)) ∈ lw_all := lw_g (lw_at lw_m10 98 rfl) rfl
theorem q2431 : (Jvm.Cond.methodLink "SpendHouse$Machine" (95 : Nat) ({ cls := "SpendHouse$Machine", name := "isOn", desc := "()Z" } : Jvm.MethodName)) ∈ lw_all := lw_g (lw_at lw_m10 99 rfl) rfl
theorem q2432 : (Jvm.Cond.privateMethod ({ cls := "SpendHouse$Machine", name := "isOn", desc := "()Z" } : Jvm.MethodName)) ∈ lw_tbl := lw_at lw_m10 100 rfl
theorem q2433 : (Jvm.Cond.instanceMethod ({ cls := "SpendHouse$Machine", name := "isOn", desc := "()Z" } : Jvm.MethodName)) ∈ lw_all := lw_g (lw_at lw_m10 101 rfl) rfl
theorem q2434 : (Jvm.Cond.code ({ cls := "SpendHouse$Machine", name := "isOn", desc := "()Z" } : Jvm.MethodName) prog_11_method_6_code (3 : Nat) (Option.some Jvm.ClassFile.FieldType.boolean)) ∈ lw_all := lw_g (lw_at lw_m10 102 rfl) rfl
theorem q2435 : (Jvm.Cond.methodLink "SpendHouse$Machine" (99 : Nat) ({ cls := "SpendHouse$Machine", name := "pushBytes", desc := "(LSpendHouse$Code;II)V" } : Jvm.MethodName)) ∈ lw_all := lw_g (lw_at lw_m10 103 rfl) rfl
theorem q2436 : (Jvm.Cond.privateMethod ({ cls := "SpendHouse$Machine", name := "pushBytes", desc := "(LSpendHouse$Code;II)V" } : Jvm.MethodName)) ∈ lw_tbl := lw_at lw_m10 104 rfl
theorem q2437 : (Jvm.Cond.instanceMethod ({ cls := "SpendHouse$Machine", name := "pushBytes", desc := "(LSpendHouse$Code;II)V" } : Jvm.MethodName)) ∈ lw_all := lw_g (lw_at lw_m10 105 rfl) rfl
theorem q2438 : (Jvm.Cond.code ({ cls := "SpendHouse$Machine", name := "pushBytes", desc := "(LSpendHouse$Code;II)V" } : Jvm.MethodName) prog_11_method_9_code (6 : Nat) (Option.none : Option Jvm.ClassFile.FieldType)) ∈ lw_all := lw_g (lw_at lw_m10 106 rfl) rfl
theorem q2439 : (Jvm.Cond.methodLink "SpendHouse$Machine" (51 : Nat) ({ cls := "SpendHouse$Item", name := "set", desc := "(J)V" } : Jvm.MethodName)) ∈ lw_all := lw_g (lw_at lw_m10 107 rfl) rfl
theorem q2440 : (Jvm.Cond.methodLink "SpendHouse$Machine" (103 : Nat) ({ cls := "SpendHouse$Machine", name := "branch", desc := "(I)V" } : Jvm.MethodName)) ∈ lw_all := lw_g (lw_at lw_m10 108 rfl) rfl
theorem q2441 : (Jvm.Cond.privateMethod ({ cls := "SpendHouse$Machine", name := "branch", desc := "(I)V" } : Jvm.MethodName)) ∈ lw_tbl := lw_at lw_m10 109 rfl
theorem q2442 : (Jvm.Cond.instanceMethod ({ cls := "SpendHouse$Machine", name := "branch", desc := "(I)V" } : Jvm.MethodName)) ∈ lw_all := lw_g (lw_at lw_m10 110 rfl) rfl
theorem q2443 : (Jvm.Cond.code ({ cls := "SpendHouse$Machine", name := "branch", desc := "(I)V" } : Jvm.MethodName) prog_11_method_10_code (3 : Nat) (Option.none : Option Jvm.ClassFile.FieldType)) ∈ lw_all := lw_g (lw_at lw_m10 111 rfl) rfl
theorem q2444 : (Jvm.Cond.methodLink "SpendHouse$Machine" (120 : Nat) ({ cls := "SpendHouse$Machine", name := "needs", desc := "(I)Z" } : Jvm.MethodName)) ∈ lw_all := lw_g (lw_at lw_m10 112 rfl) rfl
theorem q2445 : (Jvm.Cond.privateMethod ({ cls := "SpendHouse$Machine", name := "needs", desc := "(I)Z" } : Jvm.MethodName)) ∈ lw_tbl := lw_at lw_m10 113 rfl
theorem q2446 : (Jvm.Cond.instanceMethod ({ cls := "SpendHouse$Machine", name := "needs", desc := "(I)Z" } : Jvm.MethodName)) ∈ lw_all := lw_g (lw_at lw_m10 114 rfl) rfl
theorem q2447 : (Jvm.Cond.code ({ cls := "SpendHouse$Machine", name := "needs", desc := "(I)Z" } : Jvm.MethodName) prog_11_method_2_code (2 : Nat) (Option.some Jvm.ClassFile.FieldType.boolean)) ∈ lw_all := lw_g (lw_at lw_m10 115 rfl) rfl
theorem q2448 : (Jvm.Cond.methodLink "SpendHouse$Machine" (58 : Nat) ({ cls := "SpendHouse$Machine", name := "top", desc := "(I)LSpendHouse$Item;" } : Jvm.MethodName)) ∈ lw_all := lw_g (lw_at lw_m10 116 rfl) rfl
theorem q2449 : (Jvm.Cond.privateMethod ({ cls := "SpendHouse$Machine", name := "top", desc := "(I)LSpendHouse$Item;" } : Jvm.MethodName)) ∈ lw_tbl := lw_at lw_m10 117 rfl
theorem q2450 : (Jvm.Cond.instanceMethod ({ cls := "SpendHouse$Machine", name := "top", desc := "(I)LSpendHouse$Item;" } : Jvm.MethodName)) ∈ lw_all := lw_g (lw_at lw_m10 118 rfl) rfl
theorem q2451 : (Jvm.Cond.code ({ cls := "SpendHouse$Machine", name := "top", desc := "(I)LSpendHouse$Item;" } : Jvm.MethodName) prog_11_method_3_code (2 : Nat) (Option.some (Jvm.ClassFile.FieldType.object "SpendHouse$Item"))) ∈ lw_all := lw_g (lw_at lw_m10 119 rfl) rfl
theorem q2452 : (Jvm.Cond.methodLink "SpendHouse$Machine" (123 : Nat) ({ cls := "SpendHouse$Item", name := "isOne", desc := "()Z" } : Jvm.MethodName)) ∈ lw_all := lw_g (lw_at lw_m10 120 rfl) rfl
theorem q2453 : (Jvm.Cond.instanceMethod ({ cls := "SpendHouse$Item", name := "isOne", desc := "()Z" } : Jvm.MethodName)) ∈ lw_all := lw_g (lw_at lw_m10 121 rfl) rfl
theorem q2454 : (Jvm.Cond.selects "SpendHouse$Item" ({ cls := "SpendHouse$Item", name := "isOne", desc := "()Z" } : Jvm.MethodName) ({ cls := "SpendHouse$Item", name := "isOne", desc := "()Z" } : Jvm.MethodName)) ∈ lw_all := lw_g (lw_at lw_m10 122 rfl) rfl
theorem q2455 : (Jvm.Cond.code ({ cls := "SpendHouse$Item", name := "isOne", desc := "()Z" } : Jvm.MethodName) prog_7_method_6_code (1 : Nat) (Option.some Jvm.ClassFile.FieldType.boolean)) ∈ lw_all := lw_g (lw_at lw_m10 123 rfl) rfl
theorem q2456 : (Jvm.Cond.methodLink "SpendHouse$Machine" (107 : Nat) ({ cls := "SpendHouse$Machine", name := "operate", desc := "(I)V" } : Jvm.MethodName)) ∈ lw_all := lw_g (lw_at lw_m10 124 rfl) rfl
theorem q2457 : (Jvm.Cond.privateMethod ({ cls := "SpendHouse$Machine", name := "operate", desc := "(I)V" } : Jvm.MethodName)) ∈ lw_tbl := lw_at lw_m10 125 rfl
theorem q2458 : (Jvm.Cond.instanceMethod ({ cls := "SpendHouse$Machine", name := "operate", desc := "(I)V" } : Jvm.MethodName)) ∈ lw_all := lw_g (lw_at lw_m10 126 rfl) rfl
theorem q2459 : (Jvm.Cond.code ({ cls := "SpendHouse$Machine", name := "operate", desc := "(I)V" } : Jvm.MethodName) prog_11_method_11_code (4 : Nat) (Option.none : Option Jvm.ClassFile.FieldType)) ∈ lw_all := lw_g (lw_at lw_m10 127 rfl) rfl
theorem q2460 : (Jvm.Cond.methodLink "SpendHouse$Machine" (126 : Nat) ({ cls := "SpendHouse$Machine", name := "verify", desc := "()V" } : Jvm.MethodName)) ∈ lw_all := lw_g (lw_at lw_m10 128 rfl) rfl
theorem q2461 : (Jvm.Cond.privateMethod ({ cls := "SpendHouse$Machine", name := "verify", desc := "()V" } : Jvm.MethodName)) ∈ lw_tbl := lw_at lw_m10 129 rfl
theorem q2462 : (Jvm.Cond.instanceMethod ({ cls := "SpendHouse$Machine", name := "verify", desc := "()V" } : Jvm.MethodName)) ∈ lw_all := lw_g (lw_at lw_m10 130 rfl) rfl
theorem q2463 : (Jvm.Cond.code ({ cls := "SpendHouse$Machine", name := "verify", desc := "()V" } : Jvm.MethodName) prog_11_method_13_code (1 : Nat) (Option.none : Option Jvm.ClassFile.FieldType)) ∈ lw_all := lw_g (lw_at lw_m10 131 rfl) rfl
theorem q2464 : (Jvm.Cond.methodLink "SpendHouse$Machine" (116 : Nat) ({ cls := "SpendHouse$Item", name := "isTrue", desc := "()Z" } : Jvm.MethodName)) ∈ lw_all := lw_g (lw_at lw_m10 132 rfl) rfl
theorem q2465 : (Jvm.Cond.instanceMethod ({ cls := "SpendHouse$Item", name := "isTrue", desc := "()Z" } : Jvm.MethodName)) ∈ lw_all := lw_g (lw_at lw_m10 133 rfl) rfl
theorem q2466 : (Jvm.Cond.selects "SpendHouse$Item" ({ cls := "SpendHouse$Item", name := "isTrue", desc := "()Z" } : Jvm.MethodName) ({ cls := "SpendHouse$Item", name := "isTrue", desc := "()Z" } : Jvm.MethodName)) ∈ lw_all := lw_g (lw_at lw_m10 134 rfl) rfl
theorem q2467 : (Jvm.Cond.code ({ cls := "SpendHouse$Item", name := "isTrue", desc := "()Z" } : Jvm.MethodName) prog_7_method_5_code (3 : Nat) (Option.some Jvm.ClassFile.FieldType.boolean)) ∈ lw_all := lw_g (lw_at lw_m10 135 rfl) rfl
theorem q2468 : (Jvm.Cond.methodLink "SpendHouse$Machine" (129 : Nat) ({ cls := "SpendHouse$Machine", name := "twice", desc := "()V" } : Jvm.MethodName)) ∈ lw_all := lw_g (lw_at lw_m10 136 rfl) rfl
theorem q2469 : (Jvm.Cond.privateMethod ({ cls := "SpendHouse$Machine", name := "twice", desc := "()V" } : Jvm.MethodName)) ∈ lw_tbl := lw_at lw_m10 137 rfl
theorem q2470 : (Jvm.Cond.instanceMethod ({ cls := "SpendHouse$Machine", name := "twice", desc := "()V" } : Jvm.MethodName)) ∈ lw_all := lw_g (lw_at lw_m10 138 rfl) rfl
theorem q2471 : (Jvm.Cond.code ({ cls := "SpendHouse$Machine", name := "twice", desc := "()V" } : Jvm.MethodName) prog_11_method_12_code (2 : Nat) (Option.none : Option Jvm.ClassFile.FieldType)) ∈ lw_all := lw_g (lw_at lw_m10 139 rfl) rfl
theorem q2472 : (Jvm.Cond.methodLink "SpendHouse$Machine" (132 : Nat) ({ cls := "SpendHouse$Machine", name := "equal", desc := "(I)V" } : Jvm.MethodName)) ∈ lw_all := lw_g (lw_at lw_m10 140 rfl) rfl
theorem q2473 : (Jvm.Cond.privateMethod ({ cls := "SpendHouse$Machine", name := "equal", desc := "(I)V" } : Jvm.MethodName)) ∈ lw_tbl := lw_at lw_m10 141 rfl
theorem q2474 : (Jvm.Cond.instanceMethod ({ cls := "SpendHouse$Machine", name := "equal", desc := "(I)V" } : Jvm.MethodName)) ∈ lw_all := lw_g (lw_at lw_m10 142 rfl) rfl
theorem q2475 : (Jvm.Cond.code ({ cls := "SpendHouse$Machine", name := "equal", desc := "(I)V" } : Jvm.MethodName) prog_11_method_14_code (3 : Nat) (Option.none : Option Jvm.ClassFile.FieldType)) ∈ lw_all := lw_g (lw_at lw_m10 143 rfl) rfl
theorem q2476 : (Jvm.Cond.methodLink "SpendHouse$Machine" (161 : Nat) ({ cls := "SpendHouse$Item", name := "isLike", desc := "(LSpendHouse$Item;)Z" } : Jvm.MethodName)) ∈ lw_all := lw_g (lw_at lw_m10 144 rfl) rfl
theorem q2477 : (Jvm.Cond.instanceMethod ({ cls := "SpendHouse$Item", name := "isLike", desc := "(LSpendHouse$Item;)Z" } : Jvm.MethodName)) ∈ lw_all := lw_g (lw_at lw_m10 145 rfl) rfl
theorem q2478 : (Jvm.Cond.selects "SpendHouse$Item" ({ cls := "SpendHouse$Item", name := "isLike", desc := "(LSpendHouse$Item;)Z" } : Jvm.MethodName) ({ cls := "SpendHouse$Item", name := "isLike", desc := "(LSpendHouse$Item;)Z" } : Jvm.MethodName)) ∈ lw_all := lw_g (lw_at lw_m10 146 rfl) rfl
theorem q2479 : (Jvm.Cond.code ({ cls := "SpendHouse$Item", name := "isLike", desc := "(LSpendHouse$Item;)Z" } : Jvm.MethodName) prog_7_method_3_code (4 : Nat) (Option.some Jvm.ClassFile.FieldType.boolean)) ∈ lw_all := lw_g (lw_at lw_m10 147 rfl) rfl
theorem q2480 : (Jvm.Cond.methodLink "SpendHouse$Machine" (165 : Nat) ({ cls := "SpendHouse$Machine", name := "pushBit", desc := "(Z)V" } : Jvm.MethodName)) ∈ lw_all := lw_g (lw_at lw_m10 148 rfl) rfl
theorem q2481 : (Jvm.Cond.privateMethod ({ cls := "SpendHouse$Machine", name := "pushBit", desc := "(Z)V" } : Jvm.MethodName)) ∈ lw_tbl := lw_at lw_m10 149 rfl
theorem q2482 : (Jvm.Cond.instanceMethod ({ cls := "SpendHouse$Machine", name := "pushBit", desc := "(Z)V" } : Jvm.MethodName)) ∈ lw_all := lw_g (lw_at lw_m10 150 rfl) rfl
theorem q2483 : (Jvm.Cond.code ({ cls := "SpendHouse$Machine", name := "pushBit", desc := "(Z)V" } : Jvm.MethodName) prog_11_method_5_code (2 : Nat) (Option.none : Option Jvm.ClassFile.FieldType)) ∈ lw_all := lw_g (lw_at lw_m10 151 rfl) rfl
theorem q2484 : (Jvm.Cond.methodLink "SpendHouse$Machine" (135 : Nat) ({ cls := "SpendHouse$Machine", name := "numberAt", desc := "(II)J" } : Jvm.MethodName)) ∈ lw_all := lw_g (lw_at lw_m10 152 rfl) rfl
theorem q2485 : (Jvm.Cond.privateMethod ({ cls := "SpendHouse$Machine", name := "numberAt", desc := "(II)J" } : Jvm.MethodName)) ∈ lw_tbl := lw_at lw_m10 153 rfl
theorem q2486 : (Jvm.Cond.instanceMethod ({ cls := "SpendHouse$Machine", name := "numberAt", desc := "(II)J" } : Jvm.MethodName)) ∈ lw_all := lw_g (lw_at lw_m10 154 rfl) rfl
theorem q2487 : (Jvm.Cond.code ({ cls := "SpendHouse$Machine", name := "numberAt", desc := "(II)J" } : Jvm.MethodName) prog_11_method_7_code (3 : Nat) (Option.some Jvm.ClassFile.FieldType.long)) ∈ lw_all := lw_g (lw_at lw_m10 155 rfl) rfl
theorem q2488 : (Jvm.Cond.methodLink "SpendHouse$Machine" (62 : Nat) ({ cls := "SpendHouse$Item", name := "isNumber", desc := "(I)Z" } : Jvm.MethodName)) ∈ lw_all := lw_g (lw_at lw_m10 156 rfl) rfl
theorem q2489 : (Jvm.Cond.instanceMethod ({ cls := "SpendHouse$Item", name := "isNumber", desc := "(I)Z" } : Jvm.MethodName)) ∈ lw_all := lw_g (lw_at lw_m10 157 rfl) rfl
theorem q2490 : (Jvm.Cond.selects "SpendHouse$Item" ({ cls := "SpendHouse$Item", name := "isNumber", desc := "(I)Z" } : Jvm.MethodName) ({ cls := "SpendHouse$Item", name := "isNumber", desc := "(I)Z" } : Jvm.MethodName)) ∈ lw_all := lw_g (lw_at lw_m10 158 rfl) rfl
theorem q2491 : (Jvm.Cond.code ({ cls := "SpendHouse$Item", name := "isNumber", desc := "(I)Z" } : Jvm.MethodName) prog_7_method_8_code (2 : Nat) (Option.some Jvm.ClassFile.FieldType.boolean)) ∈ lw_all := lw_g (lw_at lw_m10 159 rfl) rfl
theorem q2492 : (Jvm.Cond.methodLink "SpendHouse$Machine" (66 : Nat) ({ cls := "SpendHouse$Item", name := "number", desc := "()J" } : Jvm.MethodName)) ∈ lw_all := lw_g (lw_at lw_m10 160 rfl) rfl
theorem q2493 : (Jvm.Cond.instanceMethod ({ cls := "SpendHouse$Item", name := "number", desc := "()J" } : Jvm.MethodName)) ∈ lw_all := lw_g (lw_at lw_m10 161 rfl) rfl
theorem q2494 : (Jvm.Cond.selects "SpendHouse$Item" ({ cls := "SpendHouse$Item", name := "number", desc := "()J" } : Jvm.MethodName) ({ cls := "SpendHouse$Item", name := "number", desc := "()J" } : Jvm.MethodName)) ∈ lw_all := lw_g (lw_at lw_m10 162 rfl) rfl
theorem q2495 : (Jvm.Cond.code ({ cls := "SpendHouse$Item", name := "number", desc := "()J" } : Jvm.MethodName) prog_7_method_9_code (4 : Nat) (Option.some Jvm.ClassFile.FieldType.long)) ∈ lw_all := lw_g (lw_at lw_m10 163 rfl) rfl
theorem q2496 : (Jvm.Cond.methodLink "SpendHouse$Machine" (139 : Nat) ({ cls := "SpendHouse$Machine", name := "two", desc := "(I)V" } : Jvm.MethodName)) ∈ lw_all := lw_g (lw_at lw_m10 164 rfl) rfl
theorem q2497 : (Jvm.Cond.privateMethod ({ cls := "SpendHouse$Machine", name := "two", desc := "(I)V" } : Jvm.MethodName)) ∈ lw_tbl := lw_at lw_m10 165 rfl
theorem q2498 : (Jvm.Cond.instanceMethod ({ cls := "SpendHouse$Machine", name := "two", desc := "(I)V" } : Jvm.MethodName)) ∈ lw_all := lw_g (lw_at lw_m10 166 rfl) rfl
theorem q2499 : (Jvm.Cond.code ({ cls := "SpendHouse$Machine", name := "two", desc := "(I)V" } : Jvm.MethodName) prog_11_method_15_code (6 : Nat) (Option.none : Option Jvm.ClassFile.FieldType)) ∈ lw_all := lw_g (lw_at lw_m10 167 rfl) rfl
theorem q2500 : (Jvm.Cond.methodLink "SpendHouse$Machine" (146 : Nat) ({ cls := "SpendHouse$Hashes", name := "by", desc := "(I[BI[B)I" } : Jvm.MethodName)) ∈ lw_all := lw_g (lw_at lw_m10 168 rfl) rfl
theorem q2501 : (Jvm.Cond.methodLink "SpendHouse$Machine" (152 : Nat) ({ cls := "SpendHouse$Machine", name := "checksig", desc := "(I)V" } : Jvm.MethodName)) ∈ lw_all := lw_g (lw_at lw_m10 169 rfl) rfl
theorem q2502 : (Jvm.Cond.privateMethod ({ cls := "SpendHouse$Machine", name := "checksig", desc := "(I)V" } : Jvm.MethodName)) ∈ lw_tbl := lw_at lw_m10 170 rfl
theorem q2503 : (Jvm.Cond.instanceMethod ({ cls := "SpendHouse$Machine", name := "checksig", desc := "(I)V" } : Jvm.MethodName)) ∈ lw_all := lw_g (lw_at lw_m10 171 rfl) rfl
theorem q2504 : (Jvm.Cond.code ({ cls := "SpendHouse$Machine", name := "checksig", desc := "(I)V" } : Jvm.MethodName) prog_11_method_18_code (3 : Nat) (Option.none : Option Jvm.ClassFile.FieldType)) ∈ lw_all := lw_g (lw_at lw_m10 172 rfl) rfl
theorem q2505 : (Jvm.Cond.methodLink "SpendHouse$Machine" (184 : Nat) ({ cls := "SpendHouse$Machine", name := "isSigned", desc := "(LSpendHouse$Item;LSpendHouse$Item;)Z" } : Jvm.MethodName)) ∈ lw_all := lw_g (lw_at lw_m10 173 rfl) rfl
theorem q2506 : (Jvm.Cond.privateMethod ({ cls := "SpendHouse$Machine", name := "isSigned", desc := "(LSpendHouse$Item;LSpendHouse$Item;)Z" } : Jvm.MethodName)) ∈ lw_tbl := lw_at lw_m10 174 rfl
theorem q2507 : (Jvm.Cond.instanceMethod ({ cls := "SpendHouse$Machine", name := "isSigned", desc := "(LSpendHouse$Item;LSpendHouse$Item;)Z" } : Jvm.MethodName)) ∈ lw_all := lw_g (lw_at lw_m10 175 rfl) rfl
theorem q2508 : (Jvm.Cond.code ({ cls := "SpendHouse$Machine", name := "isSigned", desc := "(LSpendHouse$Item;LSpendHouse$Item;)Z" } : Jvm.MethodName) prog_11_method_17_code (4 : Nat) (Option.some Jvm.ClassFile.FieldType.boolean)) ∈ lw_all := lw_g (lw_at lw_m10 176 rfl) rfl
theorem q2509 : (Jvm.Cond.methodLink "SpendHouse$Machine" (173 : Nat) ({ cls := "SpendHouse$Machine", name := "keyOf", desc := "(LSpendHouse$Item;)I" } : Jvm.MethodName)) ∈ lw_all := lw_g (lw_at lw_m10 177 rfl) rfl
theorem q2510 : (Jvm.Cond.privateMethod ({ cls := "SpendHouse$Machine", name := "keyOf", desc := "(LSpendHouse$Item;)I" } : Jvm.MethodName)) ∈ lw_tbl := lw_at lw_m10 178 rfl
theorem q2511 : (Jvm.Cond.instanceMethod ({ cls := "SpendHouse$Machine", name := "keyOf", desc := "(LSpendHouse$Item;)I" } : Jvm.MethodName)) ∈ lw_all := lw_g (lw_at lw_m10 179 rfl) rfl
theorem q2512 : (Jvm.Cond.code ({ cls := "SpendHouse$Machine", name := "keyOf", desc := "(LSpendHouse$Item;)I" } : Jvm.MethodName) prog_11_method_16_code (5 : Nat) (Option.some Jvm.ClassFile.FieldType.int)) ∈ lw_all := lw_g (lw_at lw_m10 180 rfl) rfl
theorem q2513 : (Jvm.Cond.methodLinkNest "SpendHouse$Machine" (180 : Nat) ({ cls := "SpendHouse", name := "signature", desc := "(LSpendHouse$Item;I)V" } : Jvm.MethodName) "SpendHouse") ∈ lw_tbl := lw_at lw_m10 181 rfl
theorem q2514 : (Jvm.Cond.methodLink "SpendHouse$Machine" (155 : Nat) ({ cls := "SpendHouse$Machine", name := "multisig", desc := "(I)V" } : Jvm.MethodName)) ∈ lw_all := lw_g (lw_at lw_m10 182 rfl) rfl
theorem q2515 : (Jvm.Cond.privateMethod ({ cls := "SpendHouse$Machine", name := "multisig", desc := "(I)V" } : Jvm.MethodName)) ∈ lw_tbl := lw_at lw_m10 183 rfl
theorem q2516 : (Jvm.Cond.instanceMethod ({ cls := "SpendHouse$Machine", name := "multisig", desc := "(I)V" } : Jvm.MethodName)) ∈ lw_all := lw_g (lw_at lw_m10 184 rfl) rfl
theorem q2517 : (Jvm.Cond.code ({ cls := "SpendHouse$Machine", name := "multisig", desc := "(I)V" } : Jvm.MethodName) prog_11_method_19_code (8 : Nat) (Option.none : Option Jvm.ClassFile.FieldType)) ∈ lw_all := lw_g (lw_at lw_m10 185 rfl) rfl
theorem q2518 : (Jvm.Cond.methodLink "SpendHouse$Machine" (158 : Nat) ({ cls := "SpendHouse$Machine", name := "lock", desc := "(I)V" } : Jvm.MethodName)) ∈ lw_all := lw_g (lw_at lw_m10 186 rfl) rfl
theorem q2519 : (Jvm.Cond.privateMethod ({ cls := "SpendHouse$Machine", name := "lock", desc := "(I)V" } : Jvm.MethodName)) ∈ lw_tbl := lw_at lw_m10 187 rfl
theorem q2520 : (Jvm.Cond.instanceMethod ({ cls := "SpendHouse$Machine", name := "lock", desc := "(I)V" } : Jvm.MethodName)) ∈ lw_all := lw_g (lw_at lw_m10 188 rfl) rfl
theorem q2521 : (Jvm.Cond.code ({ cls := "SpendHouse$Machine", name := "lock", desc := "(I)V" } : Jvm.MethodName) prog_11_method_20_code (5 : Nat) (Option.none : Option Jvm.ClassFile.FieldType)) ∈ lw_all := lw_g (lw_at lw_m10 189 rfl) rfl
theorem q2522 : (Jvm.Cond.constantLong "SpendHouse$Machine" (188 : Nat) (2147483647 : Int64)) ∈ lw_all := lw_g (lw_at lw_m10 190 rfl) rfl
theorem q2523 : (Jvm.Cond.methodLinkNest "SpendHouse$Machine" (190 : Nat) ({ cls := "SpendHouse", name := "isAfter", desc := "(I)Z" } : Jvm.MethodName) "SpendHouse") ∈ lw_tbl := lw_at lw_m10 191 rfl
theorem q2524 : (Jvm.Cond.methodLinkNest "SpendHouse$Machine" (193 : Nat) ({ cls := "SpendHouse", name := "isOlder", desc := "(I)Z" } : Jvm.MethodName) "SpendHouse") ∈ lw_tbl := lw_at lw_m10 192 rfl
theorem q2525 : (Jvm.Cond.methodLink "SpendHouse$Machine" (110 : Nat) ({ cls := "java/lang/Math", name := "max", desc := "(II)I" } : Jvm.MethodName)) ∈ lw_all := lw_g (lw_at lw_m10 193 rfl) rfl
theorem q2526 : (Jvm.Cond.methodLink "SpendHouseLaw" (103 : Nat) ({ cls := "SpendHouse", name := "ran", desc := "(I)I" } : Jvm.MethodName)) ∈ lw_all := lw_g (lw_at lw_m10 194 rfl) rfl
theorem q2527 : (Jvm.Cond.instanceMethod ({ cls := "SpendHouse", name := "ran", desc := "(I)I" } : Jvm.MethodName)) ∈ lw_all := lw_g (lw_at lw_m10 195 rfl) rfl
theorem q2528 : (Jvm.Cond.selects "SpendHouse" ({ cls := "SpendHouse", name := "ran", desc := "(I)I" } : Jvm.MethodName) ({ cls := "SpendHouse", name := "ran", desc := "(I)I" } : Jvm.MethodName)) ∈ lw_all := lw_g (lw_at lw_m10 196 rfl) rfl
theorem q2529 : (Jvm.Cond.code ({ cls := "SpendHouse", name := "ran", desc := "(I)I" } : Jvm.MethodName) prog_1_method_41_code (2 : Nat) (Option.some Jvm.ClassFile.FieldType.int)) ∈ lw_all := lw_g (lw_at lw_m10 197 rfl) rfl
theorem q2530 : (Jvm.Cond.methodLink "SpendHouseLaw" (107 : Nat) ({ cls := "SpendHouse", name := "hash", desc := "(III)I" } : Jvm.MethodName)) ∈ lw_all := lw_g (lw_at lw_m10 198 rfl) rfl
theorem q2531 : (Jvm.Cond.instanceMethod ({ cls := "SpendHouse", name := "hash", desc := "(III)I" } : Jvm.MethodName)) ∈ lw_all := lw_g (lw_at lw_m10 199 rfl) rfl
theorem q2532 : (Jvm.Cond.selects "SpendHouse" ({ cls := "SpendHouse", name := "hash", desc := "(III)I" } : Jvm.MethodName) ({ cls := "SpendHouse", name := "hash", desc := "(III)I" } : Jvm.MethodName)) ∈ lw_all := lw_g (lw_at lw_m10 200 rfl) rfl
theorem q2533 : (Jvm.Cond.code ({ cls := "SpendHouse", name := "hash", desc := "(III)I" } : Jvm.MethodName) prog_1_method_42_code (5 : Nat) (Option.some Jvm.ClassFile.FieldType.int)) ∈ lw_all := lw_g (lw_at lw_m10 201 rfl) rfl
theorem q2534 : (Jvm.Cond.methodLink "SpendHouse" (359 : Nat) ({ cls := "SpendHouse$Hashes", name := "by", desc := "(I[BI[B)I" } : Jvm.MethodName)) ∈ lw_all := lw_g (lw_at lw_m10 202 rfl) rfl
theorem q2535 : (Jvm.Cond.methodLink "SpendHouse" (363 : Nat) ({ cls := "SpendHouse", name := "hasher", desc := "(I)I" } : Jvm.MethodName)) ∈ lw_all := lw_g (lw_at lw_m10 203 rfl) rfl
theorem q2536 : (Jvm.Cond.methodLink "SpendHouseLaw" (17 : Nat) ({ cls := "SpendHouseModel", name := "feed", desc := "(IIIII)I" } : Jvm.MethodName)) ∈ lw_all := lw_g (lw_at lw_m10 204 rfl) rfl
theorem q2537 : (Jvm.Cond.instanceMethod ({ cls := "SpendHouseModel", name := "feed", desc := "(IIIII)I" } : Jvm.MethodName)) ∈ lw_all := lw_g (lw_at lw_m10 205 rfl) rfl
theorem q2538 : (Jvm.Cond.selects "SpendHouseModel" ({ cls := "SpendHouseModel", name := "feed", desc := "(IIIII)I" } : Jvm.MethodName) ({ cls := "SpendHouseModel", name := "feed", desc := "(IIIII)I" } : Jvm.MethodName)) ∈ lw_all := lw_g (lw_at lw_m10 206 rfl) rfl
theorem q2539 : (Jvm.Cond.code ({ cls := "SpendHouseModel", name := "feed", desc := "(IIIII)I" } : Jvm.MethodName) prog_23_method_3_code (6 : Nat) (Option.some Jvm.ClassFile.FieldType.int)) ∈ lw_all := lw_g (lw_at lw_m10 207 rfl) rfl
theorem q2540 : (Jvm.Cond.methodLink "SpendHouseModel" (11 : Nat) ({ cls := "SpendHouseModel", name := "four", desc := "(I)V" } : Jvm.MethodName)) ∈ lw_all := lw_g (lw_at lw_m10 208 rfl) rfl
theorem q2541 : (Jvm.Cond.privateMethod ({ cls := "SpendHouseModel", name := "four", desc := "(I)V" } : Jvm.MethodName)) ∈ lw_tbl := lw_at lw_m10 209 rfl
theorem q2542 : (Jvm.Cond.instanceMethod ({ cls := "SpendHouseModel", name := "four", desc := "(I)V" } : Jvm.MethodName)) ∈ lw_all := lw_g (lw_at lw_m10 210 rfl) rfl
theorem q2543 : (Jvm.Cond.instantiable "SpendHouseModel" (79 : Nat)) ∈ lw_all := lw_g (lw_at lw_m10 211 rfl) rfl
theorem q2544 : (Jvm.Cond.code ({ cls := "SpendHouseModel", name := "four", desc := "(I)V" } : Jvm.MethodName) prog_23_method_2_code (3 : Nat) (Option.none : Option Jvm.ClassFile.FieldType)) ∈ lw_all := lw_g (lw_at lw_m10 212 rfl) rfl
theorem q2545 : (Jvm.Cond.methodLink "SpendHouseLaw" (22 : Nat) ({ cls := "SpendHouseModel", name := "end", desc := "(I)I" } : Jvm.MethodName)) ∈ lw_all := lw_g (lw_at lw_m10 213 rfl) rfl
theorem q2546 : (Jvm.Cond.instanceMethod ({ cls := "SpendHouseModel", name := "end", desc := "(I)I" } : Jvm.MethodName)) ∈ lw_all := lw_g (lw_at lw_m10 214 rfl) rfl
theorem q2547 : (Jvm.Cond.selects "SpendHouseModel" ({ cls := "SpendHouseModel", name := "end", desc := "(I)I" } : Jvm.MethodName) ({ cls := "SpendHouseModel", name := "end", desc := "(I)I" } : Jvm.MethodName)) ∈ lw_all := lw_g (lw_at lw_m10 215 rfl) rfl
theorem q2548 : (Jvm.Cond.code ({ cls := "SpendHouseModel", name := "end", desc := "(I)I" } : Jvm.MethodName) prog_23_method_4_code (2 : Nat) (Option.some Jvm.ClassFile.FieldType.int)) ∈ lw_all := lw_g (lw_at lw_m10 216 rfl) rfl
theorem q2549 : (Jvm.Cond.methodLink "SpendHouseModel" (15 : Nat) ({ cls := "SpendHouseModel", name := "in", desc := "(III)Z" } : Jvm.MethodName)) ∈ lw_all := lw_g (lw_at lw_m10 217 rfl) rfl
theorem q2550 : (Jvm.Cond.static ({ cls := "SpendHouseModel", name := "in", desc := "(III)Z" } : Jvm.MethodName)) ∈ lw_all := lw_g (lw_at lw_m10 218 rfl) rfl
theorem q2551 : (Jvm.Cond.code ({ cls := "SpendHouseModel", name := "in", desc := "(III)Z" } : Jvm.MethodName) prog_23_method_1_code (3 : Nat) (Option.some Jvm.ClassFile.FieldType.boolean)) ∈ lw_all := lw_g (lw_at lw_m10 219 rfl) rfl
theorem q2552 : (Jvm.Cond.classLink "SpendHouseLaw" (10 : Nat) "SpendHouseModel") ∈ lw_all := lw_g (lw_at lw_m10 220 rfl) rfl
theorem q2553 : (Jvm.Cond.methodLink "SpendHouseLaw" (12 : Nat) ({ cls := "SpendHouseModel", name := "<init>", desc := "()V" } : Jvm.MethodName)) ∈ lw_all := lw_g (lw_at lw_m10 221 rfl) rfl
theorem q2554 : (Jvm.Cond.instanceMethod ({ cls := "SpendHouseModel", name := "<init>", desc := "()V" } : Jvm.MethodName)) ∈ lw_all := lw_g (lw_at lw_m10 222 rfl) rfl
theorem q2555 : (Jvm.Cond.code ({ cls := "SpendHouseModel", name := "<init>", desc := "()V" } : Jvm.MethodName) prog_23_method_19_code (3 : Nat) (Option.none : Option Jvm.ClassFile.FieldType)) ∈ lw_all := lw_g (lw_at lw_m10 223 rfl) rfl
theorem q2556 : (Jvm.Cond.methodLink "SpendHouseModel" (106 : Nat) ({ cls := "java/lang/Object", name := "<init>", desc := "()V" } : Jvm.MethodName)) ∈ lw_all := lw_g (lw_at lw_m10 224 rfl) rfl
theorem q2557 : (Jvm.Cond.constant "SpendHouseModel" (111 : Nat) (1116352408 : Int32)) ∈ lw_all := lw_g (lw_at lw_m10 225 rfl) rfl
theorem q2558 : (Jvm.Cond.constant "SpendHouseModel" (112 : Nat) (1899447441 : Int32)) ∈ lw_all := lw_g (lw_at lw_m10 226 rfl) rfl
theorem q2559 : (Jvm.Cond.constant "SpendHouseModel" (113 : Nat) (-1245643825 : Int32)) ∈ lw_all := lw_g (lw_at lw_m10 227 rfl) rfl
theorem q2560 : (Jvm.Cond.constant "SpendHouseModel" (114 : Nat) (-373957723 : Int32)) ∈ lw_all := lw_g (lw_at lw_m10 228 rfl) rfl
theorem q2561 : (Jvm.Cond.constant "SpendHouseModel" (115 : Nat) (961987163 : Int32)) ∈ lw_all := lw_g (lw_at lw_m10 229 rfl) rfl
theorem q2562 : (Jvm.Cond.constant "SpendHouseModel" (116 : Nat) (1508970993 : Int32)) ∈ lw_all := lw_g (lw_at lw_m10 230 rfl) rfl
theorem q2563 : (Jvm.Cond.constant "SpendHouseModel" (117 : Nat) (-1841331548 : Int32)) ∈ lw_all := lw_g (lw_at lw_m10 231 rfl) rfl
theorem q2564 : (Jvm.Cond.constant "SpendHouseModel" (118 : Nat) (-1424204075 : Int32)) ∈ lw_all := lw_g (lw_at lw_m10 232 rfl) rfl
theorem q2565 : (Jvm.Cond.constant "SpendHouseModel" (119 : Nat) (-670586216 : Int32)) ∈ lw_all := lw_g (lw_at lw_m10 233 rfl) rfl
theorem q2566 : (Jvm.Cond.constant "SpendHouseModel" (120 : Nat) (310598401 : Int32)) ∈ lw_all := lw_g (lw_at lw_m10 234 rfl) rfl
theorem q2567 : (Jvm.Cond.constant "SpendHouseModel" (121 : Nat) (607225278 : Int32)) ∈ lw_all := lw_g (lw_at lw_m10 235 rfl) rfl
theorem q2568 : (Jvm.Cond.constant "SpendHouseModel" (122 : Nat) (1426881987 : Int32)) ∈ lw_all := lw_g (lw_at lw_m10 236 rfl) rfl
theorem q2569 : (Jvm.Cond.constant "SpendHouseModel" (123 : Nat) (1925078388 : Int32)) ∈ lw_all := lw_g (lw_at lw_m10 237 rfl) rfl
theorem q2570 : (Jvm.Cond.constant "SpendHouseModel" (124 : Nat) (-2132889090 : Int32)) ∈ lw_all := lw_g (lw_at lw_m10 238 rfl) rfl
theorem q2571 : (Jvm.Cond.constant "SpendHouseModel" (125 : Nat) (-1680079193 : Int32)) ∈ lw_all := lw_g (lw_at lw_m10 239 rfl) rfl
theorem q2572 : (Jvm.Cond.constant "SpendHouseModel" (126 : Nat) (-1046744716 : Int32)) ∈ lw_all := lw_g (lw_at lw_m11 0 rfl) rfl
theorem q2573 : (Jvm.Cond.constant "SpendHouseModel" (127 : Nat) (-459576895 : Int32)) ∈ lw_all := lw_g (lw_at lw_m11 1 rfl) rfl
theorem q2574 : (Jvm.Cond.constant "SpendHouseModel" (128 : Nat) (-272742522 : Int32)) ∈ lw_all := lw_g (lw_at lw_m11 2 rfl) rfl
theorem q2575 : (Jvm.Cond.constant "SpendHouseModel" (129 : Nat) (264347078 : Int32)) ∈ lw_all := lw_g (lw_at lw_m11 3 rfl) rfl
theorem q2576 : (Jvm.Cond.constant "SpendHouseModel" (130 : Nat) (604807628 : Int32)) ∈ lw_all := lw_g (lw_at lw_m11 4 rfl) rfl
theorem q2577 : (Jvm.Cond.constant "SpendHouseModel" (131 : Nat) (770255983 : Int32)) ∈ lw_all := lw_g (lw_at lw_m11 5 rfl) rfl
theorem q2578 : (Jvm.Cond.constant "SpendHouseModel" (132 : Nat) (1249150122 : Int32)) ∈ lw_all := lw_g (lw_at lw_m11 6 rfl) rfl
theorem q2579 : (Jvm.Cond.constant "SpendHouseModel" (133 : Nat) (1555081692 : Int32)) ∈ lw_all := lw_g (lw_at lw_m11 7 rfl) rfl
theorem q2580 : (Jvm.Cond.constant "SpendHouseModel" (134 : Nat) (1996064986 : Int32)) ∈ lw_all := lw_g (lw_at lw_m11 8 rfl) rfl
theorem q2581 : (Jvm.Cond.constant "SpendHouseModel" (135 : Nat) (-1740746414 : Int32)) ∈ lw_all := lw_g (lw_at lw_m11 9 rfl) rfl
theorem q2582 : (Jvm.Cond.constant "SpendHouseModel" (136 : Nat) (-1473132947 : Int32)) ∈ lw_all := lw_g (lw_at lw_m11 10 rfl) rfl
theorem q2583 : (Jvm.Cond.constant "SpendHouseModel" (137 : Nat) (-1341970488 : Int32)) ∈ lw_all := lw_g (lw_at lw_m11 11 rfl) rfl
theorem q2584 : (Jvm.Cond.constant "SpendHouseModel" (138 : Nat) (-1084653625 : Int32)) ∈ lw_all := lw_g (lw_at lw_m11 12 rfl) rfl
theorem q2585 : (Jvm.Cond.constant "SpendHouseModel" (139 : Nat) (-958395405 : Int32)) ∈ lw_all := lw_g (lw_at lw_m11 13 rfl) rfl
theorem q2586 : (Jvm.Cond.constant "SpendHouseModel" (140 : Nat) (-710438585 : Int32)) ∈ lw_all := lw_g (lw_at lw_m11 14 rfl) rfl
theorem q2587 : (Jvm.Cond.constant "SpendHouseModel" (141 : Nat) (113926993 : Int32)) ∈ lw_all := lw_g (lw_at lw_m11 15 rfl) rfl
theorem q2588 : (Jvm.Cond.constant "SpendHouseModel" (142 : Nat) (338241895 : Int32)) ∈ lw_all := lw_g (lw_at lw_m11 16 rfl) rfl
theorem q2589 : (Jvm.Cond.constant "SpendHouseModel" (143 : Nat) (666307205 : Int32)) ∈ lw_all := lw_g (lw_at lw_m11 17 rfl) rfl
theorem q2590 : (Jvm.Cond.constant "SpendHouseModel" (144 : Nat) (773529912 : Int32)) ∈ lw_all := lw_g (lw_at lw_m11 18 rfl) rfl
theorem q2591 : (Jvm.Cond.constant "SpendHouseModel" (145 : Nat) (1294757372 : Int32)) ∈ lw_all := lw_g (lw_at lw_m11 19 rfl) rfl
theorem q2592 : (Jvm.Cond.constant "SpendHouseModel" (146 : Nat) (1396182291 : Int32)) ∈ lw_all := lw_g (lw_at lw_m11 20 rfl) rfl
theorem q2593 : (Jvm.Cond.constant "SpendHouseModel" (147 : Nat) (1695183700 : Int32)) ∈ lw_all := lw_g (lw_at lw_m11 21 rfl) rfl
theorem q2594 : (Jvm.Cond.constant "SpendHouseModel" (148 : Nat) (1986661051 : Int32)) ∈ lw_all := lw_g (lw_at lw_m11 22 rfl) rfl
theorem q2595 : (Jvm.Cond.constant "SpendHouseModel" (149 : Nat) (-2117940946 : Int32)) ∈ lw_all := lw_g (lw_at lw_m11 23 rfl) rfl
theorem q2596 : (Jvm.Cond.constant "SpendHouseModel" (150 : Nat) (-1838011259 : Int32)) ∈ lw_all := lw_g (lw_at lw_m11 24 rfl) rfl
theorem q2597 : (Jvm.Cond.constant "SpendHouseModel" (151 : Nat) (-1564481375 : Int32)) ∈ lw_all := lw_g (lw_at lw_m11 25 rfl) rfl
theorem q2598 : (Jvm.Cond.constant "SpendHouseModel" (152 : Nat) (-1474664885 : Int32)) ∈ lw_all := lw_g (lw_at lw_m11 26 rfl) rfl
theorem q2599 : (Jvm.Cond.constant "SpendHouseModel" (153 : Nat) (-1035236496 : Int32)) ∈ lw_all := lw_g (lw_at lw_m11 27 rfl) rfl
theorem q2600 : (Jvm.Cond.constant "SpendHouseModel" (154 : Nat) (-949202525 : Int32)) ∈ lw_all := lw_g (lw_at lw_m11 28 rfl) rfl
theorem q2601 : (Jvm.Cond.constant "SpendHouseModel" (155 : Nat) (-778901479 : Int32)) ∈ lw_all := lw_g (lw_at lw_m11 29 rfl) rfl
theorem q2602 : (Jvm.Cond.constant "SpendHouseModel" (156 : Nat) (-694614492 : Int32)) ∈ lw_all := lw_g (lw_at lw_m11 30 rfl) rfl
theorem q2603 : (Jvm.Cond.constant "SpendHouseModel" (157 : Nat) (-200395387 : Int32)) ∈ lw_all := lw_g (lw_at lw_m11 31 rfl) rfl
theorem q2604 : (Jvm.Cond.constant "SpendHouseModel" (158 : Nat) (275423344 : Int32)) ∈ lw_all := lw_g (lw_at lw_m11 32 rfl) rfl
theorem q2605 : (Jvm.Cond.constant "SpendHouseModel" (159 : Nat) (430227734 : Int32)) ∈ lw_all := lw_g (lw_at lw_m11 33 rfl) rfl
theorem q2606 : (Jvm.Cond.constant "SpendHouseModel" (160 : Nat) (506948616 : Int32)) ∈ lw_all := lw_g (lw_at lw_m11 34 rfl) rfl
theorem q2607 : (Jvm.Cond.constant "SpendHouseModel" (161 : Nat) (659060556 : Int32)) ∈ lw_all := lw_g (lw_at lw_m11 35 rfl) rfl
theorem q2608 : (Jvm.Cond.constant "SpendHouseModel" (162 : Nat) (883997877 : Int32)) ∈ lw_all := lw_g (lw_at lw_m11 36 rfl) rfl
theorem q2609 : (Jvm.Cond.constant "SpendHouseModel" (163 : Nat) (958139571 : Int32)) ∈ lw_all := lw_g (lw_at lw_m11 37 rfl) rfl
theorem q2610 : (Jvm.Cond.constant "SpendHouseModel" (164 : Nat) (1322822218 : Int32)) ∈ lw_all := lw_g (lw_at lw_m11 38 rfl) rfl
theorem q2611 : (Jvm.Cond.constant "SpendHouseModel" (165 : Nat) (1537002063 : Int32)) ∈ lw_all := lw_g (lw_at lw_m11 39 rfl) rfl
theorem q2612 : (Jvm.Cond.constant "SpendHouseModel" (166 : Nat) (1747873779 : Int32)) ∈ lw_all := lw_g (lw_at lw_m11 40 rfl) rfl
theorem q2613 : (Jvm.Cond.constant "SpendHouseModel" (167 : Nat) (1955562222 : Int32)) ∈ lw_all := lw_g (lw_at lw_m11 41 rfl) rfl
theorem q2614 : (Jvm.Cond.constant "SpendHouseModel" (168 : Nat) (2024104815 : Int32)) ∈ lw_all := lw_g (lw_at lw_m11 42 rfl) rfl
theorem q2615 : (Jvm.Cond.constant "SpendHouseModel" (169 : Nat) (-2067236844 : Int32)) ∈ lw_all := lw_g (lw_at lw_m11 43 rfl) rfl
theorem q2616 : (Jvm.Cond.constant "SpendHouseModel" (170 : Nat) (-1933114872 : Int32)) ∈ lw_all := lw_g (lw_at lw_m11 44 rfl) rfl
theorem q2617 : (Jvm.Cond.constant "SpendHouseModel" (171 : Nat) (-1866530822 : Int32)) ∈ lw_all := lw_g (lw_at lw_m11 45 rfl) rfl
theorem q2618 : (Jvm.Cond.constant "SpendHouseModel" (172 : Nat) (-1538233109 : Int32)) ∈ lw_all := lw_g (lw_at lw_m11 46 rfl) rfl
theorem q2619 : (Jvm.Cond.constant "SpendHouseModel" (173 : Nat) (-1090935817 : Int32)) ∈ lw_all := lw_g (lw_at lw_m11 47 rfl) rfl
theorem q2620 : (Jvm.Cond.constant "SpendHouseModel" (174 : Nat) (-965641998 : Int32)) ∈ lw_all := lw_g (lw_at lw_m11 48 rfl) rfl
theorem q2621 : (Jvm.Cond.constant "SpendHouseModel" (175 : Nat) (1779033703 : Int32)) ∈ lw_all := lw_g (lw_at lw_m11 49 rfl) rfl
theorem q2622 : (Jvm.Cond.constant "SpendHouseModel" (176 : Nat) (-1150833019 : Int32)) ∈ lw_all := lw_g (lw_at lw_m11 50 rfl) rfl
theorem q2623 : (Jvm.Cond.constant "SpendHouseModel" (177 : Nat) (1013904242 : Int32)) ∈ lw_all := lw_g (lw_at lw_m11 51 rfl) rfl
theorem q2624 : (Jvm.Cond.constant "SpendHouseModel" (178 : Nat) (-1521486534 : Int32)) ∈ lw_all := lw_g (lw_at lw_m11 52 rfl) rfl
theorem q2625 : (Jvm.Cond.constant "SpendHouseModel" (179 : Nat) (1359893119 : Int32)) ∈ lw_all := lw_g (lw_at lw_m11 53 rfl) rfl
theorem q2626 : (Jvm.Cond.constant "SpendHouseModel" (180 : Nat) (-1694144372 : Int32)) ∈ lw_all := lw_g (lw_at lw_m11 54 rfl) rfl
theorem q2627 : (Jvm.Cond.constant "SpendHouseModel" (181 : Nat) (528734635 : Int32)) ∈ lw_all := lw_g (lw_at lw_m11 55 rfl) rfl
theorem q2628 : (Jvm.Cond.constant "SpendHouseModel" (182 : Nat) (1541459225 : Int32)) ∈ lw_all := lw_g (lw_at lw_m11 56 rfl) rfl
theorem q2629 : (Jvm.Cond.constant "SpendHouseModel" (183 : Nat) (1518500249 : Int32)) ∈ lw_all := lw_g (lw_at lw_m11 57 rfl) rfl
theorem q2630 : (Jvm.Cond.constant "SpendHouseModel" (184 : Nat) (1859775393 : Int32)) ∈ lw_all := lw_g (lw_at lw_m11 58 rfl) rfl
theorem q2631 : (Jvm.Cond.constant "SpendHouseModel" (185 : Nat) (-1894007588 : Int32)) ∈ lw_all := lw_g (lw_at lw_m11 59 rfl) rfl
theorem q2632 : (Jvm.Cond.constant "SpendHouseModel" (186 : Nat) (-1454113458 : Int32)) ∈ lw_all := lw_g (lw_at lw_m11 60 rfl) rfl
theorem q2633 : (Jvm.Cond.constant "SpendHouseModel" (187 : Nat) (1352829926 : Int32)) ∈ lw_all := lw_g (lw_at lw_m11 61 rfl) rfl
theorem q2634 : (Jvm.Cond.constant "SpendHouseModel" (188 : Nat) (1548603684 : Int32)) ∈ lw_all := lw_g (lw_at lw_m11 62 rfl) rfl
theorem q2635 : (Jvm.Cond.constant "SpendHouseModel" (189 : Nat) (1836072691 : Int32)) ∈ lw_all := lw_g (lw_at lw_m11 63 rfl) rfl
theorem q2636 : (Jvm.Cond.constant "SpendHouseModel" (190 : Nat) (2053994217 : Int32)) ∈ lw_all := lw_g (lw_at lw_m11 64 rfl) rfl
theorem q2637 : (Jvm.Cond.constant "SpendHouseModel" (261 : Nat) (400000 : Int32)) ∈ lw_all := lw_g (lw_at lw_m11 65 rfl) rfl
theorem q2638 : (Jvm.Cond.constant "SpendHouseModel" (286 : Nat) (200000 : Int32)) ∈ lw_all := lw_g (lw_at lw_m11 66 rfl) rfl
theorem q2639 : (Jvm.Cond.methodLink "SpendHouseModel" (25 : Nat) ({ cls := "SpendHouseModel", name := "say", desc := "(I)V" } : Jvm.MethodName)) ∈ lw_all := lw_g (lw_at lw_m11 67 rfl) rfl
theorem q2640 : (Jvm.Cond.privateMethod ({ cls := "SpendHouseModel", name := "say", desc := "(I)V" } : Jvm.MethodName)) ∈ lw_tbl := lw_at lw_m11 68 rfl
theorem q2641 : (Jvm.Cond.instanceMethod ({ cls := "SpendHouseModel", name := "say", desc := "(I)V" } : Jvm.MethodName)) ∈ lw_all := lw_g (lw_at lw_m11 69 rfl) rfl
theorem q2642 : (Jvm.Cond.code ({ cls := "SpendHouseModel", name := "say", desc := "(I)V" } : Jvm.MethodName) prog_23_method_7_code (2 : Nat) (Option.none : Option Jvm.ClassFile.FieldType)) ∈ lw_all := lw_g (lw_at lw_m11 70 rfl) rfl
theorem q2643 : (Jvm.Cond.methodLink "SpendHouseModel" (97 : Nat) ({ cls := "SpendHouseModel", name := "sha", desc := "()V" } : Jvm.MethodName)) ∈ lw_all := lw_g (lw_at lw_m11 71 rfl) rfl
theorem q2644 : (Jvm.Cond.privateMethod ({ cls := "SpendHouseModel", name := "sha", desc := "()V" } : Jvm.MethodName)) ∈ lw_tbl := lw_at lw_m11 72 rfl
theorem q2645 : (Jvm.Cond.instanceMethod ({ cls := "SpendHouseModel", name := "sha", desc := "()V" } : Jvm.MethodName)) ∈ lw_all := lw_g (lw_at lw_m11 73 rfl) rfl
theorem q2646 : (Jvm.Cond.code ({ cls := "SpendHouseModel", name := "sha", desc := "()V" } : Jvm.MethodName) prog_23_method_9_code (2 : Nat) (Option.none : Option Jvm.ClassFile.FieldType)) ∈ lw_all := lw_g (lw_at lw_m11 74 rfl) rfl
theorem q2647 : (Jvm.Cond.methodLink "SpendHouseModel" (28 : Nat) ({ cls := "SpendHouseModel", name := "fills", desc := "(IZ)V" } : Jvm.MethodName)) ∈ lw_all := lw_g (lw_at lw_m11 75 rfl) rfl
theorem q2648 : (Jvm.Cond.privateMethod ({ cls := "SpendHouseModel", name := "fills", desc := "(IZ)V" } : Jvm.MethodName)) ∈ lw_tbl := lw_at lw_m11 76 rfl
theorem q2649 : (Jvm.Cond.instanceMethod ({ cls := "SpendHouseModel", name := "fills", desc := "(IZ)V" } : Jvm.MethodName)) ∈ lw_all := lw_g (lw_at lw_m11 77 rfl) rfl
theorem q2650 : (Jvm.Cond.code ({ cls := "SpendHouseModel", name := "fills", desc := "(IZ)V" } : Jvm.MethodName) prog_23_method_8_code (5 : Nat) (Option.none : Option Jvm.ClassFile.FieldType)) ∈ lw_all := lw_g (lw_at lw_m11 78 rfl) rfl
theorem q2651 : (Jvm.Cond.methodLink "SpendHouseModel" (38 : Nat) ({ cls := "SpendHouseModel", name := "shaBlock", desc := "(I)V" } : Jvm.MethodName)) ∈ lw_all := lw_g (lw_at lw_m11 79 rfl) rfl
theorem q2652 : (Jvm.Cond.privateMethod ({ cls := "SpendHouseModel", name := "shaBlock", desc := "(I)V" } : Jvm.MethodName)) ∈ lw_tbl := lw_at lw_m11 80 rfl
theorem q2653 : (Jvm.Cond.instanceMethod ({ cls := "SpendHouseModel", name := "shaBlock", desc := "(I)V" } : Jvm.MethodName)) ∈ lw_all := lw_g (lw_at lw_m11 81 rfl) rfl
theorem q2654 : (Jvm.Cond.code ({ cls := "SpendHouseModel", name := "shaBlock", desc := "(I)V" } : Jvm.MethodName) prog_23_method_10_code (13 : Nat) (Option.none : Option Jvm.ClassFile.FieldType)) ∈ lw_all := lw_g (lw_at lw_m11 82 rfl) rfl
theorem q2655 : (Jvm.Cond.methodLink "SpendHouseModel" (47 : Nat) ({ cls := "SpendHouseModel", name := "right", desc := "(II)I" } : Jvm.MethodName)) ∈ lw_all := lw_g (lw_at lw_m11 83 rfl) rfl
theorem q2656 : (Jvm.Cond.static ({ cls := "SpendHouseModel", name := "right", desc := "(II)I" } : Jvm.MethodName)) ∈ lw_all := lw_g (lw_at lw_m11 84 rfl) rfl
theorem q2657 : (Jvm.Cond.code ({ cls := "SpendHouseModel", name := "right", desc := "(II)I" } : Jvm.MethodName) prog_23_method_5_code (2 : Nat) (Option.some Jvm.ClassFile.FieldType.int)) ∈ lw_all := lw_g (lw_at lw_m11 85 rfl) rfl
theorem q2658 : (Jvm.Cond.fieldLink "SpendHouseModel" (1 : Nat) "SpendHouseModel" "tape" "[I") ∈ lw_all := lw_g (lw_at lw_m11 86 rfl) rfl
theorem q2659 : (Jvm.Cond.fieldLink "SpendHouseModel" (7 : Nat) "SpendHouseModel" "taped" "I") ∈ lw_all := lw_g (lw_at lw_m11 87 rfl) rfl
theorem q2660 : (Jvm.Cond.fieldLink "SpendHouseModel" (19 : Nat) "SpendHouseModel" "said" "[I") ∈ lw_all := lw_g (lw_at lw_m11 88 rfl) rfl
theorem q2661 : (Jvm.Cond.fieldLink "SpendHouseModel" (22 : Nat) "SpendHouseModel" "sayings" "I") ∈ lw_all := lw_g (lw_at lw_m11 89 rfl) rfl
theorem q2662 : (Jvm.Cond.fieldLink "SpendHouseModel" (41 : Nat) "SpendHouseModel" "hash" "[I") ∈ lw_all := lw_g (lw_at lw_m11 90 rfl) rfl
theorem q2663 : (Jvm.Cond.fieldLink "SpendHouseModel" (44 : Nat) "SpendHouseModel" "words" "[I") ∈ lw_all := lw_g (lw_at lw_m11 91 rfl) rfl
theorem q2664 : (Jvm.Cond.fieldLink "SpendHouseModel" (32 : Nat) "SpendHouseModel" "state" "[I") ∈ lw_all := lw_g (lw_at lw_m11 92 rfl) rfl
theorem q2665 : (Jvm.Cond.fieldLink "SpendHouseModel" (51 : Nat) "SpendHouseModel" "rounds" "[I") ∈ lw_all := lw_g (lw_at lw_m11 93 rfl) rfl
theorem q2666 : (Jvm.Cond.fieldLink "SpendHouseModel" (35 : Nat) "SpendHouseModel" "begin" "[I") ∈ lw_all := lw_g (lw_at lw_m11 94 rfl) rfl
theorem q2667 : (Jvm.Cond.fieldLink "SpendHouseModel" (69 : Nat) "SpendHouseModel" "rows" "[I") ∈ lw_all := lw_g (lw_at lw_m11 95 rfl) rfl
theorem q2668 : (Jvm.Cond.fieldLink "SpendHouseModel" (72 : Nat) "SpendHouseModel" "rows2" "[I") ∈ lw_all := lw_g (lw_at lw_m11 96 rfl) rfl
theorem q2669 : (Jvm.Cond.fieldLink "SpendHouseModel" (81 : Nat) "SpendHouseModel" "turns" "[I") ∈ lw_all := lw_g (lw_at lw_m11 97 rfl) rfl
theorem q2670 : (Jvm.Cond.fieldLink "SpendHouseModel" (84 : Nat) "SpendHouseModel" "turns2" "[I") ∈ lw_all := lw_g (lw_at lw_m11 98 rfl) rfl
theorem q2671 : (Jvm.Cond.fieldLink "SpendHouseModel" (75 : Nat) "SpendHouseModel" "adds" "[I") ∈ lw_all := lw_g (lw_at lw_m11 99 rfl) rfl
theorem q2672 : (Jvm.Cond.fieldLink "SpendHouseModel" (78 : Nat) "SpendHouseModel" "adds2" "[I") ∈ lw_all := lw_g (lw_at lw_m11 100 rfl) rfl
theorem q2673 : (Jvm.Cond.fieldLink "SpendHouseModel" (62 : Nat) "SpendHouseModel" "line" "[I") ∈ lw_all := lw_g (lw_at lw_m11 101 rfl) rfl
theorem q2674 : (Jvm.Cond.fieldLink "SpendHouseModel" (191 : Nat) "SpendHouseModel" "keys" "[I") ∈ lw_all := lw_g (lw_at lw_m11 102 rfl) rfl
theorem q2675 : (Jvm.Cond.fieldLink "SpendHouseModel" (194 : Nat) "SpendHouseModel" "isSigned" "[Z") ∈ lw_all := lw_g (lw_at lw_m11 103 rfl) rfl
theorem q2676 : (Jvm.Cond.fieldLink "SpendHouseModel" (198 : Nat) "SpendHouseModel" "isKnown" "[Z") ∈ lw_all := lw_g (lw_at lw_m11 104 rfl) rfl
theorem q2677 : (Jvm.Cond.fieldLink "SpendHouseModel" (306 : Nat) "SpendHouseModel" "locktime" "I") ∈ lw_all := lw_g (lw_at lw_m11 105 rfl) rfl
theorem q2678 : (Jvm.Cond.fieldLink "SpendHouseModel" (309 : Nat) "SpendHouseModel" "sequence" "I") ∈ lw_all := lw_g (lw_at lw_m11 106 rfl) rfl
theorem q2679 : (Jvm.Cond.fieldLink "SpendHouseModel" (201 : Nat) "SpendHouseModel" "kind" "[I") ∈ lw_all := lw_g (lw_at lw_m11 107 rfl) rfl
theorem q2680 : (Jvm.Cond.fieldLink "SpendHouseModel" (204 : Nat) "SpendHouseModel" "value" "[I") ∈ lw_all := lw_g (lw_at lw_m11 108 rfl) rfl
theorem q2681 : (Jvm.Cond.fieldLink "SpendHouseModel" (207 : Nat) "SpendHouseModel" "first" "[I") ∈ lw_all := lw_g (lw_at lw_m11 109 rfl) rfl
theorem q2682 : (Jvm.Cond.fieldLink "SpendHouseModel" (210 : Nat) "SpendHouseModel" "next" "[I") ∈ lw_all := lw_g (lw_at lw_m11 110 rfl) rfl
theorem q2683 : (Jvm.Cond.fieldLink "SpendHouseModel" (213 : Nat) "SpendHouseModel" "many" "[I") ∈ lw_all := lw_g (lw_at lw_m11 111 rfl) rfl
theorem q2684 : (Jvm.Cond.fieldLink "SpendHouseModel" (216 : Nat) "SpendHouseModel" "place" "[I") ∈ lw_all := lw_g (lw_at lw_m11 112 rfl) rfl
theorem q2685 : (Jvm.Cond.fieldLink "SpendHouseModel" (219 : Nat) "SpendHouseModel" "base" "[I") ∈ lw_all := lw_g (lw_at lw_m11 113 rfl) rfl
theorem q2686 : (Jvm.Cond.fieldLink "SpendHouseModel" (222 : Nat) "SpendHouseModel" "flags" "[I") ∈ lw_all := lw_g (lw_at lw_m11 114 rfl) rfl
theorem q2687 : (Jvm.Cond.fieldLink "SpendHouseModel" (225 : Nat) "SpendHouseModel" "locks" "[I") ∈ lw_all := lw_g (lw_at lw_m11 115 rfl) rfl
theorem q2688 : (Jvm.Cond.fieldLink "SpendHouseModel" (526 : Nat) "SpendHouseModel" "half" "I") ∈ lw_all := lw_g (lw_at lw_m11 116 rfl) rfl
theorem q2689 : (Jvm.Cond.fieldLink "SpendHouseModel" (326 : Nat) "SpendHouseModel" "nodes" "I") ∈ lw_all := lw_g (lw_at lw_m11 117 rfl) rfl
theorem q2690 : (Jvm.Cond.fieldLink "SpendHouseModel" (532 : Nat) "SpendHouseModel" "root" "I") ∈ lw_all := lw_g (lw_at lw_m11 118 rfl) rfl
theorem q2691 : (Jvm.Cond.fieldLink "SpendHouseModel" (535 : Nat) "SpendHouseModel" "has" "Z") ∈ lw_all := lw_g (lw_at lw_m11 119 rfl) rfl
theorem q2692 : (Jvm.Cond.fieldLink "SpendHouseModel" (539 : Nat) "SpendHouseModel" "hasPolicy" "Z") ∈ lw_all := lw_g (lw_at lw_m11 120 rfl) rfl
theorem q2693 : (Jvm.Cond.fieldLink "SpendHouseModel" (384 : Nat) "SpendHouseModel" "at" "I") ∈ lw_all := lw_g (lw_at lw_m11 121 rfl) rfl
theorem q2694 : (Jvm.Cond.fieldLink "SpendHouseModel" (387 : Nat) "SpendHouseModel" "size" "I") ∈ lw_all := lw_g (lw_at lw_m11 122 rfl) rfl
theorem q2695 : (Jvm.Cond.fieldLink "SpendHouseModel" (378 : Nat) "SpendHouseModel" "fault" "I") ∈ lw_all := lw_g (lw_at lw_m11 123 rfl) rfl
theorem q2696 : (Jvm.Cond.fieldLink "SpendHouseModel" (381 : Nat) "SpendHouseModel" "faultPlace" "I") ∈ lw_all := lw_g (lw_at lw_m11 124 rfl) rfl
theorem q2697 : (Jvm.Cond.fieldLink "SpendHouseModel" (461 : Nat) "SpendHouseModel" "read" "I") ∈ lw_all := lw_g (lw_at lw_m11 125 rfl) rfl
theorem q2698 : (Jvm.Cond.fieldLink "SpendHouseModel" (529 : Nat) "SpendHouseModel" "toldFault" "I") ∈ lw_all := lw_g (lw_at lw_m11 126 rfl) rfl
theorem q2699 : (Jvm.Cond.fieldLink "SpendHouseModel" (228 : Nat) "SpendHouseModel" "toldPlace" "I") ∈ lw_all := lw_g (lw_at lw_m11 127 rfl) rfl
theorem q2700 : (Jvm.Cond.fieldLink "SpendHouseModel" (231 : Nat) "SpendHouseModel" "waiting" "[I") ∈ lw_all := lw_g (lw_at lw_m11 128 rfl) rfl
theorem q2701 : (Jvm.Cond.fieldLink "SpendHouseModel" (520 : Nat) "SpendHouseModel" "waits" "I") ∈ lw_all := lw_g (lw_at lw_m11 129 rfl) rfl
theorem q2702 : (Jvm.Cond.fieldLink "SpendHouseModel" (590 : Nat) "SpendHouseModel" "policyRoot" "I") ∈ lw_all := lw_g (lw_at lw_m11 130 rfl) rfl
theorem q2703 : (Jvm.Cond.fieldLink "SpendHouseModel" (234 : Nat) "SpendHouseModel" "text" "[I") ∈ lw_all := lw_g (lw_at lw_m11 131 rfl) rfl
theorem q2704 : (Jvm.Cond.fieldLink "SpendHouseModel" (602 : Nat) "SpendHouseModel" "texts" "I") ∈ lw_all := lw_g (lw_at lw_m11 132 rfl) rfl
theorem q2705 : (Jvm.Cond.fieldLink "SpendHouseModel" (237 : Nat) "SpendHouseModel" "code" "[I") ∈ lw_all := lw_g (lw_at lw_m11 133 rfl) rfl
theorem q2706 : (Jvm.Cond.fieldLink "SpendHouseModel" (608 : Nat) "SpendHouseModel" "codes" "I") ∈ lw_all := lw_g (lw_at lw_m11 134 rfl) rfl
theorem q2707 : (Jvm.Cond.fieldLink "SpendHouseModel" (611 : Nat) "SpendHouseModel" "operations" "I") ∈ lw_all := lw_g (lw_at lw_m11 135 rfl) rfl
theorem q2708 : (Jvm.Cond.fieldLink "SpendHouseModel" (614 : Nat) "SpendHouseModel" "lastOp" "I") ∈ lw_all := lw_g (lw_at lw_m11 136 rfl) rfl
theorem q2709 : (Jvm.Cond.fieldLink "SpendHouseModel" (240 : Nat) "SpendHouseModel" "often" "[I") ∈ lw_all := lw_g (lw_at lw_m11 137 rfl) rfl
theorem q2710 : (Jvm.Cond.fieldLink "SpendHouseModel" (243 : Nat) "SpendHouseModel" "can" "[Z") ∈ lw_all := lw_g (lw_at lw_m11 138 rfl) rfl
theorem q2711 : (Jvm.Cond.fieldLink "SpendHouseModel" (246 : Nat) "SpendHouseModel" "hasSignature" "[Z") ∈ lw_all := lw_g (lw_at lw_m11 139 rfl) rfl
theorem q2712 : (Jvm.Cond.fieldLink "SpendHouseModel" (249 : Nat) "SpendHouseModel" "isBad" "[Z") ∈ lw_all := lw_g (lw_at lw_m11 140 rfl) rfl
theorem q2713 : (Jvm.Cond.fieldLink "SpendHouseModel" (252 : Nat) "SpendHouseModel" "weight" "[I") ∈ lw_all := lw_g (lw_at lw_m11 141 rfl) rfl
theorem q2714 : (Jvm.Cond.fieldLink "SpendHouseModel" (255 : Nat) "SpendHouseModel" "wayFrom" "[I") ∈ lw_all := lw_g (lw_at lw_m11 142 rfl) rfl
theorem q2715 : (Jvm.Cond.fieldLink "SpendHouseModel" (258 : Nat) "SpendHouseModel" "waySize" "[I") ∈ lw_all := lw_g (lw_at lw_m11 143 rfl) rfl
theorem q2716 : (Jvm.Cond.fieldLink "SpendHouseModel" (666 : Nat) "SpendHouseModel" "ways" "I") ∈ lw_all := lw_g (lw_at lw_m11 144 rfl) rfl
theorem q2717 : (Jvm.Cond.fieldLink "SpendHouseModel" (262 : Nat) "SpendHouseModel" "arena" "[I") ∈ lw_all := lw_g (lw_at lw_m11 145 rfl) rfl
theorem q2718 : (Jvm.Cond.fieldLink "SpendHouseModel" (669 : Nat) "SpendHouseModel" "used" "I") ∈ lw_all := lw_g (lw_at lw_m11 146 rfl) rfl
theorem q2719 : (Jvm.Cond.fieldLink "SpendHouseModel" (265 : Nat) "SpendHouseModel" "plus" "[I") ∈ lw_all := lw_g (lw_at lw_m11 147 rfl) rfl
theorem q2720 : (Jvm.Cond.fieldLink "SpendHouseModel" (268 : Nat) "SpendHouseModel" "minus" "[I") ∈ lw_all := lw_g (lw_at lw_m11 148 rfl) rfl
theorem q2721 : (Jvm.Cond.fieldLink "SpendHouseModel" (271 : Nat) "SpendHouseModel" "row0" "[I") ∈ lw_all := lw_g (lw_at lw_m11 149 rfl) rfl
theorem q2722 : (Jvm.Cond.fieldLink "SpendHouseModel" (274 : Nat) "SpendHouseModel" "row1" "[I") ∈ lw_all := lw_g (lw_at lw_m11 150 rfl) rfl
theorem q2723 : (Jvm.Cond.fieldLink "SpendHouseModel" (542 : Nat) "SpendHouseModel" "items" "I") ∈ lw_all := lw_g (lw_at lw_m11 151 rfl) rfl
theorem q2724 : (Jvm.Cond.fieldLink "SpendHouseModel" (277 : Nat) "SpendHouseModel" "itemSizes" "[I") ∈ lw_all := lw_g (lw_at lw_m11 152 rfl) rfl
theorem q2725 : (Jvm.Cond.fieldLink "SpendHouseModel" (280 : Nat) "SpendHouseModel" "itemBytes" "[I") ∈ lw_all := lw_g (lw_at lw_m11 153 rfl) rfl
theorem q2726 : (Jvm.Cond.fieldLink "SpendHouseModel" (283 : Nat) "SpendHouseModel" "sizes" "[I") ∈ lw_all := lw_g (lw_at lw_m11 154 rfl) rfl
theorem q2727 : (Jvm.Cond.fieldLink "SpendHouseModel" (287 : Nat) "SpendHouseModel" "bytes" "[I") ∈ lw_all := lw_g (lw_at lw_m11 155 rfl) rfl
theorem q2728 : (Jvm.Cond.fieldLink "SpendHouseModel" (721 : Nat) "SpendHouseModel" "top" "I") ∈ lw_all := lw_g (lw_at lw_m11 156 rfl) rfl
theorem q2729 : (Jvm.Cond.fieldLink "SpendHouseModel" (735 : Nat) "SpendHouseModel" "other" "I") ∈ lw_all := lw_g (lw_at lw_m11 157 rfl) rfl
theorem q2730 : (Jvm.Cond.fieldLink "SpendHouseModel" (718 : Nat) "SpendHouseModel" "verdict" "I") ∈ lw_all := lw_g (lw_at lw_m11 158 rfl) rfl
theorem q2731 : (Jvm.Cond.fieldLink "SpendHouseModel" (290 : Nat) "SpendHouseModel" "ranVerdict" "I") ∈ lw_all := lw_g (lw_at lw_m11 159 rfl) rfl
theorem q2732 : (Jvm.Cond.fieldLink "SpendHouseModel" (293 : Nat) "SpendHouseModel" "ranPlace" "I") ∈ lw_all := lw_g (lw_at lw_m11 160 rfl) rfl
theorem q2733 : (Jvm.Cond.fieldLink "SpendHouseModel" (732 : Nat) "SpendHouseModel" "ranMost" "I") ∈ lw_all := lw_g (lw_at lw_m11 161 rfl) rfl
theorem q2734 : (Jvm.Cond.fieldLink "SpendHouseModel" (744 : Nat) "SpendHouseModel" "pc" "I") ∈ lw_all := lw_g (lw_at lw_m11 162 rfl) rfl
theorem q2735 : (Jvm.Cond.fieldLink "SpendHouseModel" (296 : Nat) "SpendHouseModel" "isTaken" "[Z") ∈ lw_all := lw_g (lw_at lw_m11 163 rfl) rfl
theorem q2736 : (Jvm.Cond.fieldLink "SpendHouseModel" (729 : Nat) "SpendHouseModel" "branches" "I") ∈ lw_all := lw_g (lw_at lw_m11 164 rfl) rfl
theorem q2737 : (Jvm.Cond.laysFinal "SpendHouseModel" "SpendHouseModel" "tape" "[I") ∈ lw_all := lw_g (lw_at lw_m11 165 rfl) rfl
theorem q2739 : (Jvm.Cond.lays "SpendHouseModel" "SpendHouseModel" "taped" "I") ∈ lw_all := lw_g (lw_at lw_m11 167 rfl) rfl
theorem q2741 : (Jvm.Cond.laysFinal "SpendHouseModel" "SpendHouseModel" "said" "[I") ∈ lw_all := lw_g (lw_at lw_m11 169 rfl) rfl
theorem q2743 : (Jvm.Cond.lays "SpendHouseModel" "SpendHouseModel" "sayings" "I") ∈ lw_all := lw_g (lw_at lw_m11 171 rfl) rfl
theorem q2745 : (Jvm.Cond.laysFinal "SpendHouseModel" "SpendHouseModel" "hash" "[I") ∈ lw_all := lw_g (lw_at lw_m11 173 rfl) rfl
theorem q2747 : (Jvm.Cond.laysFinal "SpendHouseModel" "SpendHouseModel" "words" "[I") ∈ lw_all := lw_g (lw_at lw_m11 175 rfl) rfl
theorem q2749 : (Jvm.Cond.laysFinal "SpendHouseModel" "SpendHouseModel" "state" "[I") ∈ lw_all := lw_g (lw_at lw_m11 177 rfl) rfl
theorem q2751 : (Jvm.Cond.laysFinal "SpendHouseModel" "SpendHouseModel" "rounds" "[I") ∈ lw_all := lw_g (lw_at lw_m11 179 rfl) rfl
theorem q2753 : (Jvm.Cond.laysFinal "SpendHouseModel" "SpendHouseModel" "begin" "[I") ∈ lw_all := lw_g (lw_at lw_m11 181 rfl) rfl
theorem q2755 : (Jvm.Cond.laysFinal "SpendHouseModel" "SpendHouseModel" "rows" "[I") ∈ lw_all := lw_g (lw_at lw_m11 183 rfl) rfl
theorem q2757 : (Jvm.Cond.laysFinal "SpendHouseModel" "SpendHouseModel" "rows2" "[I") ∈ lw_all := lw_g (lw_at lw_m11 185 rfl) rfl
theorem q2759 : (Jvm.Cond.laysFinal "SpendHouseModel" "SpendHouseModel" "turns" "[I") ∈ lw_all := lw_g (lw_at lw_m11 187 rfl) rfl
theorem q2761 : (Jvm.Cond.laysFinal "SpendHouseModel" "SpendHouseModel" "turns2" "[I") ∈ lw_all := lw_g (lw_at lw_m11 189 rfl) rfl
theorem q2763 : (Jvm.Cond.laysFinal "SpendHouseModel" "SpendHouseModel" "adds" "[I") ∈ lw_all := lw_g (lw_at lw_m11 191 rfl) rfl
theorem q2765 : (Jvm.Cond.laysFinal "SpendHouseModel" "SpendHouseModel" "adds2" "[I") ∈ lw_all := lw_g (lw_at lw_m11 193 rfl) rfl
theorem q2767 : (Jvm.Cond.laysFinal "SpendHouseModel" "SpendHouseModel" "line" "[I") ∈ lw_all := lw_g (lw_at lw_m11 195 rfl) rfl
theorem q2769 : (Jvm.Cond.laysFinal "SpendHouseModel" "SpendHouseModel" "keys" "[I") ∈ lw_all := lw_g (lw_at lw_m11 197 rfl) rfl
theorem q2771 : (Jvm.Cond.laysFinal "SpendHouseModel" "SpendHouseModel" "isSigned" "[Z") ∈ lw_all := lw_g (lw_at lw_m11 199 rfl) rfl
theorem q2773 : (Jvm.Cond.laysFinal "SpendHouseModel" "SpendHouseModel" "isKnown" "[Z") ∈ lw_all := lw_g (lw_at lw_m11 201 rfl) rfl
theorem q2775 : (Jvm.Cond.lays "SpendHouseModel" "SpendHouseModel" "locktime" "I") ∈ lw_all := lw_g (lw_at lw_m11 203 rfl) rfl
theorem q2777 : (Jvm.Cond.lays "SpendHouseModel" "SpendHouseModel" "sequence" "I") ∈ lw_all := lw_g (lw_at lw_m11 205 rfl) rfl
theorem q2779 : (Jvm.Cond.laysFinal "SpendHouseModel" "SpendHouseModel" "kind" "[I") ∈ lw_all := lw_g (lw_at lw_m11 207 rfl) rfl
theorem q2781 : (Jvm.Cond.laysFinal "SpendHouseModel" "SpendHouseModel" "value" "[I") ∈ lw_all := lw_g (lw_at lw_m11 209 rfl) rfl
theorem q2783 : (Jvm.Cond.laysFinal "SpendHouseModel" "SpendHouseModel" "first" "[I") ∈ lw_all := lw_g (lw_at lw_m11 211 rfl) rfl
theorem q2785 : (Jvm.Cond.laysFinal "SpendHouseModel" "SpendHouseModel" "next" "[I") ∈ lw_all := lw_g (lw_at lw_m11 213 rfl) rfl
theorem q2787 : (Jvm.Cond.laysFinal "SpendHouseModel" "SpendHouseModel" "many" "[I") ∈ lw_all := lw_g (lw_at lw_m11 215 rfl) rfl
theorem q2789 : (Jvm.Cond.laysFinal "SpendHouseModel" "SpendHouseModel" "place" "[I") ∈ lw_all := lw_g (lw_at lw_m11 217 rfl) rfl
theorem q2791 : (Jvm.Cond.laysFinal "SpendHouseModel" "SpendHouseModel" "base" "[I") ∈ lw_all := lw_g (lw_at lw_m11 219 rfl) rfl
theorem q2793 : (Jvm.Cond.laysFinal "SpendHouseModel" "SpendHouseModel" "flags" "[I") ∈ lw_all := lw_g (lw_at lw_m11 221 rfl) rfl
theorem q2795 : (Jvm.Cond.laysFinal "SpendHouseModel" "SpendHouseModel" "locks" "[I") ∈ lw_all := lw_g (lw_at lw_m11 223 rfl) rfl
theorem q2797 : (Jvm.Cond.lays "SpendHouseModel" "SpendHouseModel" "half" "I") ∈ lw_all := lw_g (lw_at lw_m11 225 rfl) rfl
theorem q2799 : (Jvm.Cond.lays "SpendHouseModel" "SpendHouseModel" "nodes" "I") ∈ lw_all := lw_g (lw_at lw_m11 227 rfl) rfl
theorem q2801 : (Jvm.Cond.lays "SpendHouseModel" "SpendHouseModel" "root" "I") ∈ lw_all := lw_g (lw_at lw_m11 229 rfl) rfl
theorem q2803 : (Jvm.Cond.lays "SpendHouseModel" "SpendHouseModel" "has" "Z") ∈ lw_all := lw_g (lw_at lw_m11 231 rfl) rfl
theorem q2805 : (Jvm.Cond.lays "SpendHouseModel" "SpendHouseModel" "hasPolicy" "Z") ∈ lw_all := lw_g (lw_at lw_m11 233 rfl) rfl
theorem q2807 : (Jvm.Cond.lays "SpendHouseModel" "SpendHouseModel" "at" "I") ∈ lw_all := lw_g (lw_at lw_m11 235 rfl) rfl
theorem q2809 : (Jvm.Cond.lays "SpendHouseModel" "SpendHouseModel" "size" "I") ∈ lw_all := lw_g (lw_at lw_m11 237 rfl) rfl
theorem q2811 : (Jvm.Cond.lays "SpendHouseModel" "SpendHouseModel" "fault" "I") ∈ lw_all := lw_g (lw_at lw_m11 239 rfl) rfl
theorem q2813 : (Jvm.Cond.lays "SpendHouseModel" "SpendHouseModel" "faultPlace" "I") ∈ lw_all := lw_g (lw_at lw_m12 1 rfl) rfl
theorem q2815 : (Jvm.Cond.lays "SpendHouseModel" "SpendHouseModel" "read" "I") ∈ lw_all := lw_g (lw_at lw_m12 3 rfl) rfl
theorem q2817 : (Jvm.Cond.lays "SpendHouseModel" "SpendHouseModel" "toldFault" "I") ∈ lw_all := lw_g (lw_at lw_m12 5 rfl) rfl
theorem q2819 : (Jvm.Cond.lays "SpendHouseModel" "SpendHouseModel" "toldPlace" "I") ∈ lw_all := lw_g (lw_at lw_m12 7 rfl) rfl
theorem q2821 : (Jvm.Cond.laysFinal "SpendHouseModel" "SpendHouseModel" "waiting" "[I") ∈ lw_all := lw_g (lw_at lw_m12 9 rfl) rfl
theorem q2823 : (Jvm.Cond.lays "SpendHouseModel" "SpendHouseModel" "waits" "I") ∈ lw_all := lw_g (lw_at lw_m12 11 rfl) rfl
theorem q2825 : (Jvm.Cond.lays "SpendHouseModel" "SpendHouseModel" "policyRoot" "I") ∈ lw_all := lw_g (lw_at lw_m12 13 rfl) rfl
theorem q2827 : (Jvm.Cond.laysFinal "SpendHouseModel" "SpendHouseModel" "text" "[I") ∈ lw_all := lw_g (lw_at lw_m12 15 rfl) rfl
theorem q2829 : (Jvm.Cond.lays "SpendHouseModel" "SpendHouseModel" "texts" "I") ∈ lw_all := lw_g (lw_at lw_m12 17 rfl) rfl
theorem q2831 : (Jvm.Cond.laysFinal "SpendHouseModel" "SpendHouseModel" "code" "[I") ∈ lw_all := lw_g (lw_at lw_m12 19 rfl) rfl
theorem q2833 : (Jvm.Cond.lays "SpendHouseModel" "SpendHouseModel" "codes" "I") ∈ lw_all := lw_g (lw_at lw_m12 21 rfl) rfl
theorem q2835 : (Jvm.Cond.lays "SpendHouseModel" "SpendHouseModel" "operations" "I") ∈ lw_all := lw_g (lw_at lw_m12 23 rfl) rfl
theorem q2837 : (Jvm.Cond.lays "SpendHouseModel" "SpendHouseModel" "lastOp" "I") ∈ lw_all := lw_g (lw_at lw_m12 25 rfl) rfl
theorem q2839 : (Jvm.Cond.laysFinal "SpendHouseModel" "SpendHouseModel" "often" "[I") ∈ lw_all := lw_g (lw_at lw_m12 27 rfl) rfl
theorem q2841 : (Jvm.Cond.laysFinal "SpendHouseModel" "SpendHouseModel" "can" "[Z") ∈ lw_all := lw_g (lw_at lw_m12 29 rfl) rfl
theorem q2843 : (Jvm.Cond.laysFinal "SpendHouseModel" "SpendHouseModel" "hasSignature" "[Z") ∈ lw_all := lw_g (lw_at lw_m12 31 rfl) rfl
theorem q2845 : (Jvm.Cond.laysFinal "SpendHouseModel" "SpendHouseModel" "isBad" "[Z") ∈ lw_all := lw_g (lw_at lw_m12 33 rfl) rfl
theorem q2847 : (Jvm.Cond.laysFinal "SpendHouseModel" "SpendHouseModel" "weight" "[I") ∈ lw_all := lw_g (lw_at lw_m12 35 rfl) rfl
theorem q2849 : (Jvm.Cond.laysFinal "SpendHouseModel" "SpendHouseModel" "wayFrom" "[I") ∈ lw_all := lw_g (lw_at lw_m12 37 rfl) rfl
theorem q2851 : (Jvm.Cond.laysFinal "SpendHouseModel" "SpendHouseModel" "waySize" "[I") ∈ lw_all := lw_g (lw_at lw_m12 39 rfl) rfl
theorem q2853 : (Jvm.Cond.lays "SpendHouseModel" "SpendHouseModel" "ways" "I") ∈ lw_all := lw_g (lw_at lw_m12 41 rfl) rfl
theorem q2855 : (Jvm.Cond.laysFinal "SpendHouseModel" "SpendHouseModel" "arena" "[I") ∈ lw_all := lw_g (lw_at lw_m12 43 rfl) rfl
theorem q2857 : (Jvm.Cond.lays "SpendHouseModel" "SpendHouseModel" "used" "I") ∈ lw_all := lw_g (lw_at lw_m12 45 rfl) rfl
theorem q2859 : (Jvm.Cond.laysFinal "SpendHouseModel" "SpendHouseModel" "plus" "[I") ∈ lw_all := lw_g (lw_at lw_m12 47 rfl) rfl
theorem q2861 : (Jvm.Cond.laysFinal "SpendHouseModel" "SpendHouseModel" "minus" "[I") ∈ lw_all := lw_g (lw_at lw_m12 49 rfl) rfl
theorem q2863 : (Jvm.Cond.laysFinal "SpendHouseModel" "SpendHouseModel" "row0" "[I") ∈ lw_all := lw_g (lw_at lw_m12 51 rfl) rfl
theorem q2865 : (Jvm.Cond.laysFinal "SpendHouseModel" "SpendHouseModel" "row1" "[I") ∈ lw_all := lw_g (lw_at lw_m12 53 rfl) rfl
theorem q2867 : (Jvm.Cond.lays "SpendHouseModel" "SpendHouseModel" "items" "I") ∈ lw_all := lw_g (lw_at lw_m12 55 rfl) rfl
theorem q2869 : (Jvm.Cond.laysFinal "SpendHouseModel" "SpendHouseModel" "itemSizes" "[I") ∈ lw_all := lw_g (lw_at lw_m12 57 rfl) rfl
theorem q2871 : (Jvm.Cond.laysFinal "SpendHouseModel" "SpendHouseModel" "itemBytes" "[I") ∈ lw_all := lw_g (lw_at lw_m12 59 rfl) rfl
theorem q2873 : (Jvm.Cond.laysFinal "SpendHouseModel" "SpendHouseModel" "sizes" "[I") ∈ lw_all := lw_g (lw_at lw_m12 61 rfl) rfl
theorem q2875 : (Jvm.Cond.laysFinal "SpendHouseModel" "SpendHouseModel" "bytes" "[I") ∈ lw_all := lw_g (lw_at lw_m12 63 rfl) rfl
theorem q2877 : (Jvm.Cond.lays "SpendHouseModel" "SpendHouseModel" "top" "I") ∈ lw_all := lw_g (lw_at lw_m12 65 rfl) rfl
theorem q2879 : (Jvm.Cond.lays "SpendHouseModel" "SpendHouseModel" "other" "I") ∈ lw_all := lw_g (lw_at lw_m12 67 rfl) rfl
theorem q2881 : (Jvm.Cond.lays "SpendHouseModel" "SpendHouseModel" "verdict" "I") ∈ lw_all := lw_g (lw_at lw_m12 69 rfl) rfl
theorem q2883 : (Jvm.Cond.lays "SpendHouseModel" "SpendHouseModel" "ranVerdict" "I") ∈ lw_all := lw_g (lw_at lw_m12 71 rfl) rfl
theorem q2885 : (Jvm.Cond.lays "SpendHouseModel" "SpendHouseModel" "ranPlace" "I") ∈ lw_all := lw_g (lw_at lw_m12 73 rfl) rfl
theorem q2887 : (Jvm.Cond.lays "SpendHouseModel" "SpendHouseModel" "ranMost" "I") ∈ lw_all := lw_g (lw_at lw_m12 75 rfl) rfl
theorem q2889 : (Jvm.Cond.lays "SpendHouseModel" "SpendHouseModel" "pc" "I") ∈ lw_all := lw_g (lw_at lw_m12 77 rfl) rfl
theorem q2891 : (Jvm.Cond.laysFinal "SpendHouseModel" "SpendHouseModel" "isTaken" "[Z") ∈ lw_all := lw_g (lw_at lw_m12 79 rfl) rfl
theorem q2893 : (Jvm.Cond.lays "SpendHouseModel" "SpendHouseModel" "branches" "I") ∈ lw_all := lw_g (lw_at lw_m12 81 rfl) rfl
theorem q2895 : (Jvm.Cond.superclass "SpendHouseModel" "java/lang/Object") ∈ lw_all := lw_g (lw_at lw_m12 83 rfl) rfl
theorem q2896 : (Jvm.Cond.methodLink "SpendHouseLaw" (110 : Nat) ({ cls := "SpendHouseModel", name := "hash", desc := "(III)I" } : Jvm.MethodName)) ∈ lw_all := lw_g (lw_at lw_m12 84 rfl) rfl
theorem q2897 : (Jvm.Cond.instanceMethod ({ cls := "SpendHouseModel", name := "hash", desc := "(III)I" } : Jvm.MethodName)) ∈ lw_all := lw_g (lw_at lw_m12 85 rfl) rfl
theorem q2898 : (Jvm.Cond.selects "SpendHouseModel" ({ cls := "SpendHouseModel", name := "hash", desc := "(III)I" } : Jvm.MethodName) ({ cls := "SpendHouseModel", name := "hash", desc := "(III)I" } : Jvm.MethodName)) ∈ lw_all := lw_g (lw_at lw_m12 86 rfl) rfl
theorem q2899 : (Jvm.Cond.code ({ cls := "SpendHouseModel", name := "hash", desc := "(III)I" } : Jvm.MethodName) prog_23_method_21_code (4 : Nat) (Option.some Jvm.ClassFile.FieldType.int)) ∈ lw_all := lw_g (lw_at lw_m12 87 rfl) rfl
theorem q2900 : (Jvm.Cond.methodLink "SpendHouseModel" (299 : Nat) ({ cls := "SpendHouseModel", name := "keyHash", desc := "(I)V" } : Jvm.MethodName)) ∈ lw_all := lw_g (lw_at lw_m12 88 rfl) rfl
theorem q2901 : (Jvm.Cond.privateMethod ({ cls := "SpendHouseModel", name := "keyHash", desc := "(I)V" } : Jvm.MethodName)) ∈ lw_tbl := lw_at lw_m12 89 rfl
theorem q2902 : (Jvm.Cond.instanceMethod ({ cls := "SpendHouseModel", name := "keyHash", desc := "(I)V" } : Jvm.MethodName)) ∈ lw_all := lw_g (lw_at lw_m12 90 rfl) rfl
theorem q2903 : (Jvm.Cond.code ({ cls := "SpendHouseModel", name := "keyHash", desc := "(I)V" } : Jvm.MethodName) prog_23_method_20_code (3 : Nat) (Option.none : Option Jvm.ClassFile.FieldType)) ∈ lw_all := lw_g (lw_at lw_m12 91 rfl) rfl
theorem q2904 : (Jvm.Cond.methodLink "SpendHouseModel" (103 : Nat) ({ cls := "SpendHouseModel", name := "hashes", desc := "(I)V" } : Jvm.MethodName)) ∈ lw_all := lw_g (lw_at lw_m12 92 rfl) rfl
theorem q2905 : (Jvm.Cond.privateMethod ({ cls := "SpendHouseModel", name := "hashes", desc := "(I)V" } : Jvm.MethodName)) ∈ lw_tbl := lw_at lw_m12 93 rfl
theorem q2906 : (Jvm.Cond.instanceMethod ({ cls := "SpendHouseModel", name := "hashes", desc := "(I)V" } : Jvm.MethodName)) ∈ lw_all := lw_g (lw_at lw_m12 94 rfl) rfl
theorem q2907 : (Jvm.Cond.code ({ cls := "SpendHouseModel", name := "hashes", desc := "(I)V" } : Jvm.MethodName) prog_23_method_16_code (3 : Nat) (Option.none : Option Jvm.ClassFile.FieldType)) ∈ lw_all := lw_g (lw_at lw_m12 95 rfl) rfl
theorem q2908 : (Jvm.Cond.methodLink "SpendHouseModel" (93 : Nat) ({ cls := "SpendHouseModel", name := "ripemd", desc := "()V" } : Jvm.MethodName)) ∈ lw_all := lw_g (lw_at lw_m12 96 rfl) rfl
theorem q2909 : (Jvm.Cond.privateMethod ({ cls := "SpendHouseModel", name := "ripemd", desc := "()V" } : Jvm.MethodName)) ∈ lw_tbl := lw_at lw_m12 97 rfl
theorem q2910 : (Jvm.Cond.instanceMethod ({ cls := "SpendHouseModel", name := "ripemd", desc := "()V" } : Jvm.MethodName)) ∈ lw_all := lw_g (lw_at lw_m12 98 rfl) rfl
theorem q2911 : (Jvm.Cond.code ({ cls := "SpendHouseModel", name := "ripemd", desc := "()V" } : Jvm.MethodName) prog_23_method_12_code (2 : Nat) (Option.none : Option Jvm.ClassFile.FieldType)) ∈ lw_all := lw_g (lw_at lw_m12 99 rfl) rfl
theorem q2912 : (Jvm.Cond.constant "SpendHouseModel" (54 : Nat) (1732584193 : Int32)) ∈ lw_all := lw_g (lw_at lw_m12 100 rfl) rfl
theorem q2913 : (Jvm.Cond.constant "SpendHouseModel" (55 : Nat) (-271733879 : Int32)) ∈ lw_all := lw_g (lw_at lw_m12 101 rfl) rfl
theorem q2914 : (Jvm.Cond.constant "SpendHouseModel" (56 : Nat) (-1732584194 : Int32)) ∈ lw_all := lw_g (lw_at lw_m12 102 rfl) rfl
theorem q2915 : (Jvm.Cond.constant "SpendHouseModel" (57 : Nat) (271733878 : Int32)) ∈ lw_all := lw_g (lw_at lw_m12 103 rfl) rfl
theorem q2916 : (Jvm.Cond.constant "SpendHouseModel" (58 : Nat) (-1009589776 : Int32)) ∈ lw_all := lw_g (lw_at lw_m12 104 rfl) rfl
theorem q2917 : (Jvm.Cond.methodLink "SpendHouseModel" (59 : Nat) ({ cls := "SpendHouseModel", name := "ripemdBlock", desc := "(I)V" } : Jvm.MethodName)) ∈ lw_all := lw_g (lw_at lw_m12 105 rfl) rfl
theorem q2918 : (Jvm.Cond.privateMethod ({ cls := "SpendHouseModel", name := "ripemdBlock", desc := "(I)V" } : Jvm.MethodName)) ∈ lw_tbl := lw_at lw_m12 106 rfl
theorem q2919 : (Jvm.Cond.instanceMethod ({ cls := "SpendHouseModel", name := "ripemdBlock", desc := "(I)V" } : Jvm.MethodName)) ∈ lw_all := lw_g (lw_at lw_m12 107 rfl) rfl
theorem q2920 : (Jvm.Cond.code ({ cls := "SpendHouseModel", name := "ripemdBlock", desc := "(I)V" } : Jvm.MethodName) prog_23_method_14_code (8 : Nat) (Option.none : Option Jvm.ClassFile.FieldType)) ∈ lw_all := lw_g (lw_at lw_m12 108 rfl) rfl
theorem q2921 : (Jvm.Cond.methodLink "SpendHouseModel" (90 : Nat) ({ cls := "SpendHouseModel", name := "goes", desc := "(I)V" } : Jvm.MethodName)) ∈ lw_all := lw_g (lw_at lw_m12 109 rfl) rfl
theorem q2922 : (Jvm.Cond.privateMethod ({ cls := "SpendHouseModel", name := "goes", desc := "(I)V" } : Jvm.MethodName)) ∈ lw_tbl := lw_at lw_m12 110 rfl
theorem q2923 : (Jvm.Cond.instanceMethod ({ cls := "SpendHouseModel", name := "goes", desc := "(I)V" } : Jvm.MethodName)) ∈ lw_all := lw_g (lw_at lw_m12 111 rfl) rfl
theorem q2924 : (Jvm.Cond.code ({ cls := "SpendHouseModel", name := "goes", desc := "(I)V" } : Jvm.MethodName) prog_23_method_13_code (6 : Nat) (Option.none : Option Jvm.ClassFile.FieldType)) ∈ lw_all := lw_g (lw_at lw_m12 112 rfl) rfl
theorem q2925 : (Jvm.Cond.methodLink "SpendHouseModel" (65 : Nat) ({ cls := "SpendHouseModel", name := "mix", desc := "(IIII)I" } : Jvm.MethodName)) ∈ lw_all := lw_g (lw_at lw_m12 113 rfl) rfl
theorem q2926 : (Jvm.Cond.static ({ cls := "SpendHouseModel", name := "mix", desc := "(IIII)I" } : Jvm.MethodName)) ∈ lw_all := lw_g (lw_at lw_m12 114 rfl) rfl
theorem q2927 : (Jvm.Cond.code ({ cls := "SpendHouseModel", name := "mix", desc := "(IIII)I" } : Jvm.MethodName) prog_23_method_11_code (4 : Nat) (Option.some Jvm.ClassFile.FieldType.int)) ∈ lw_all := lw_g (lw_at lw_m12 115 rfl) rfl
theorem q2928 : (Jvm.Cond.methodLink "SpendHouseModel" (87 : Nat) ({ cls := "SpendHouseModel", name := "left", desc := "(II)I" } : Jvm.MethodName)) ∈ lw_all := lw_g (lw_at lw_m12 116 rfl) rfl
theorem q2929 : (Jvm.Cond.static ({ cls := "SpendHouseModel", name := "left", desc := "(II)I" } : Jvm.MethodName)) ∈ lw_all := lw_g (lw_at lw_m12 117 rfl) rfl
theorem q2930 : (Jvm.Cond.code ({ cls := "SpendHouseModel", name := "left", desc := "(II)I" } : Jvm.MethodName) prog_23_method_6_code (2 : Nat) (Option.some Jvm.ClassFile.FieldType.int)) ∈ lw_all := lw_g (lw_at lw_m12 118 rfl) rfl
theorem q2931 : (Jvm.Cond.methodLink "SpendHouseModel" (302 : Nat) ({ cls := "SpendHouseModel", name := "secretHash", desc := "(II)V" } : Jvm.MethodName)) ∈ lw_all := lw_g (lw_at lw_m12 119 rfl) rfl
theorem q2932 : (Jvm.Cond.privateMethod ({ cls := "SpendHouseModel", name := "secretHash", desc := "(II)V" } : Jvm.MethodName)) ∈ lw_tbl := lw_at lw_m12 120 rfl
theorem q2933 : (Jvm.Cond.instanceMethod ({ cls := "SpendHouseModel", name := "secretHash", desc := "(II)V" } : Jvm.MethodName)) ∈ lw_all := lw_g (lw_at lw_m12 121 rfl) rfl
theorem q2934 : (Jvm.Cond.code ({ cls := "SpendHouseModel", name := "secretHash", desc := "(II)V" } : Jvm.MethodName) prog_23_method_18_code (4 : Nat) (Option.none : Option Jvm.ClassFile.FieldType)) ∈ lw_all := lw_g (lw_at lw_m12 122 rfl) rfl
theorem q2935 : (Jvm.Cond.methodLink "SpendHouseModel" (100 : Nat) ({ cls := "SpendHouseModel", name := "secretByte", desc := "(II)I" } : Jvm.MethodName)) ∈ lw_all := lw_g (lw_at lw_m12 123 rfl) rfl
theorem q2936 : (Jvm.Cond.static ({ cls := "SpendHouseModel", name := "secretByte", desc := "(II)I" } : Jvm.MethodName)) ∈ lw_all := lw_g (lw_at lw_m12 124 rfl) rfl
theorem q2937 : (Jvm.Cond.code ({ cls := "SpendHouseModel", name := "secretByte", desc := "(II)I" } : Jvm.MethodName) prog_23_method_17_code (2 : Nat) (Option.some Jvm.ClassFile.FieldType.int)) ∈ lw_all := lw_g (lw_at lw_m12 125 rfl) rfl
theorem q2938 : (Jvm.Cond.methodLink "SpendHouseLaw" (56 : Nat) ({ cls := "SpendHouseModel", name := "sign", desc := "(IZ)Z" } : Jvm.MethodName)) ∈ lw_all := lw_g (lw_at lw_m12 126 rfl) rfl
theorem q2939 : (Jvm.Cond.instanceMethod ({ cls := "SpendHouseModel", name := "sign", desc := "(IZ)Z" } : Jvm.MethodName)) ∈ lw_all := lw_g (lw_at lw_m12 127 rfl) rfl
theorem q2940 : (Jvm.Cond.selects "SpendHouseModel" ({ cls := "SpendHouseModel", name := "sign", desc := "(IZ)Z" } : Jvm.MethodName) ({ cls := "SpendHouseModel", name := "sign", desc := "(IZ)Z" } : Jvm.MethodName)) ∈ lw_all := lw_g (lw_at lw_m12 128 rfl) rfl
theorem q2941 : (Jvm.Cond.code ({ cls := "SpendHouseModel", name := "sign", desc := "(IZ)Z" } : Jvm.MethodName) prog_23_method_22_code (4 : Nat) (Option.some Jvm.ClassFile.FieldType.boolean)) ∈ lw_all := lw_g (lw_at lw_m12 129 rfl) rfl
theorem q2942 : (Jvm.Cond.methodLink "SpendHouseLaw" (60 : Nat) ({ cls := "SpendHouseModel", name := "know", desc := "(IZ)Z" } : Jvm.MethodName)) ∈ lw_all := lw_g (lw_at lw_m12 130 rfl) rfl
theorem q2943 : (Jvm.Cond.instanceMethod ({ cls := "SpendHouseModel", name := "know", desc := "(IZ)Z" } : Jvm.MethodName)) ∈ lw_all := lw_g (lw_at lw_m12 131 rfl) rfl
theorem q2944 : (Jvm.Cond.selects "SpendHouseModel" ({ cls := "SpendHouseModel", name := "know", desc := "(IZ)Z" } : Jvm.MethodName) ({ cls := "SpendHouseModel", name := "know", desc := "(IZ)Z" } : Jvm.MethodName)) ∈ lw_all := lw_g (lw_at lw_m12 132 rfl) rfl
theorem q2945 : (Jvm.Cond.code ({ cls := "SpendHouseModel", name := "know", desc := "(IZ)Z" } : Jvm.MethodName) prog_23_method_23_code (4 : Nat) (Option.some Jvm.ClassFile.FieldType.boolean)) ∈ lw_all := lw_g (lw_at lw_m12 133 rfl) rfl
theorem q2946 : (Jvm.Cond.methodLink "SpendHouseLaw" (65 : Nat) ({ cls := "SpendHouseModel", name := "lock", desc := "(II)I" } : Jvm.MethodName)) ∈ lw_all := lw_g (lw_at lw_m12 134 rfl) rfl
theorem q2947 : (Jvm.Cond.instanceMethod ({ cls := "SpendHouseModel", name := "lock", desc := "(II)I" } : Jvm.MethodName)) ∈ lw_all := lw_g (lw_at lw_m12 135 rfl) rfl
theorem q2948 : (Jvm.Cond.selects "SpendHouseModel" ({ cls := "SpendHouseModel", name := "lock", desc := "(II)I" } : Jvm.MethodName) ({ cls := "SpendHouseModel", name := "lock", desc := "(II)I" } : Jvm.MethodName)) ∈ lw_all := lw_g (lw_at lw_m12 136 rfl) rfl
theorem q2949 : (Jvm.Cond.code ({ cls := "SpendHouseModel", name := "lock", desc := "(II)I" } : Jvm.MethodName) prog_23_method_24_code (3 : Nat) (Option.some Jvm.ClassFile.FieldType.int)) ∈ lw_all := lw_g (lw_at lw_m12 137 rfl) rfl
theorem q2950 : (Jvm.Cond.methodLink "SpendHouseLaw" (27 : Nat) ({ cls := "SpendHouseModel", name := "fragment", desc := "()I" } : Jvm.MethodName)) ∈ lw_all := lw_g (lw_at lw_m12 138 rfl) rfl
theorem q2951 : (Jvm.Cond.instanceMethod ({ cls := "SpendHouseModel", name := "fragment", desc := "()I" } : Jvm.MethodName)) ∈ lw_all := lw_g (lw_at lw_m12 139 rfl) rfl
theorem q2952 : (Jvm.Cond.selects "SpendHouseModel" ({ cls := "SpendHouseModel", name := "fragment", desc := "()I" } : Jvm.MethodName) ({ cls := "SpendHouseModel", name := "fragment", desc := "()I" } : Jvm.MethodName)) ∈ lw_all := lw_g (lw_at lw_m12 140 rfl) rfl
theorem q2953 : (Jvm.Cond.code ({ cls := "SpendHouseModel", name := "fragment", desc := "()I" } : Jvm.MethodName) prog_23_method_69_code (2 : Nat) (Option.some Jvm.ClassFile.FieldType.int)) ∈ lw_all := lw_g (lw_at lw_m12 141 rfl) rfl
theorem q2954 : (Jvm.Cond.methodLink "SpendHouseModel" (548 : Nat) ({ cls := "SpendHouseModel", name := "begins", desc := "()V" } : Jvm.MethodName)) ∈ lw_all := lw_g (lw_at lw_m12 142 rfl) rfl
theorem q2955 : (Jvm.Cond.privateMethod ({ cls := "SpendHouseModel", name := "begins", desc := "()V" } : Jvm.MethodName)) ∈ lw_tbl := lw_at lw_m12 143 rfl
theorem q2956 : (Jvm.Cond.instanceMethod ({ cls := "SpendHouseModel", name := "begins", desc := "()V" } : Jvm.MethodName)) ∈ lw_all := lw_g (lw_at lw_m12 144 rfl) rfl
theorem q2957 : (Jvm.Cond.code ({ cls := "SpendHouseModel", name := "begins", desc := "()V" } : Jvm.MethodName) prog_23_method_67_code (1 : Nat) (Option.none : Option Jvm.ClassFile.FieldType)) ∈ lw_all := lw_g (lw_at lw_m12 145 rfl) rfl
theorem q2958 : (Jvm.Cond.methodLink "SpendHouseModel" (517 : Nat) ({ cls := "SpendHouseModel", name := "readFragment", desc := "(I)I" } : Jvm.MethodName)) ∈ lw_all := lw_g (lw_at lw_m12 146 rfl) rfl
theorem q2959 : (Jvm.Cond.privateMethod ({ cls := "SpendHouseModel", name := "readFragment", desc := "(I)I" } : Jvm.MethodName)) ∈ lw_tbl := lw_at lw_m12 147 rfl
theorem q2960 : (Jvm.Cond.instanceMethod ({ cls := "SpendHouseModel", name := "readFragment", desc := "(I)I" } : Jvm.MethodName)) ∈ lw_all := lw_g (lw_at lw_m12 148 rfl) rfl
theorem q2961 : (Jvm.Cond.code ({ cls := "SpendHouseModel", name := "readFragment", desc := "(I)I" } : Jvm.MethodName) prog_23_method_61_code (7 : Nat) (Option.some Jvm.ClassFile.FieldType.int)) ∈ lw_all := lw_g (lw_at lw_m12 149 rfl) rfl
theorem q2962 : (Jvm.Cond.methodLink "SpendHouseModel" (390 : Nat) ({ cls := "SpendHouseModel", name := "good", desc := "()Z" } : Jvm.MethodName)) ∈ lw_all := lw_g (lw_at lw_m12 150 rfl) rfl
theorem q2963 : (Jvm.Cond.privateMethod ({ cls := "SpendHouseModel", name := "good", desc := "()Z" } : Jvm.MethodName)) ∈ lw_tbl := lw_at lw_m12 151 rfl
theorem q2964 : (Jvm.Cond.instanceMethod ({ cls := "SpendHouseModel", name := "good", desc := "()Z" } : Jvm.MethodName)) ∈ lw_all := lw_g (lw_at lw_m12 152 rfl) rfl
theorem q2965 : (Jvm.Cond.code ({ cls := "SpendHouseModel", name := "good", desc := "()Z" } : Jvm.MethodName) prog_23_method_48_code (1 : Nat) (Option.some Jvm.ClassFile.FieldType.boolean)) ∈ lw_all := lw_g (lw_at lw_m12 153 rfl) rfl
theorem q2966 : (Jvm.Cond.methodLink "SpendHouseModel" (473 : Nat) ({ cls := "SpendHouseModel", name := "wordEnd", desc := "()I" } : Jvm.MethodName)) ∈ lw_all := lw_g (lw_at lw_m12 154 rfl) rfl
theorem q2967 : (Jvm.Cond.privateMethod ({ cls := "SpendHouseModel", name := "wordEnd", desc := "()I" } : Jvm.MethodName)) ∈ lw_tbl := lw_at lw_m12 155 rfl
theorem q2968 : (Jvm.Cond.instanceMethod ({ cls := "SpendHouseModel", name := "wordEnd", desc := "()I" } : Jvm.MethodName)) ∈ lw_all := lw_g (lw_at lw_m12 156 rfl) rfl
theorem q2969 : (Jvm.Cond.code ({ cls := "SpendHouseModel", name := "wordEnd", desc := "()I" } : Jvm.MethodName) prog_23_method_53_code (2 : Nat) (Option.some Jvm.ClassFile.FieldType.int)) ∈ lw_all := lw_g (lw_at lw_m12 157 rfl) rfl
theorem q2970 : (Jvm.Cond.methodLink "SpendHouseModel" (401 : Nat) ({ cls := "SpendHouseModel", name := "isWordByte", desc := "(I)Z" } : Jvm.MethodName)) ∈ lw_all := lw_g (lw_at lw_m12 158 rfl) rfl
theorem q2971 : (Jvm.Cond.static ({ cls := "SpendHouseModel", name := "isWordByte", desc := "(I)Z" } : Jvm.MethodName)) ∈ lw_all := lw_g (lw_at lw_m12 159 rfl) rfl
theorem q2972 : (Jvm.Cond.code ({ cls := "SpendHouseModel", name := "isWordByte", desc := "(I)Z" } : Jvm.MethodName) prog_23_method_52_code (1 : Nat) (Option.some Jvm.ClassFile.FieldType.boolean)) ∈ lw_all := lw_g (lw_at lw_m12 160 rfl) rfl
theorem q2973 : (Jvm.Cond.methodLink "SpendHouseModel" (398 : Nat) ({ cls := "SpendHouseModel", name := "fails", desc := "(II)V" } : Jvm.MethodName)) ∈ lw_all := lw_g (lw_at lw_m12 161 rfl) rfl
theorem q2974 : (Jvm.Cond.privateMethod ({ cls := "SpendHouseModel", name := "fails", desc := "(II)V" } : Jvm.MethodName)) ∈ lw_tbl := lw_at lw_m12 162 rfl
theorem q2975 : (Jvm.Cond.instanceMethod ({ cls := "SpendHouseModel", name := "fails", desc := "(II)V" } : Jvm.MethodName)) ∈ lw_all := lw_g (lw_at lw_m12 163 rfl) rfl
theorem q2976 : (Jvm.Cond.code ({ cls := "SpendHouseModel", name := "fails", desc := "(II)V" } : Jvm.MethodName) prog_23_method_49_code (3 : Nat) (Option.none : Option Jvm.ClassFile.FieldType)) ∈ lw_all := lw_g (lw_at lw_m12 164 rfl) rfl
theorem q2977 : (Jvm.Cond.methodLink "SpendHouseModel" (476 : Nat) ({ cls := "SpendHouseModel", name := "named", desc := "(I)I" } : Jvm.MethodName)) ∈ lw_all := lw_g (lw_at lw_m12 165 rfl) rfl
theorem q2978 : (Jvm.Cond.privateMethod ({ cls := "SpendHouseModel", name := "named", desc := "(I)I" } : Jvm.MethodName)) ∈ lw_tbl := lw_at lw_m12 166 rfl
theorem q2979 : (Jvm.Cond.instanceMethod ({ cls := "SpendHouseModel", name := "named", desc := "(I)I" } : Jvm.MethodName)) ∈ lw_all := lw_g (lw_at lw_m12 167 rfl) rfl
theorem q2980 : (Jvm.Cond.code ({ cls := "SpendHouseModel", name := "named", desc := "(I)I" } : Jvm.MethodName) prog_23_method_63_code (6 : Nat) (Option.some Jvm.ClassFile.FieldType.int)) ∈ lw_all := lw_g (lw_at lw_m12 168 rfl) rfl
theorem q2981 : (Jvm.Cond.methodLink "SpendHouseModel" (499 : Nat) ({ cls := "SpendHouseModel", name := "kindOf", desc := "(II)I" } : Jvm.MethodName)) ∈ lw_all := lw_g (lw_at lw_m12 169 rfl) rfl
theorem q2982 : (Jvm.Cond.privateMethod ({ cls := "SpendHouseModel", name := "kindOf", desc := "(II)I" } : Jvm.MethodName)) ∈ lw_tbl := lw_at lw_m12 170 rfl
theorem q2983 : (Jvm.Cond.instanceMethod ({ cls := "SpendHouseModel", name := "kindOf", desc := "(II)I" } : Jvm.MethodName)) ∈ lw_all := lw_g (lw_at lw_m12 171 rfl) rfl
theorem q2984 : (Jvm.Cond.code ({ cls := "SpendHouseModel", name := "kindOf", desc := "(II)I" } : Jvm.MethodName) prog_23_method_55_code (3 : Nat) (Option.some Jvm.ClassFile.FieldType.int)) ∈ lw_all := lw_g (lw_at lw_m12 172 rfl) rfl
theorem q2985 : (Jvm.Cond.stringRef "SpendHouseModel" (413 : Nat) "0") ∈ lw_tbl := lw_at lw_m12 173 rfl
theorem q2986 : (Jvm.Cond.methodLink "SpendHouseModel" (415 : Nat) ({ cls := "SpendHouseModel", name := "isWord", desc := "(Ljava/lang/String;II)Z" } : Jvm.MethodName)) ∈ lw_all := lw_g (lw_at lw_m12 174 rfl) rfl
theorem q2987 : (Jvm.Cond.privateMethod ({ cls := "SpendHouseModel", name := "isWord", desc := "(Ljava/lang/String;II)Z" } : Jvm.MethodName)) ∈ lw_tbl := lw_at lw_m12 175 rfl
theorem q2988 : (Jvm.Cond.instanceMethod ({ cls := "SpendHouseModel", name := "isWord", desc := "(Ljava/lang/String;II)Z" } : Jvm.MethodName)) ∈ lw_all := lw_g (lw_at lw_m12 176 rfl) rfl
theorem q2989 : (Jvm.Cond.code ({ cls := "SpendHouseModel", name := "isWord", desc := "(Ljava/lang/String;II)Z" } : Jvm.MethodName) prog_23_method_54_code (6 : Nat) (Option.some Jvm.ClassFile.FieldType.boolean)) ∈ lw_all := lw_g (lw_at lw_m12 177 rfl) rfl
theorem q2990 : (Jvm.Cond.methodLink "SpendHouseModel" (404 : Nat) ({ cls := "java/lang/String", name := "length", desc := "()I" } : Jvm.MethodName)) ∈ lw_all := lw_g (lw_at lw_m12 178 rfl) rfl
theorem q2991 : (Jvm.Cond.methodLink "SpendHouseModel" (409 : Nat) ({ cls := "java/lang/String", name := "charAt", desc := "(I)C" } : Jvm.MethodName)) ∈ lw_all := lw_g (lw_at lw_m12 179 rfl) rfl
theorem q2992 : (Jvm.Cond.stringRef "SpendHouseModel" (419 : Nat) "1") ∈ lw_tbl := lw_at lw_m12 180 rfl
theorem q2993 : (Jvm.Cond.stringRef "SpendHouseModel" (421 : Nat) "pk_k") ∈ lw_tbl := lw_at lw_m12 181 rfl
theorem q2994 : (Jvm.Cond.stringRef "SpendHouseModel" (423 : Nat) "pk_h") ∈ lw_tbl := lw_at lw_m12 182 rfl
theorem q2995 : (Jvm.Cond.stringRef "SpendHouseModel" (425 : Nat) "older") ∈ lw_tbl := lw_at lw_m12 183 rfl
theorem q2996 : (Jvm.Cond.stringRef "SpendHouseModel" (427 : Nat) "after") ∈ lw_tbl := lw_at lw_m12 184 rfl
theorem q2997 : (Jvm.Cond.stringRef "SpendHouseModel" (429 : Nat) "sha256") ∈ lw_tbl := lw_at lw_m12 185 rfl
theorem q2998 : (Jvm.Cond.stringRef "SpendHouseModel" (431 : Nat) "hash256") ∈ lw_tbl := lw_at lw_m12 186 rfl
theorem q2999 : (Jvm.Cond.stringRef "SpendHouseModel" (433 : Nat) "ripemd160") ∈ lw_tbl := lw_at lw_m12 187 rfl
theorem q3000 : (Jvm.Cond.stringRef "SpendHouseModel" (435 : Nat) "hash160") ∈ lw_tbl := lw_at lw_m12 188 rfl
theorem q3001 : (Jvm.Cond.stringRef "SpendHouseModel" (437 : Nat) "andor") ∈ lw_tbl := lw_at lw_m12 189 rfl
theorem q3002 : (Jvm.Cond.stringRef "SpendHouseModel" (439 : Nat) "and_v") ∈ lw_tbl := lw_at lw_m12 190 rfl
theorem q3003 : (Jvm.Cond.stringRef "SpendHouseModel" (441 : Nat) "and_b") ∈ lw_tbl := lw_at lw_m12 191 rfl
theorem q3004 : (Jvm.Cond.stringRef "SpendHouseModel" (443 : Nat) "or_b") ∈ lw_tbl := lw_at lw_m12 192 rfl
theorem q3005 : (Jvm.Cond.stringRef "SpendHouseModel" (445 : Nat) "or_c") ∈ lw_tbl := lw_at lw_m12 193 rfl
theorem q3006 : (Jvm.Cond.stringRef "SpendHouseModel" (447 : Nat) "or_d") ∈ lw_tbl := lw_at lw_m12 194 rfl
theorem q3007 : (Jvm.Cond.stringRef "SpendHouseModel" (449 : Nat) "or_i") ∈ lw_tbl := lw_at lw_m12 195 rfl
theorem q3008 : (Jvm.Cond.stringRef "SpendHouseModel" (451 : Nat) "thresh") ∈ lw_tbl := lw_at lw_m12 196 rfl
theorem q3009 : (Jvm.Cond.stringRef "SpendHouseModel" (453 : Nat) "multi") ∈ lw_tbl := lw_at lw_m12 197 rfl
theorem q3010 : (Jvm.Cond.stringRef "SpendHouseModel" (455 : Nat) "pk") ∈ lw_tbl := lw_at lw_m12 198 rfl
theorem q3011 : (Jvm.Cond.stringRef "SpendHouseModel" (457 : Nat) "pkh") ∈ lw_tbl := lw_at lw_m12 199 rfl
theorem q3012 : (Jvm.Cond.stringRef "SpendHouseModel" (459 : Nat) "and_n") ∈ lw_tbl := lw_at lw_m12 200 rfl
theorem q3013 : (Jvm.Cond.methodLink "SpendHouseModel" (482 : Nat) ({ cls := "SpendHouseModel", name := "reads", desc := "(IIZ)V" } : Jvm.MethodName)) ∈ lw_all := lw_g (lw_at lw_m12 201 rfl) rfl
theorem q3014 : (Jvm.Cond.privateMethod ({ cls := "SpendHouseModel", name := "reads", desc := "(IIZ)V" } : Jvm.MethodName)) ∈ lw_tbl := lw_at lw_m12 202 rfl
theorem q3015 : (Jvm.Cond.instanceMethod ({ cls := "SpendHouseModel", name := "reads", desc := "(IIZ)V" } : Jvm.MethodName)) ∈ lw_all := lw_g (lw_at lw_m12 203 rfl) rfl
theorem q3016 : (Jvm.Cond.code ({ cls := "SpendHouseModel", name := "reads", desc := "(IIZ)V" } : Jvm.MethodName) prog_23_method_57_code (4 : Nat) (Option.none : Option Jvm.ClassFile.FieldType)) ∈ lw_all := lw_g (lw_at lw_m12 204 rfl) rfl
theorem q3017 : (Jvm.Cond.methodLink "SpendHouseModel" (490 : Nat) ({ cls := "SpendHouseModel", name := "node", desc := "(III)I" } : Jvm.MethodName)) ∈ lw_all := lw_g (lw_at lw_m12 205 rfl) rfl
theorem q3018 : (Jvm.Cond.privateMethod ({ cls := "SpendHouseModel", name := "node", desc := "(III)I" } : Jvm.MethodName)) ∈ lw_tbl := lw_at lw_m12 206 rfl
theorem q3019 : (Jvm.Cond.instanceMethod ({ cls := "SpendHouseModel", name := "node", desc := "(III)I" } : Jvm.MethodName)) ∈ lw_all := lw_g (lw_at lw_m12 207 rfl) rfl
theorem q3020 : (Jvm.Cond.code ({ cls := "SpendHouseModel", name := "node", desc := "(III)I" } : Jvm.MethodName) prog_23_method_29_code (5 : Nat) (Option.some Jvm.ClassFile.FieldType.int)) ∈ lw_all := lw_g (lw_at lw_m12 208 rfl) rfl
theorem q3021 : (Jvm.Cond.methodLink "SpendHouseModel" (496 : Nat) ({ cls := "SpendHouseModel", name := "judged", desc := "(I)I" } : Jvm.MethodName)) ∈ lw_all := lw_g (lw_at lw_m12 209 rfl) rfl
theorem q3022 : (Jvm.Cond.privateMethod ({ cls := "SpendHouseModel", name := "judged", desc := "(I)I" } : Jvm.MethodName)) ∈ lw_tbl := lw_at lw_m12 210 rfl
theorem q3023 : (Jvm.Cond.instanceMethod ({ cls := "SpendHouseModel", name := "judged", desc := "(I)I" } : Jvm.MethodName)) ∈ lw_all := lw_g (lw_at lw_m12 211 rfl) rfl
theorem q3024 : (Jvm.Cond.code ({ cls := "SpendHouseModel", name := "judged", desc := "(I)I" } : Jvm.MethodName) prog_23_method_60_code (2 : Nat) (Option.some Jvm.ClassFile.FieldType.int)) ∈ lw_all := lw_g (lw_at lw_m12 212 rfl) rfl
theorem q3025 : (Jvm.Cond.methodLink "SpendHouseModel" (470 : Nat) ({ cls := "SpendHouseModel", name := "judges", desc := "(I)Z" } : Jvm.MethodName)) ∈ lw_all := lw_g (lw_at lw_m12 213 rfl) rfl
theorem q3026 : (Jvm.Cond.privateMethod ({ cls := "SpendHouseModel", name := "judges", desc := "(I)Z" } : Jvm.MethodName)) ∈ lw_tbl := lw_at lw_m12 214 rfl
theorem q3027 : (Jvm.Cond.instanceMethod ({ cls := "SpendHouseModel", name := "judges", desc := "(I)Z" } : Jvm.MethodName)) ∈ lw_all := lw_g (lw_at lw_m12 215 rfl) rfl
theorem q3028 : (Jvm.Cond.code ({ cls := "SpendHouseModel", name := "judges", desc := "(I)Z" } : Jvm.MethodName) prog_23_method_39_code (5 : Nat) (Option.some Jvm.ClassFile.FieldType.boolean)) ∈ lw_all := lw_g (lw_at lw_m12 216 rfl) rfl
theorem q3029 : (Jvm.Cond.methodLink "SpendHouseModel" (336 : Nat) ({ cls := "SpendHouseModel", name := "plainType", desc := "(I)V" } : Jvm.MethodName)) ∈ lw_all := lw_g (lw_at lw_m12 217 rfl) rfl
theorem q3030 : (Jvm.Cond.privateMethod ({ cls := "SpendHouseModel", name := "plainType", desc := "(I)V" } : Jvm.MethodName)) ∈ lw_tbl := lw_at lw_m12 218 rfl
theorem q3031 : (Jvm.Cond.instanceMethod ({ cls := "SpendHouseModel", name := "plainType", desc := "(I)V" } : Jvm.MethodName)) ∈ lw_all := lw_g (lw_at lw_m12 219 rfl) rfl
theorem q3032 : (Jvm.Cond.code ({ cls := "SpendHouseModel", name := "plainType", desc := "(I)V" } : Jvm.MethodName) prog_23_method_40_code (2 : Nat) (Option.none : Option Jvm.ClassFile.FieldType)) ∈ lw_all := lw_g (lw_at lw_m12 220 rfl) rfl
theorem q3033 : (Jvm.Cond.methodLink "SpendHouseModel" (356 : Nat) ({ cls := "SpendHouseModel", name := "gets", desc := "(III)V" } : Jvm.MethodName)) ∈ lw_all := lw_g (lw_at lw_m12 221 rfl) rfl
theorem q3034 : (Jvm.Cond.privateMethod ({ cls := "SpendHouseModel", name := "gets", desc := "(III)V" } : Jvm.MethodName)) ∈ lw_tbl := lw_at lw_m12 222 rfl
theorem q3035 : (Jvm.Cond.instanceMethod ({ cls := "SpendHouseModel", name := "gets", desc := "(III)V" } : Jvm.MethodName)) ∈ lw_all := lw_g (lw_at lw_m12 223 rfl) rfl
theorem q3036 : (Jvm.Cond.code ({ cls := "SpendHouseModel", name := "gets", desc := "(III)V" } : Jvm.MethodName) prog_23_method_37_code (4 : Nat) (Option.none : Option Jvm.ClassFile.FieldType)) ∈ lw_all := lw_g (lw_at lw_m12 224 rfl) rfl
theorem q3037 : (Jvm.Cond.methodLink "SpendHouseModel" (339 : Nat) ({ cls := "SpendHouseModel", name := "threshType", desc := "(I)V" } : Jvm.MethodName)) ∈ lw_all := lw_g (lw_at lw_m12 225 rfl) rfl
theorem q3038 : (Jvm.Cond.privateMethod ({ cls := "SpendHouseModel", name := "threshType", desc := "(I)V" } : Jvm.MethodName)) ∈ lw_tbl := lw_at lw_m12 226 rfl
theorem q3039 : (Jvm.Cond.instanceMethod ({ cls := "SpendHouseModel", name := "threshType", desc := "(I)V" } : Jvm.MethodName)) ∈ lw_all := lw_g (lw_at lw_m12 227 rfl) rfl
theorem q3040 : (Jvm.Cond.code ({ cls := "SpendHouseModel", name := "threshType", desc := "(I)V" } : Jvm.MethodName) prog_23_method_44_code (7 : Nat) (Option.none : Option Jvm.ClassFile.FieldType)) ∈ lw_all := lw_g (lw_at lw_m12 228 rfl) rfl
theorem q3041 : (Jvm.Cond.methodLink "SpendHouseModel" (360 : Nat) ({ cls := "SpendHouseModel", name := "is", desc := "(II)Z" } : Jvm.MethodName)) ∈ lw_all := lw_g (lw_at lw_m12 229 rfl) rfl
theorem q3042 : (Jvm.Cond.static ({ cls := "SpendHouseModel", name := "is", desc := "(II)Z" } : Jvm.MethodName)) ∈ lw_all := lw_g (lw_at lw_m12 230 rfl) rfl
theorem q3043 : (Jvm.Cond.code ({ cls := "SpendHouseModel", name := "is", desc := "(II)Z" } : Jvm.MethodName) prog_23_method_35_code (2 : Nat) (Option.some Jvm.ClassFile.FieldType.boolean)) ∈ lw_all := lw_g (lw_at lw_m12 231 rfl) rfl
theorem q3044 : (Jvm.Cond.methodLink "SpendHouseModel" (368 : Nat) ({ cls := "SpendHouseModel", name := "when", desc := "(ZI)I" } : Jvm.MethodName)) ∈ lw_all := lw_g (lw_at lw_m12 232 rfl) rfl
theorem q3045 : (Jvm.Cond.static ({ cls := "SpendHouseModel", name := "when", desc := "(ZI)I" } : Jvm.MethodName)) ∈ lw_all := lw_g (lw_at lw_m12 233 rfl) rfl
theorem q3046 : (Jvm.Cond.code ({ cls := "SpendHouseModel", name := "when", desc := "(ZI)I" } : Jvm.MethodName) prog_23_method_36_code (2 : Nat) (Option.some Jvm.ClassFile.FieldType.int)) ∈ lw_all := lw_g (lw_at lw_m12 234 rfl) rfl
theorem q3047 : (Jvm.Cond.methodLink "SpendHouseModel" (342 : Nat) ({ cls := "SpendHouseModel", name := "wrapType", desc := "(IIII)V" } : Jvm.MethodName)) ∈ lw_all := lw_g (lw_at lw_m12 235 rfl) rfl
theorem q3048 : (Jvm.Cond.privateMethod ({ cls := "SpendHouseModel", name := "wrapType", desc := "(IIII)V" } : Jvm.MethodName)) ∈ lw_tbl := lw_at lw_m12 236 rfl
theorem q3049 : (Jvm.Cond.instanceMethod ({ cls := "SpendHouseModel", name := "wrapType", desc := "(IIII)V" } : Jvm.MethodName)) ∈ lw_all := lw_g (lw_at lw_m12 237 rfl) rfl
theorem q3050 : (Jvm.Cond.code ({ cls := "SpendHouseModel", name := "wrapType", desc := "(IIII)V" } : Jvm.MethodName) prog_23_method_45_code (7 : Nat) (Option.none : Option Jvm.ClassFile.FieldType)) ∈ lw_all := lw_g (lw_at lw_m12 238 rfl) rfl
theorem q3051 : (Jvm.Cond.methodLink "SpendHouseModel" (346 : Nat) ({ cls := "SpendHouseModel", name := "andorType", desc := "(IIII)V" } : Jvm.MethodName)) ∈ lw_all := lw_g (lw_at lw_m12 239 rfl) rfl
theorem q3052 : (Jvm.Cond.privateMethod ({ cls := "SpendHouseModel", name := "andorType", desc := "(IIII)V" } : Jvm.MethodName)) ∈ lw_tbl := lw_at lw_m13 0 rfl
theorem q3053 : (Jvm.Cond.instanceMethod ({ cls := "SpendHouseModel", name := "andorType", desc := "(IIII)V" } : Jvm.MethodName)) ∈ lw_all := lw_g (lw_at lw_m13 1 rfl) rfl
theorem q3054 : (Jvm.Cond.code ({ cls := "SpendHouseModel", name := "andorType", desc := "(IIII)V" } : Jvm.MethodName) prog_23_method_41_code (9 : Nat) (Option.none : Option Jvm.ClassFile.FieldType)) ∈ lw_all := lw_g (lw_at lw_m13 2 rfl) rfl
theorem q3055 : (Jvm.Cond.methodLink "SpendHouseModel" (364 : Nat) ({ cls := "SpendHouseModel", name := "isBVK", desc := "(I)Z" } : Jvm.MethodName)) ∈ lw_all := lw_g (lw_at lw_m13 3 rfl) rfl
theorem q3056 : (Jvm.Cond.static ({ cls := "SpendHouseModel", name := "isBVK", desc := "(I)Z" } : Jvm.MethodName)) ∈ lw_all := lw_g (lw_at lw_m13 4 rfl) rfl
theorem q3057 : (Jvm.Cond.code ({ cls := "SpendHouseModel", name := "isBVK", desc := "(I)Z" } : Jvm.MethodName) prog_23_method_38_code (1 : Nat) (Option.some Jvm.ClassFile.FieldType.boolean)) ∈ lw_all := lw_g (lw_at lw_m13 5 rfl) rfl
theorem q3058 : (Jvm.Cond.methodLink "SpendHouseModel" (349 : Nat) ({ cls := "SpendHouseModel", name := "pairType", desc := "(IIIIII)V" } : Jvm.MethodName)) ∈ lw_all := lw_g (lw_at lw_m13 6 rfl) rfl
theorem q3059 : (Jvm.Cond.privateMethod ({ cls := "SpendHouseModel", name := "pairType", desc := "(IIIIII)V" } : Jvm.MethodName)) ∈ lw_tbl := lw_at lw_m13 7 rfl
theorem q3060 : (Jvm.Cond.instanceMethod ({ cls := "SpendHouseModel", name := "pairType", desc := "(IIIIII)V" } : Jvm.MethodName)) ∈ lw_all := lw_g (lw_at lw_m13 8 rfl) rfl
theorem q3061 : (Jvm.Cond.code ({ cls := "SpendHouseModel", name := "pairType", desc := "(IIIIII)V" } : Jvm.MethodName) prog_23_method_43_code (10 : Nat) (Option.none : Option Jvm.ClassFile.FieldType)) ∈ lw_all := lw_g (lw_at lw_m13 9 rfl) rfl
theorem q3062 : (Jvm.Cond.methodLink "SpendHouseModel" (372 : Nat) ({ cls := "SpendHouseModel", name := "one", desc := "(II)I" } : Jvm.MethodName)) ∈ lw_all := lw_g (lw_at lw_m13 10 rfl) rfl
theorem q3063 : (Jvm.Cond.static ({ cls := "SpendHouseModel", name := "one", desc := "(II)I" } : Jvm.MethodName)) ∈ lw_all := lw_g (lw_at lw_m13 11 rfl) rfl
theorem q3064 : (Jvm.Cond.code ({ cls := "SpendHouseModel", name := "one", desc := "(II)I" } : Jvm.MethodName) prog_23_method_42_code (2 : Nat) (Option.some Jvm.ClassFile.FieldType.int)) ∈ lw_all := lw_g (lw_at lw_m13 12 rfl) rfl
theorem q3065 : (Jvm.Cond.methodLink "SpendHouseModel" (353 : Nat) ({ cls := "SpendHouseModel", name := "lockType", desc := "(I)V" } : Jvm.MethodName)) ∈ lw_all := lw_g (lw_at lw_m13 13 rfl) rfl
theorem q3066 : (Jvm.Cond.privateMethod ({ cls := "SpendHouseModel", name := "lockType", desc := "(I)V" } : Jvm.MethodName)) ∈ lw_tbl := lw_at lw_m13 14 rfl
theorem q3067 : (Jvm.Cond.instanceMethod ({ cls := "SpendHouseModel", name := "lockType", desc := "(I)V" } : Jvm.MethodName)) ∈ lw_all := lw_g (lw_at lw_m13 15 rfl) rfl
theorem q3068 : (Jvm.Cond.code ({ cls := "SpendHouseModel", name := "lockType", desc := "(I)V" } : Jvm.MethodName) prog_23_method_46_code (6 : Nat) (Option.none : Option Jvm.ClassFile.FieldType)) ∈ lw_all := lw_g (lw_at lw_m13 16 rfl) rfl
theorem q3069 : (Jvm.Cond.methodLink "SpendHouseModel" (316 : Nat) ({ cls := "SpendHouseModel", name := "isDate", desc := "(J)Z" } : Jvm.MethodName)) ∈ lw_all := lw_g (lw_at lw_m13 17 rfl) rfl
theorem q3070 : (Jvm.Cond.static ({ cls := "SpendHouseModel", name := "isDate", desc := "(J)Z" } : Jvm.MethodName)) ∈ lw_all := lw_g (lw_at lw_m13 18 rfl) rfl
theorem q3071 : (Jvm.Cond.code ({ cls := "SpendHouseModel", name := "isDate", desc := "(J)Z" } : Jvm.MethodName) prog_23_method_26_code (2 : Nat) (Option.some Jvm.ClassFile.FieldType.boolean)) ∈ lw_all := lw_g (lw_at lw_m13 19 rfl) rfl
theorem q3072 : (Jvm.Cond.constantLong "SpendHouseModel" (314 : Nat) (500000000 : Int64)) ∈ lw_all := lw_g (lw_at lw_m13 20 rfl) rfl
theorem q3073 : (Jvm.Cond.methodLink "SpendHouseModel" (375 : Nat) ({ cls := "SpendHouseModel", name := "isMixed", desc := "(II)Z" } : Jvm.MethodName)) ∈ lw_all := lw_g (lw_at lw_m13 21 rfl) rfl
theorem q3074 : (Jvm.Cond.static ({ cls := "SpendHouseModel", name := "isMixed", desc := "(II)Z" } : Jvm.MethodName)) ∈ lw_all := lw_g (lw_at lw_m13 22 rfl) rfl
theorem q3075 : (Jvm.Cond.code ({ cls := "SpendHouseModel", name := "isMixed", desc := "(II)Z" } : Jvm.MethodName) prog_23_method_47_code (2 : Nat) (Option.some Jvm.ClassFile.FieldType.boolean)) ∈ lw_all := lw_g (lw_at lw_m13 23 rfl) rfl
theorem q3076 : (Jvm.Cond.methodLink "SpendHouseModel" (502 : Nat) ({ cls := "SpendHouseModel", name := "want", desc := "(I)V" } : Jvm.MethodName)) ∈ lw_all := lw_g (lw_at lw_m13 24 rfl) rfl
theorem q3077 : (Jvm.Cond.privateMethod ({ cls := "SpendHouseModel", name := "want", desc := "(I)V" } : Jvm.MethodName)) ∈ lw_tbl := lw_at lw_m13 25 rfl
theorem q3078 : (Jvm.Cond.instanceMethod ({ cls := "SpendHouseModel", name := "want", desc := "(I)V" } : Jvm.MethodName)) ∈ lw_all := lw_g (lw_at lw_m13 26 rfl) rfl
theorem q3079 : (Jvm.Cond.code ({ cls := "SpendHouseModel", name := "want", desc := "(I)V" } : Jvm.MethodName) prog_23_method_51_code (2 : Nat) (Option.none : Option Jvm.ClassFile.FieldType)) ∈ lw_all := lw_g (lw_at lw_m13 27 rfl) rfl
theorem q3080 : (Jvm.Cond.methodLink "SpendHouseModel" (394 : Nat) ({ cls := "SpendHouseModel", name := "see", desc := "()I" } : Jvm.MethodName)) ∈ lw_all := lw_g (lw_at lw_m13 28 rfl) rfl
theorem q3081 : (Jvm.Cond.privateMethod ({ cls := "SpendHouseModel", name := "see", desc := "()I" } : Jvm.MethodName)) ∈ lw_tbl := lw_at lw_m13 29 rfl
theorem q3082 : (Jvm.Cond.instanceMethod ({ cls := "SpendHouseModel", name := "see", desc := "()I" } : Jvm.MethodName)) ∈ lw_all := lw_g (lw_at lw_m13 30 rfl) rfl
theorem q3083 : (Jvm.Cond.code ({ cls := "SpendHouseModel", name := "see", desc := "()I" } : Jvm.MethodName) prog_23_method_50_code (1 : Nat) (Option.some Jvm.ClassFile.FieldType.int)) ∈ lw_all := lw_g (lw_at lw_m13 31 rfl) rfl
theorem q3084 : (Jvm.Cond.methodLink "SpendHouseModel" (505 : Nat) ({ cls := "SpendHouseModel", name := "inside", desc := "(III)I" } : Jvm.MethodName)) ∈ lw_all := lw_g (lw_at lw_m13 32 rfl) rfl
theorem q3085 : (Jvm.Cond.privateMethod ({ cls := "SpendHouseModel", name := "inside", desc := "(III)I" } : Jvm.MethodName)) ∈ lw_tbl := lw_at lw_m13 33 rfl
theorem q3086 : (Jvm.Cond.instanceMethod ({ cls := "SpendHouseModel", name := "inside", desc := "(III)I" } : Jvm.MethodName)) ∈ lw_all := lw_g (lw_at lw_m13 34 rfl) rfl
theorem q3087 : (Jvm.Cond.code ({ cls := "SpendHouseModel", name := "inside", desc := "(III)I" } : Jvm.MethodName) prog_23_method_64_code (9 : Nat) (Option.some Jvm.ClassFile.FieldType.int)) ∈ lw_all := lw_g (lw_at lw_m13 35 rfl) rfl
theorem q3088 : (Jvm.Cond.methodLink "SpendHouseModel" (508 : Nat) ({ cls := "SpendHouseModel", name := "readLetter", desc := "(II)I" } : Jvm.MethodName)) ∈ lw_all := lw_g (lw_at lw_m13 36 rfl) rfl
theorem q3089 : (Jvm.Cond.privateMethod ({ cls := "SpendHouseModel", name := "readLetter", desc := "(II)I" } : Jvm.MethodName)) ∈ lw_tbl := lw_at lw_m13 37 rfl
theorem q3090 : (Jvm.Cond.instanceMethod ({ cls := "SpendHouseModel", name := "readLetter", desc := "(II)I" } : Jvm.MethodName)) ∈ lw_all := lw_g (lw_at lw_m13 38 rfl) rfl
theorem q3091 : (Jvm.Cond.code ({ cls := "SpendHouseModel", name := "readLetter", desc := "(II)I" } : Jvm.MethodName) prog_23_method_59_code (4 : Nat) (Option.some Jvm.ClassFile.FieldType.int)) ∈ lw_all := lw_g (lw_at lw_m13 39 rfl) rfl
theorem q3092 : (Jvm.Cond.methodLink "SpendHouseModel" (486 : Nat) ({ cls := "SpendHouseModel", name := "wrapped", desc := "(III)I" } : Jvm.MethodName)) ∈ lw_all := lw_g (lw_at lw_m13 40 rfl) rfl
theorem q3093 : (Jvm.Cond.privateMethod ({ cls := "SpendHouseModel", name := "wrapped", desc := "(III)I" } : Jvm.MethodName)) ∈ lw_tbl := lw_at lw_m13 41 rfl
theorem q3094 : (Jvm.Cond.instanceMethod ({ cls := "SpendHouseModel", name := "wrapped", desc := "(III)I" } : Jvm.MethodName)) ∈ lw_all := lw_g (lw_at lw_m13 42 rfl) rfl
theorem q3095 : (Jvm.Cond.code ({ cls := "SpendHouseModel", name := "wrapped", desc := "(III)I" } : Jvm.MethodName) prog_23_method_62_code (6 : Nat) (Option.some Jvm.ClassFile.FieldType.int)) ∈ lw_all := lw_g (lw_at lw_m13 43 rfl) rfl
theorem q3096 : (Jvm.Cond.methodLink "SpendHouseModel" (493 : Nat) ({ cls := "SpendHouseModel", name := "adopts", desc := "(II)V" } : Jvm.MethodName)) ∈ lw_all := lw_g (lw_at lw_m13 44 rfl) rfl
theorem q3097 : (Jvm.Cond.privateMethod ({ cls := "SpendHouseModel", name := "adopts", desc := "(II)V" } : Jvm.MethodName)) ∈ lw_tbl := lw_at lw_m13 45 rfl
theorem q3098 : (Jvm.Cond.instanceMethod ({ cls := "SpendHouseModel", name := "adopts", desc := "(II)V" } : Jvm.MethodName)) ∈ lw_all := lw_g (lw_at lw_m13 46 rfl) rfl
theorem q3099 : (Jvm.Cond.code ({ cls := "SpendHouseModel", name := "adopts", desc := "(II)V" } : Jvm.MethodName) prog_23_method_30_code (4 : Nat) (Option.none : Option Jvm.ClassFile.FieldType)) ∈ lw_all := lw_g (lw_at lw_m13 47 rfl) rfl
theorem q3100 : (Jvm.Cond.methodLink "SpendHouseModel" (511 : Nat) ({ cls := "SpendHouseModel", name := "number", desc := "()I" } : Jvm.MethodName)) ∈ lw_all := lw_g (lw_at lw_m13 48 rfl) rfl
theorem q3101 : (Jvm.Cond.privateMethod ({ cls := "SpendHouseModel", name := "number", desc := "()I" } : Jvm.MethodName)) ∈ lw_tbl := lw_at lw_m13 49 rfl
theorem q3102 : (Jvm.Cond.instanceMethod ({ cls := "SpendHouseModel", name := "number", desc := "()I" } : Jvm.MethodName)) ∈ lw_all := lw_g (lw_at lw_m13 50 rfl) rfl
theorem q3103 : (Jvm.Cond.code ({ cls := "SpendHouseModel", name := "number", desc := "()I" } : Jvm.MethodName) prog_23_method_58_code (3 : Nat) (Option.some Jvm.ClassFile.FieldType.int)) ∈ lw_all := lw_g (lw_at lw_m13 51 rfl) rfl
theorem q3104 : (Jvm.Cond.constantLong "SpendHouseModel" (464 : Nat) (10 : Int64)) ∈ lw_all := lw_g (lw_at lw_m13 52 rfl) rfl
theorem q3105 : (Jvm.Cond.constantLong "SpendHouseModel" (466 : Nat) (48 : Int64)) ∈ lw_all := lw_g (lw_at lw_m13 53 rfl) rfl
theorem q3106 : (Jvm.Cond.constantLong "SpendHouseModel" (468 : Nat) (2147483647 : Int64)) ∈ lw_all := lw_g (lw_at lw_m13 54 rfl) rfl
theorem q3107 : (Jvm.Cond.methodLink "SpendHouseModel" (514 : Nat) ({ cls := "SpendHouseModel", name := "several", desc := "(III)I" } : Jvm.MethodName)) ∈ lw_all := lw_g (lw_at lw_m13 55 rfl) rfl
theorem q3108 : (Jvm.Cond.privateMethod ({ cls := "SpendHouseModel", name := "several", desc := "(III)I" } : Jvm.MethodName)) ∈ lw_tbl := lw_at lw_m13 56 rfl
theorem q3109 : (Jvm.Cond.instanceMethod ({ cls := "SpendHouseModel", name := "several", desc := "(III)I" } : Jvm.MethodName)) ∈ lw_all := lw_g (lw_at lw_m13 57 rfl) rfl
theorem q3110 : (Jvm.Cond.code ({ cls := "SpendHouseModel", name := "several", desc := "(III)I" } : Jvm.MethodName) prog_23_method_65_code (10 : Nat) (Option.some Jvm.ClassFile.FieldType.int)) ∈ lw_all := lw_g (lw_at lw_m13 58 rfl) rfl
theorem q3111 : (Jvm.Cond.methodLink "SpendHouseModel" (523 : Nat) ({ cls := "SpendHouseModel", name := "keyNode", desc := "()I" } : Jvm.MethodName)) ∈ lw_all := lw_g (lw_at lw_m13 59 rfl) rfl
theorem q3112 : (Jvm.Cond.privateMethod ({ cls := "SpendHouseModel", name := "keyNode", desc := "()I" } : Jvm.MethodName)) ∈ lw_tbl := lw_at lw_m13 60 rfl
theorem q3113 : (Jvm.Cond.instanceMethod ({ cls := "SpendHouseModel", name := "keyNode", desc := "()I" } : Jvm.MethodName)) ∈ lw_all := lw_g (lw_at lw_m13 61 rfl) rfl
theorem q3114 : (Jvm.Cond.code ({ cls := "SpendHouseModel", name := "keyNode", desc := "()I" } : Jvm.MethodName) prog_23_method_66_code (2 : Nat) (Option.some Jvm.ClassFile.FieldType.int)) ∈ lw_all := lw_g (lw_at lw_m13 62 rfl) rfl
theorem q3115 : (Jvm.Cond.methodLink "SpendHouseModel" (479 : Nat) ({ cls := "SpendHouseModel", name := "wrapOf", desc := "(I)I" } : Jvm.MethodName)) ∈ lw_all := lw_g (lw_at lw_m13 63 rfl) rfl
theorem q3116 : (Jvm.Cond.static ({ cls := "SpendHouseModel", name := "wrapOf", desc := "(I)I" } : Jvm.MethodName)) ∈ lw_all := lw_g (lw_at lw_m13 64 rfl) rfl
theorem q3117 : (Jvm.Cond.code ({ cls := "SpendHouseModel", name := "wrapOf", desc := "(I)I" } : Jvm.MethodName) prog_23_method_56_code (1 : Nat) (Option.some Jvm.ClassFile.FieldType.int)) ∈ lw_all := lw_g (lw_at lw_m13 65 rfl) rfl
theorem q3118 : (Jvm.Cond.methodLink "SpendHouseModel" (551 : Nat) ({ cls := "SpendHouseModel", name := "ends", desc := "(IZ)I" } : Jvm.MethodName)) ∈ lw_all := lw_g (lw_at lw_m13 66 rfl) rfl
theorem q3119 : (Jvm.Cond.privateMethod ({ cls := "SpendHouseModel", name := "ends", desc := "(IZ)I" } : Jvm.MethodName)) ∈ lw_tbl := lw_at lw_m13 67 rfl
theorem q3120 : (Jvm.Cond.instanceMethod ({ cls := "SpendHouseModel", name := "ends", desc := "(IZ)I" } : Jvm.MethodName)) ∈ lw_all := lw_g (lw_at lw_m13 68 rfl) rfl
theorem q3121 : (Jvm.Cond.code ({ cls := "SpendHouseModel", name := "ends", desc := "(IZ)I" } : Jvm.MethodName) prog_23_method_68_code (3 : Nat) (Option.some Jvm.ClassFile.FieldType.int)) ∈ lw_all := lw_g (lw_at lw_m13 69 rfl) rfl
theorem q3122 : (Jvm.Cond.methodLink "SpendHouseModel" (545 : Nat) ({ cls := "SpendHouseModel", name := "writes", desc := "()V" } : Jvm.MethodName)) ∈ lw_all := lw_g (lw_at lw_m13 70 rfl) rfl
theorem q3123 : (Jvm.Cond.privateMethod ({ cls := "SpendHouseModel", name := "writes", desc := "()V" } : Jvm.MethodName)) ∈ lw_tbl := lw_at lw_m13 71 rfl
theorem q3124 : (Jvm.Cond.instanceMethod ({ cls := "SpendHouseModel", name := "writes", desc := "()V" } : Jvm.MethodName)) ∈ lw_all := lw_g (lw_at lw_m13 72 rfl) rfl
theorem q3125 : (Jvm.Cond.code ({ cls := "SpendHouseModel", name := "writes", desc := "()V" } : Jvm.MethodName) prog_23_method_85_code (1 : Nat) (Option.none : Option Jvm.ClassFile.FieldType)) ∈ lw_all := lw_g (lw_at lw_m13 73 rfl) rfl
theorem q3126 : (Jvm.Cond.methodLink "SpendHouseModel" (605 : Nat) ({ cls := "SpendHouseModel", name := "says", desc := "(I)V" } : Jvm.MethodName)) ∈ lw_all := lw_g (lw_at lw_m13 74 rfl) rfl
theorem q3127 : (Jvm.Cond.privateMethod ({ cls := "SpendHouseModel", name := "says", desc := "(I)V" } : Jvm.MethodName)) ∈ lw_tbl := lw_at lw_m13 75 rfl
theorem q3128 : (Jvm.Cond.instanceMethod ({ cls := "SpendHouseModel", name := "says", desc := "(I)V" } : Jvm.MethodName)) ∈ lw_all := lw_g (lw_at lw_m13 76 rfl) rfl
theorem q3129 : (Jvm.Cond.code ({ cls := "SpendHouseModel", name := "says", desc := "(I)V" } : Jvm.MethodName) prog_23_method_89_code (5 : Nat) (Option.none : Option Jvm.ClassFile.FieldType)) ∈ lw_all := lw_g (lw_at lw_m13 77 rfl) rfl
theorem q3130 : (Jvm.Cond.stringRef "SpendHouseModel" (626 : Nat) "ascdvjn") ∈ lw_tbl := lw_at lw_m13 78 rfl
theorem q3131 : (Jvm.Cond.methodLink "SpendHouseModel" (620 : Nat) ({ cls := "SpendHouseModel", name := "write", desc := "(I)V" } : Jvm.MethodName)) ∈ lw_all := lw_g (lw_at lw_m13 79 rfl) rfl
theorem q3132 : (Jvm.Cond.privateMethod ({ cls := "SpendHouseModel", name := "write", desc := "(I)V" } : Jvm.MethodName)) ∈ lw_tbl := lw_at lw_m13 80 rfl
theorem q3133 : (Jvm.Cond.instanceMethod ({ cls := "SpendHouseModel", name := "write", desc := "(I)V" } : Jvm.MethodName)) ∈ lw_all := lw_g (lw_at lw_m13 81 rfl) rfl
theorem q3134 : (Jvm.Cond.code ({ cls := "SpendHouseModel", name := "write", desc := "(I)V" } : Jvm.MethodName) prog_23_method_86_code (2 : Nat) (Option.none : Option Jvm.ClassFile.FieldType)) ∈ lw_all := lw_g (lw_at lw_m13 82 rfl) rfl
theorem q3135 : (Jvm.Cond.methodLink "SpendHouseModel" (628 : Nat) ({ cls := "SpendHouseModel", name := "saysWord", desc := "(I)V" } : Jvm.MethodName)) ∈ lw_all := lw_g (lw_at lw_m13 83 rfl) rfl
theorem q3136 : (Jvm.Cond.privateMethod ({ cls := "SpendHouseModel", name := "saysWord", desc := "(I)V" } : Jvm.MethodName)) ∈ lw_tbl := lw_at lw_m13 84 rfl
theorem q3137 : (Jvm.Cond.instanceMethod ({ cls := "SpendHouseModel", name := "saysWord", desc := "(I)V" } : Jvm.MethodName)) ∈ lw_all := lw_g (lw_at lw_m13 85 rfl) rfl
theorem q3138 : (Jvm.Cond.code ({ cls := "SpendHouseModel", name := "saysWord", desc := "(I)V" } : Jvm.MethodName) prog_23_method_90_code (2 : Nat) (Option.none : Option Jvm.ClassFile.FieldType)) ∈ lw_all := lw_g (lw_at lw_m13 86 rfl) rfl
theorem q3139 : (Jvm.Cond.methodLink "SpendHouseModel" (631 : Nat) ({ cls := "SpendHouseModel", name := "writeText", desc := "(Ljava/lang/String;)V" } : Jvm.MethodName)) ∈ lw_all := lw_g (lw_at lw_m13 87 rfl) rfl
theorem q3140 : (Jvm.Cond.privateMethod ({ cls := "SpendHouseModel", name := "writeText", desc := "(Ljava/lang/String;)V" } : Jvm.MethodName)) ∈ lw_tbl := lw_at lw_m13 88 rfl
theorem q3141 : (Jvm.Cond.instanceMethod ({ cls := "SpendHouseModel", name := "writeText", desc := "(Ljava/lang/String;)V" } : Jvm.MethodName)) ∈ lw_all := lw_g (lw_at lw_m13 89 rfl) rfl
theorem q3142 : (Jvm.Cond.code ({ cls := "SpendHouseModel", name := "writeText", desc := "(Ljava/lang/String;)V" } : Jvm.MethodName) prog_23_method_87_code (3 : Nat) (Option.none : Option Jvm.ClassFile.FieldType)) ∈ lw_all := lw_g (lw_at lw_m13 90 rfl) rfl
theorem q3143 : (Jvm.Cond.methodLink "SpendHouseModel" (623 : Nat) ({ cls := "SpendHouseModel", name := "writeNumber", desc := "(I)V" } : Jvm.MethodName)) ∈ lw_all := lw_g (lw_at lw_m13 91 rfl) rfl
theorem q3144 : (Jvm.Cond.privateMethod ({ cls := "SpendHouseModel", name := "writeNumber", desc := "(I)V" } : Jvm.MethodName)) ∈ lw_tbl := lw_at lw_m13 92 rfl
theorem q3145 : (Jvm.Cond.instanceMethod ({ cls := "SpendHouseModel", name := "writeNumber", desc := "(I)V" } : Jvm.MethodName)) ∈ lw_all := lw_g (lw_at lw_m13 93 rfl) rfl
theorem q3146 : (Jvm.Cond.code ({ cls := "SpendHouseModel", name := "writeNumber", desc := "(I)V" } : Jvm.MethodName) prog_23_method_88_code (2 : Nat) (Option.none : Option Jvm.ClassFile.FieldType)) ∈ lw_all := lw_g (lw_at lw_m13 94 rfl) rfl
theorem q3147 : (Jvm.Cond.methodLink "SpendHouseModel" (617 : Nat) ({ cls := "SpendHouseModel", name := "script", desc := "(I)V" } : Jvm.MethodName)) ∈ lw_all := lw_g (lw_at lw_m13 95 rfl) rfl
theorem q3148 : (Jvm.Cond.privateMethod ({ cls := "SpendHouseModel", name := "script", desc := "(I)V" } : Jvm.MethodName)) ∈ lw_tbl := lw_at lw_m13 96 rfl
theorem q3149 : (Jvm.Cond.instanceMethod ({ cls := "SpendHouseModel", name := "script", desc := "(I)V" } : Jvm.MethodName)) ∈ lw_all := lw_g (lw_at lw_m13 97 rfl) rfl
theorem q3150 : (Jvm.Cond.code ({ cls := "SpendHouseModel", name := "script", desc := "(I)V" } : Jvm.MethodName) prog_23_method_98_code (6 : Nat) (Option.none : Option Jvm.ClassFile.FieldType)) ∈ lw_all := lw_g (lw_at lw_m13 98 rfl) rfl
theorem q3151 : (Jvm.Cond.methodLink "SpendHouseModel" (638 : Nat) ({ cls := "SpendHouseModel", name := "wrapScript", desc := "(II)V" } : Jvm.MethodName)) ∈ lw_all := lw_g (lw_at lw_m13 99 rfl) rfl
theorem q3152 : (Jvm.Cond.privateMethod ({ cls := "SpendHouseModel", name := "wrapScript", desc := "(II)V" } : Jvm.MethodName)) ∈ lw_tbl := lw_at lw_m13 100 rfl
theorem q3153 : (Jvm.Cond.instanceMethod ({ cls := "SpendHouseModel", name := "wrapScript", desc := "(II)V" } : Jvm.MethodName)) ∈ lw_all := lw_g (lw_at lw_m13 101 rfl) rfl
theorem q3154 : (Jvm.Cond.code ({ cls := "SpendHouseModel", name := "wrapScript", desc := "(II)V" } : Jvm.MethodName) prog_23_method_100_code (3 : Nat) (Option.none : Option Jvm.ClassFile.FieldType)) ∈ lw_all := lw_g (lw_at lw_m13 102 rfl) rfl
theorem q3155 : (Jvm.Cond.methodLink "SpendHouseModel" (650 : Nat) ({ cls := "SpendHouseModel", name := "op", desc := "(I)V" } : Jvm.MethodName)) ∈ lw_all := lw_g (lw_at lw_m13 103 rfl) rfl
theorem q3156 : (Jvm.Cond.privateMethod ({ cls := "SpendHouseModel", name := "op", desc := "(I)V" } : Jvm.MethodName)) ∈ lw_tbl := lw_at lw_m13 104 rfl
theorem q3157 : (Jvm.Cond.instanceMethod ({ cls := "SpendHouseModel", name := "op", desc := "(I)V" } : Jvm.MethodName)) ∈ lw_all := lw_g (lw_at lw_m13 105 rfl) rfl
theorem q3158 : (Jvm.Cond.code ({ cls := "SpendHouseModel", name := "op", desc := "(I)V" } : Jvm.MethodName) prog_23_method_94_code (2 : Nat) (Option.none : Option Jvm.ClassFile.FieldType)) ∈ lw_all := lw_g (lw_at lw_m13 106 rfl) rfl
theorem q3159 : (Jvm.Cond.methodLink "SpendHouseModel" (635 : Nat) ({ cls := "SpendHouseModel", name := "put", desc := "(I)V" } : Jvm.MethodName)) ∈ lw_all := lw_g (lw_at lw_m13 107 rfl) rfl
theorem q3160 : (Jvm.Cond.privateMethod ({ cls := "SpendHouseModel", name := "put", desc := "(I)V" } : Jvm.MethodName)) ∈ lw_tbl := lw_at lw_m13 108 rfl
theorem q3161 : (Jvm.Cond.instanceMethod ({ cls := "SpendHouseModel", name := "put", desc := "(I)V" } : Jvm.MethodName)) ∈ lw_all := lw_g (lw_at lw_m13 109 rfl) rfl
theorem q3162 : (Jvm.Cond.code ({ cls := "SpendHouseModel", name := "put", desc := "(I)V" } : Jvm.MethodName) prog_23_method_93_code (2 : Nat) (Option.none : Option Jvm.ClassFile.FieldType)) ∈ lw_all := lw_g (lw_at lw_m13 110 rfl) rfl
theorem q3163 : (Jvm.Cond.methodLink "SpendHouseModel" (641 : Nat) ({ cls := "SpendHouseModel", name := "pairScript", desc := "(III)V" } : Jvm.MethodName)) ∈ lw_all := lw_g (lw_at lw_m13 111 rfl) rfl
theorem q3164 : (Jvm.Cond.privateMethod ({ cls := "SpendHouseModel", name := "pairScript", desc := "(III)V" } : Jvm.MethodName)) ∈ lw_tbl := lw_at lw_m13 112 rfl
theorem q3165 : (Jvm.Cond.instanceMethod ({ cls := "SpendHouseModel", name := "pairScript", desc := "(III)V" } : Jvm.MethodName)) ∈ lw_all := lw_g (lw_at lw_m13 113 rfl) rfl
theorem q3166 : (Jvm.Cond.code ({ cls := "SpendHouseModel", name := "pairScript", desc := "(III)V" } : Jvm.MethodName) prog_23_method_99_code (4 : Nat) (Option.none : Option Jvm.ClassFile.FieldType)) ∈ lw_all := lw_g (lw_at lw_m13 114 rfl) rfl
theorem q3167 : (Jvm.Cond.methodLink "SpendHouseModel" (644 : Nat) ({ cls := "SpendHouseModel", name := "pushNumber", desc := "(I)V" } : Jvm.MethodName)) ∈ lw_all := lw_g (lw_at lw_m13 115 rfl) rfl
theorem q3168 : (Jvm.Cond.privateMethod ({ cls := "SpendHouseModel", name := "pushNumber", desc := "(I)V" } : Jvm.MethodName)) ∈ lw_tbl := lw_at lw_m13 116 rfl
theorem q3169 : (Jvm.Cond.instanceMethod ({ cls := "SpendHouseModel", name := "pushNumber", desc := "(I)V" } : Jvm.MethodName)) ∈ lw_all := lw_g (lw_at lw_m13 117 rfl) rfl
theorem q3170 : (Jvm.Cond.code ({ cls := "SpendHouseModel", name := "pushNumber", desc := "(I)V" } : Jvm.MethodName) prog_23_method_95_code (4 : Nat) (Option.none : Option Jvm.ClassFile.FieldType)) ∈ lw_all := lw_g (lw_at lw_m13 118 rfl) rfl
theorem q3171 : (Jvm.Cond.methodLink "SpendHouseModel" (647 : Nat) ({ cls := "SpendHouseModel", name := "pushKey", desc := "(I)V" } : Jvm.MethodName)) ∈ lw_all := lw_g (lw_at lw_m13 119 rfl) rfl
theorem q3172 : (Jvm.Cond.privateMethod ({ cls := "SpendHouseModel", name := "pushKey", desc := "(I)V" } : Jvm.MethodName)) ∈ lw_tbl := lw_at lw_m13 120 rfl
theorem q3173 : (Jvm.Cond.instanceMethod ({ cls := "SpendHouseModel", name := "pushKey", desc := "(I)V" } : Jvm.MethodName)) ∈ lw_all := lw_g (lw_at lw_m13 121 rfl) rfl
theorem q3174 : (Jvm.Cond.code ({ cls := "SpendHouseModel", name := "pushKey", desc := "(I)V" } : Jvm.MethodName) prog_23_method_97_code (3 : Nat) (Option.none : Option Jvm.ClassFile.FieldType)) ∈ lw_all := lw_g (lw_at lw_m13 122 rfl) rfl
theorem q3175 : (Jvm.Cond.methodLink "SpendHouseModel" (653 : Nat) ({ cls := "SpendHouseModel", name := "pushHash", desc := "(I)V" } : Jvm.MethodName)) ∈ lw_all := lw_g (lw_at lw_m13 123 rfl) rfl
theorem q3176 : (Jvm.Cond.privateMethod ({ cls := "SpendHouseModel", name := "pushHash", desc := "(I)V" } : Jvm.MethodName)) ∈ lw_tbl := lw_at lw_m13 124 rfl
theorem q3177 : (Jvm.Cond.instanceMethod ({ cls := "SpendHouseModel", name := "pushHash", desc := "(I)V" } : Jvm.MethodName)) ∈ lw_all := lw_g (lw_at lw_m13 125 rfl) rfl
theorem q3178 : (Jvm.Cond.code ({ cls := "SpendHouseModel", name := "pushHash", desc := "(I)V" } : Jvm.MethodName) prog_23_method_96_code (3 : Nat) (Option.none : Option Jvm.ClassFile.FieldType)) ∈ lw_all := lw_g (lw_at lw_m13 126 rfl) rfl
theorem q3179 : (Jvm.Cond.methodLink "SpendHouseModel" (656 : Nat) ({ cls := "SpendHouseModel", name := "hashSize", desc := "(I)I" } : Jvm.MethodName)) ∈ lw_all := lw_g (lw_at lw_m13 127 rfl) rfl
theorem q3180 : (Jvm.Cond.static ({ cls := "SpendHouseModel", name := "hashSize", desc := "(I)I" } : Jvm.MethodName)) ∈ lw_all := lw_g (lw_at lw_m13 128 rfl) rfl
theorem q3181 : (Jvm.Cond.code ({ cls := "SpendHouseModel", name := "hashSize", desc := "(I)I" } : Jvm.MethodName) prog_23_method_15_code (1 : Nat) (Option.some Jvm.ClassFile.FieldType.int)) ∈ lw_all := lw_g (lw_at lw_m13 129 rfl) rfl
theorem q3182 : (Jvm.Cond.methodLink "SpendHouseLaw" (35 : Nat) ({ cls := "SpendHouseModel", name := "fault", desc := "(I)I" } : Jvm.MethodName)) ∈ lw_all := lw_g (lw_at lw_m13 130 rfl) rfl
theorem q3183 : (Jvm.Cond.instanceMethod ({ cls := "SpendHouseModel", name := "fault", desc := "(I)I" } : Jvm.MethodName)) ∈ lw_all := lw_g (lw_at lw_m13 131 rfl) rfl
theorem q3184 : (Jvm.Cond.selects "SpendHouseModel" ({ cls := "SpendHouseModel", name := "fault", desc := "(I)I" } : Jvm.MethodName) ({ cls := "SpendHouseModel", name := "fault", desc := "(I)I" } : Jvm.MethodName)) ∈ lw_all := lw_g (lw_at lw_m13 132 rfl) rfl
theorem q3185 : (Jvm.Cond.code ({ cls := "SpendHouseModel", name := "fault", desc := "(I)I" } : Jvm.MethodName) prog_23_method_70_code (2 : Nat) (Option.some Jvm.ClassFile.FieldType.int)) ∈ lw_all := lw_g (lw_at lw_m13 133 rfl) rfl
theorem q3186 : (Jvm.Cond.methodLink "SpendHouseLaw" (31 : Nat) ({ cls := "SpendHouseModel", name := "policy", desc := "()I" } : Jvm.MethodName)) ∈ lw_all := lw_g (lw_at lw_m13 134 rfl) rfl
theorem q3187 : (Jvm.Cond.instanceMethod ({ cls := "SpendHouseModel", name := "policy", desc := "()I" } : Jvm.MethodName)) ∈ lw_all := lw_g (lw_at lw_m13 135 rfl) rfl
theorem q3188 : (Jvm.Cond.selects "SpendHouseModel" ({ cls := "SpendHouseModel", name := "policy", desc := "()I" } : Jvm.MethodName) ({ cls := "SpendHouseModel", name := "policy", desc := "()I" } : Jvm.MethodName)) ∈ lw_all := lw_g (lw_at lw_m13 136 rfl) rfl
theorem q3189 : (Jvm.Cond.code ({ cls := "SpendHouseModel", name := "policy", desc := "()I" } : Jvm.MethodName) prog_23_method_82_code (4 : Nat) (Option.some Jvm.ClassFile.FieldType.int)) ∈ lw_all := lw_g (lw_at lw_m13 137 rfl) rfl
theorem q3190 : (Jvm.Cond.methodLink "SpendHouseModel" (565 : Nat) ({ cls := "SpendHouseModel", name := "readPolicy", desc := "(I)I" } : Jvm.MethodName)) ∈ lw_all := lw_g (lw_at lw_m13 138 rfl) rfl
theorem q3191 : (Jvm.Cond.privateMethod ({ cls := "SpendHouseModel", name := "readPolicy", desc := "(I)I" } : Jvm.MethodName)) ∈ lw_tbl := lw_at lw_m13 139 rfl
theorem q3192 : (Jvm.Cond.instanceMethod ({ cls := "SpendHouseModel", name := "readPolicy", desc := "(I)I" } : Jvm.MethodName)) ∈ lw_all := lw_g (lw_at lw_m13 140 rfl) rfl
theorem q3193 : (Jvm.Cond.code ({ cls := "SpendHouseModel", name := "readPolicy", desc := "(I)I" } : Jvm.MethodName) prog_23_method_72_code (8 : Nat) (Option.some Jvm.ClassFile.FieldType.int)) ∈ lw_all := lw_g (lw_at lw_m13 141 rfl) rfl
theorem q3194 : (Jvm.Cond.methodLink "SpendHouseModel" (559 : Nat) ({ cls := "SpendHouseModel", name := "policyKind", desc := "(II)I" } : Jvm.MethodName)) ∈ lw_all := lw_g (lw_at lw_m13 142 rfl) rfl
theorem q3195 : (Jvm.Cond.privateMethod ({ cls := "SpendHouseModel", name := "policyKind", desc := "(II)I" } : Jvm.MethodName)) ∈ lw_tbl := lw_at lw_m13 143 rfl
theorem q3196 : (Jvm.Cond.instanceMethod ({ cls := "SpendHouseModel", name := "policyKind", desc := "(II)I" } : Jvm.MethodName)) ∈ lw_all := lw_g (lw_at lw_m13 144 rfl) rfl
theorem q3197 : (Jvm.Cond.code ({ cls := "SpendHouseModel", name := "policyKind", desc := "(II)I" } : Jvm.MethodName) prog_23_method_71_code (4 : Nat) (Option.some Jvm.ClassFile.FieldType.int)) ∈ lw_all := lw_g (lw_at lw_m13 145 rfl) rfl
theorem q3198 : (Jvm.Cond.stringRef "SpendHouseModel" (555 : Nat) "and") ∈ lw_tbl := lw_at lw_m13 146 rfl
theorem q3199 : (Jvm.Cond.stringRef "SpendHouseModel" (557 : Nat) "or") ∈ lw_tbl := lw_at lw_m13 147 rfl
theorem q3200 : (Jvm.Cond.methodLink "SpendHouseModel" (562 : Nat) ({ cls := "SpendHouseModel", name := "policies", desc := "(II)I" } : Jvm.MethodName)) ∈ lw_all := lw_g (lw_at lw_m13 148 rfl) rfl
theorem q3201 : (Jvm.Cond.privateMethod ({ cls := "SpendHouseModel", name := "policies", desc := "(II)I" } : Jvm.MethodName)) ∈ lw_tbl := lw_at lw_m13 149 rfl
theorem q3202 : (Jvm.Cond.instanceMethod ({ cls := "SpendHouseModel", name := "policies", desc := "(II)I" } : Jvm.MethodName)) ∈ lw_all := lw_g (lw_at lw_m13 150 rfl) rfl
theorem q3203 : (Jvm.Cond.code ({ cls := "SpendHouseModel", name := "policies", desc := "(II)I" } : Jvm.MethodName) prog_23_method_73_code (8 : Nat) (Option.some Jvm.ClassFile.FieldType.int)) ∈ lw_all := lw_g (lw_at lw_m13 151 rfl) rfl
theorem q3204 : (Jvm.Cond.methodLink "SpendHouseModel" (571 : Nat) ({ cls := "SpendHouseModel", name := "becomes", desc := "(I)I" } : Jvm.MethodName)) ∈ lw_all := lw_g (lw_at lw_m13 152 rfl) rfl
theorem q3205 : (Jvm.Cond.privateMethod ({ cls := "SpendHouseModel", name := "becomes", desc := "(I)I" } : Jvm.MethodName)) ∈ lw_tbl := lw_at lw_m13 153 rfl
theorem q3206 : (Jvm.Cond.instanceMethod ({ cls := "SpendHouseModel", name := "becomes", desc := "(I)I" } : Jvm.MethodName)) ∈ lw_all := lw_g (lw_at lw_m13 154 rfl) rfl
theorem q3207 : (Jvm.Cond.code ({ cls := "SpendHouseModel", name := "becomes", desc := "(I)I" } : Jvm.MethodName) prog_23_method_75_code (2 : Nat) (Option.some Jvm.ClassFile.FieldType.int)) ∈ lw_all := lw_g (lw_at lw_m13 155 rfl) rfl
theorem q3208 : (Jvm.Cond.methodLink "SpendHouseModel" (568 : Nat) ({ cls := "SpendHouseModel", name := "made", desc := "(IIII)I" } : Jvm.MethodName)) ∈ lw_all := lw_g (lw_at lw_m13 156 rfl) rfl
theorem q3209 : (Jvm.Cond.privateMethod ({ cls := "SpendHouseModel", name := "made", desc := "(IIII)I" } : Jvm.MethodName)) ∈ lw_tbl := lw_at lw_m13 157 rfl
theorem q3210 : (Jvm.Cond.instanceMethod ({ cls := "SpendHouseModel", name := "made", desc := "(IIII)I" } : Jvm.MethodName)) ∈ lw_all := lw_g (lw_at lw_m13 158 rfl) rfl
theorem q3211 : (Jvm.Cond.code ({ cls := "SpendHouseModel", name := "made", desc := "(IIII)I" } : Jvm.MethodName) prog_23_method_74_code (6 : Nat) (Option.some Jvm.ClassFile.FieldType.int)) ∈ lw_all := lw_g (lw_at lw_m13 159 rfl) rfl
theorem q3212 : (Jvm.Cond.methodLink "SpendHouseModel" (574 : Nat) ({ cls := "SpendHouseModel", name := "and", desc := "(II)I" } : Jvm.MethodName)) ∈ lw_all := lw_g (lw_at lw_m13 160 rfl) rfl
theorem q3213 : (Jvm.Cond.privateMethod ({ cls := "SpendHouseModel", name := "and", desc := "(II)I" } : Jvm.MethodName)) ∈ lw_tbl := lw_at lw_m13 161 rfl
theorem q3214 : (Jvm.Cond.instanceMethod ({ cls := "SpendHouseModel", name := "and", desc := "(II)I" } : Jvm.MethodName)) ∈ lw_all := lw_g (lw_at lw_m13 162 rfl) rfl
theorem q3215 : (Jvm.Cond.code ({ cls := "SpendHouseModel", name := "and", desc := "(II)I" } : Jvm.MethodName) prog_23_method_76_code (3 : Nat) (Option.some Jvm.ClassFile.FieldType.int)) ∈ lw_all := lw_g (lw_at lw_m13 163 rfl) rfl
theorem q3216 : (Jvm.Cond.methodLink "SpendHouseModel" (576 : Nat) ({ cls := "SpendHouseModel", name := "or", desc := "(II)I" } : Jvm.MethodName)) ∈ lw_all := lw_g (lw_at lw_m13 164 rfl) rfl
theorem q3217 : (Jvm.Cond.privateMethod ({ cls := "SpendHouseModel", name := "or", desc := "(II)I" } : Jvm.MethodName)) ∈ lw_tbl := lw_at lw_m13 165 rfl
theorem q3218 : (Jvm.Cond.instanceMethod ({ cls := "SpendHouseModel", name := "or", desc := "(II)I" } : Jvm.MethodName)) ∈ lw_all := lw_g (lw_at lw_m13 166 rfl) rfl
theorem q3219 : (Jvm.Cond.code ({ cls := "SpendHouseModel", name := "or", desc := "(II)I" } : Jvm.MethodName) prog_23_method_78_code (3 : Nat) (Option.some Jvm.ClassFile.FieldType.int)) ∈ lw_all := lw_g (lw_at lw_m13 167 rfl) rfl
theorem q3220 : (Jvm.Cond.methodLink "SpendHouseModel" (581 : Nat) ({ cls := "SpendHouseModel", name := "isPlain", desc := "(I)Z" } : Jvm.MethodName)) ∈ lw_all := lw_g (lw_at lw_m13 168 rfl) rfl
theorem q3221 : (Jvm.Cond.privateMethod ({ cls := "SpendHouseModel", name := "isPlain", desc := "(I)Z" } : Jvm.MethodName)) ∈ lw_tbl := lw_at lw_m13 169 rfl
theorem q3222 : (Jvm.Cond.instanceMethod ({ cls := "SpendHouseModel", name := "isPlain", desc := "(I)Z" } : Jvm.MethodName)) ∈ lw_all := lw_g (lw_at lw_m13 170 rfl) rfl
theorem q3223 : (Jvm.Cond.code ({ cls := "SpendHouseModel", name := "isPlain", desc := "(I)Z" } : Jvm.MethodName) prog_23_method_77_code (2 : Nat) (Option.some Jvm.ClassFile.FieldType.boolean)) ∈ lw_all := lw_g (lw_at lw_m13 171 rfl) rfl
theorem q3224 : (Jvm.Cond.methodLink "SpendHouseModel" (578 : Nat) ({ cls := "SpendHouseModel", name := "becomesThresh", desc := "(I)I" } : Jvm.MethodName)) ∈ lw_all := lw_g (lw_at lw_m13 172 rfl) rfl
theorem q3225 : (Jvm.Cond.privateMethod ({ cls := "SpendHouseModel", name := "becomesThresh", desc := "(I)I" } : Jvm.MethodName)) ∈ lw_tbl := lw_at lw_m13 173 rfl
theorem q3226 : (Jvm.Cond.instanceMethod ({ cls := "SpendHouseModel", name := "becomesThresh", desc := "(I)I" } : Jvm.MethodName)) ∈ lw_all := lw_g (lw_at lw_m13 174 rfl) rfl
theorem q3227 : (Jvm.Cond.code ({ cls := "SpendHouseModel", name := "becomesThresh", desc := "(I)I" } : Jvm.MethodName) prog_23_method_80_code (5 : Nat) (Option.some Jvm.ClassFile.FieldType.int)) ∈ lw_all := lw_g (lw_at lw_m13 175 rfl) rfl
theorem q3228 : (Jvm.Cond.methodLink "SpendHouseModel" (584 : Nat) ({ cls := "SpendHouseModel", name := "chain", desc := "(IZ)I" } : Jvm.MethodName)) ∈ lw_all := lw_g (lw_at lw_m13 176 rfl) rfl
theorem q3229 : (Jvm.Cond.privateMethod ({ cls := "SpendHouseModel", name := "chain", desc := "(IZ)I" } : Jvm.MethodName)) ∈ lw_tbl := lw_at lw_m13 177 rfl
theorem q3230 : (Jvm.Cond.instanceMethod ({ cls := "SpendHouseModel", name := "chain", desc := "(IZ)I" } : Jvm.MethodName)) ∈ lw_all := lw_g (lw_at lw_m13 178 rfl) rfl
theorem q3231 : (Jvm.Cond.code ({ cls := "SpendHouseModel", name := "chain", desc := "(IZ)I" } : Jvm.MethodName) prog_23_method_79_code (5 : Nat) (Option.some Jvm.ClassFile.FieldType.int)) ∈ lw_all := lw_g (lw_at lw_m13 179 rfl) rfl
theorem q3232 : (Jvm.Cond.methodLink "SpendHouseModel" (587 : Nat) ({ cls := "SpendHouseModel", name := "fitted", desc := "(IZ)I" } : Jvm.MethodName)) ∈ lw_all := lw_g (lw_at lw_m13 180 rfl) rfl
theorem q3233 : (Jvm.Cond.privateMethod ({ cls := "SpendHouseModel", name := "fitted", desc := "(IZ)I" } : Jvm.MethodName)) ∈ lw_tbl := lw_at lw_m13 181 rfl
theorem q3234 : (Jvm.Cond.instanceMethod ({ cls := "SpendHouseModel", name := "fitted", desc := "(IZ)I" } : Jvm.MethodName)) ∈ lw_all := lw_g (lw_at lw_m13 182 rfl) rfl
theorem q3235 : (Jvm.Cond.code ({ cls := "SpendHouseModel", name := "fitted", desc := "(IZ)I" } : Jvm.MethodName) prog_23_method_81_code (4 : Nat) (Option.some Jvm.ClassFile.FieldType.int)) ∈ lw_all := lw_g (lw_at lw_m13 183 rfl) rfl
theorem q3236 : (Jvm.Cond.methodLink "SpendHouseModel" (329 : Nat) ({ cls := "SpendHouseModel", name := "count", desc := "(I)I" } : Jvm.MethodName)) ∈ lw_all := lw_g (lw_at lw_m13 184 rfl) rfl
theorem q3237 : (Jvm.Cond.privateMethod ({ cls := "SpendHouseModel", name := "count", desc := "(I)I" } : Jvm.MethodName)) ∈ lw_tbl := lw_at lw_m13 185 rfl
theorem q3238 : (Jvm.Cond.instanceMethod ({ cls := "SpendHouseModel", name := "count", desc := "(I)I" } : Jvm.MethodName)) ∈ lw_all := lw_g (lw_at lw_m13 186 rfl) rfl
theorem q3239 : (Jvm.Cond.code ({ cls := "SpendHouseModel", name := "count", desc := "(I)I" } : Jvm.MethodName) prog_23_method_32_code (4 : Nat) (Option.some Jvm.ClassFile.FieldType.int)) ∈ lw_all := lw_g (lw_at lw_m13 187 rfl) rfl
theorem q3240 : (Jvm.Cond.methodLink "SpendHouseModel" (333 : Nat) ({ cls := "SpendHouseModel", name := "height", desc := "(I)I" } : Jvm.MethodName)) ∈ lw_all := lw_g (lw_at lw_m13 188 rfl) rfl
theorem q3241 : (Jvm.Cond.privateMethod ({ cls := "SpendHouseModel", name := "height", desc := "(I)I" } : Jvm.MethodName)) ∈ lw_tbl := lw_at lw_m13 189 rfl
theorem q3242 : (Jvm.Cond.instanceMethod ({ cls := "SpendHouseModel", name := "height", desc := "(I)I" } : Jvm.MethodName)) ∈ lw_all := lw_g (lw_at lw_m13 190 rfl) rfl
theorem q3243 : (Jvm.Cond.code ({ cls := "SpendHouseModel", name := "height", desc := "(I)I" } : Jvm.MethodName) prog_23_method_33_code (5 : Nat) (Option.some Jvm.ClassFile.FieldType.int)) ∈ lw_all := lw_g (lw_at lw_m13 191 rfl) rfl
theorem q3244 : (Jvm.Cond.methodLink "SpendHouseLaw" (69 : Nat) ({ cls := "SpendHouseModel", name := "meaning", desc := "(I)I" } : Jvm.MethodName)) ∈ lw_all := lw_g (lw_at lw_m13 192 rfl) rfl
theorem q3245 : (Jvm.Cond.instanceMethod ({ cls := "SpendHouseModel", name := "meaning", desc := "(I)I" } : Jvm.MethodName)) ∈ lw_all := lw_g (lw_at lw_m13 193 rfl) rfl
theorem q3246 : (Jvm.Cond.selects "SpendHouseModel" ({ cls := "SpendHouseModel", name := "meaning", desc := "(I)I" } : Jvm.MethodName) ({ cls := "SpendHouseModel", name := "meaning", desc := "(I)I" } : Jvm.MethodName)) ∈ lw_all := lw_g (lw_at lw_m13 194 rfl) rfl
theorem q3247 : (Jvm.Cond.code ({ cls := "SpendHouseModel", name := "meaning", desc := "(I)I" } : Jvm.MethodName) prog_23_method_84_code (2 : Nat) (Option.some Jvm.ClassFile.FieldType.int)) ∈ lw_all := lw_g (lw_at lw_m13 195 rfl) rfl
theorem q3248 : (Jvm.Cond.methodLink "SpendHouseModel" (599 : Nat) ({ cls := "SpendHouseModel", name := "means", desc := "(I)Z" } : Jvm.MethodName)) ∈ lw_all := lw_g (lw_at lw_m13 196 rfl) rfl
theorem q3249 : (Jvm.Cond.privateMethod ({ cls := "SpendHouseModel", name := "means", desc := "(I)Z" } : Jvm.MethodName)) ∈ lw_tbl := lw_at lw_m13 197 rfl
theorem q3250 : (Jvm.Cond.instanceMethod ({ cls := "SpendHouseModel", name := "means", desc := "(I)Z" } : Jvm.MethodName)) ∈ lw_all := lw_g (lw_at lw_m13 198 rfl) rfl
theorem q3251 : (Jvm.Cond.code ({ cls := "SpendHouseModel", name := "means", desc := "(I)Z" } : Jvm.MethodName) prog_23_method_83_code (5 : Nat) (Option.some Jvm.ClassFile.FieldType.boolean)) ∈ lw_all := lw_g (lw_at lw_m13 199 rfl) rfl
theorem q3252 : (Jvm.Cond.methodLink "SpendHouseModel" (593 : Nat) ({ cls := "SpendHouseModel", name := "isOlder", desc := "(J)Z" } : Jvm.MethodName)) ∈ lw_all := lw_g (lw_at lw_m13 200 rfl) rfl
theorem q3253 : (Jvm.Cond.privateMethod ({ cls := "SpendHouseModel", name := "isOlder", desc := "(J)Z" } : Jvm.MethodName)) ∈ lw_tbl := lw_at lw_m13 201 rfl
theorem q3254 : (Jvm.Cond.instanceMethod ({ cls := "SpendHouseModel", name := "isOlder", desc := "(J)Z" } : Jvm.MethodName)) ∈ lw_all := lw_g (lw_at lw_m13 202 rfl) rfl
theorem q3255 : (Jvm.Cond.code ({ cls := "SpendHouseModel", name := "isOlder", desc := "(J)Z" } : Jvm.MethodName) prog_23_method_28_code (5 : Nat) (Option.some Jvm.ClassFile.FieldType.boolean)) ∈ lw_all := lw_g (lw_at lw_m13 203 rfl) rfl
theorem q3256 : (Jvm.Cond.methodLink "SpendHouseModel" (320 : Nat) ({ cls := "SpendHouseModel", name := "plain", desc := "(I)J" } : Jvm.MethodName)) ∈ lw_all := lw_g (lw_at lw_m13 204 rfl) rfl
theorem q3257 : (Jvm.Cond.static ({ cls := "SpendHouseModel", name := "plain", desc := "(I)J" } : Jvm.MethodName)) ∈ lw_all := lw_g (lw_at lw_m13 205 rfl) rfl
theorem q3258 : (Jvm.Cond.code ({ cls := "SpendHouseModel", name := "plain", desc := "(I)J" } : Jvm.MethodName) prog_23_method_25_code (1 : Nat) (Option.some Jvm.ClassFile.FieldType.long)) ∈ lw_all := lw_g (lw_at lw_m13 206 rfl) rfl
theorem q3259 : (Jvm.Cond.constantLong "SpendHouseModel" (312 : Nat) (4294967295 : Int64)) ∈ lw_all := lw_g (lw_at lw_m13 207 rfl) rfl
theorem q3260 : (Jvm.Cond.constantLong "SpendHouseModel" (324 : Nat) (65535 : Int64)) ∈ lw_all := lw_g (lw_at lw_m13 208 rfl) rfl
theorem q3261 : (Jvm.Cond.methodLink "SpendHouseModel" (596 : Nat) ({ cls := "SpendHouseModel", name := "isAfter", desc := "(J)Z" } : Jvm.MethodName)) ∈ lw_all := lw_g (lw_at lw_m13 209 rfl) rfl
theorem q3262 : (Jvm.Cond.privateMethod ({ cls := "SpendHouseModel", name := "isAfter", desc := "(J)Z" } : Jvm.MethodName)) ∈ lw_tbl := lw_at lw_m13 210 rfl
theorem q3263 : (Jvm.Cond.instanceMethod ({ cls := "SpendHouseModel", name := "isAfter", desc := "(J)Z" } : Jvm.MethodName)) ∈ lw_all := lw_g (lw_at lw_m13 211 rfl) rfl
theorem q3264 : (Jvm.Cond.code ({ cls := "SpendHouseModel", name := "isAfter", desc := "(J)Z" } : Jvm.MethodName) prog_23_method_27_code (3 : Nat) (Option.some Jvm.ClassFile.FieldType.boolean)) ∈ lw_all := lw_g (lw_at lw_m13 212 rfl) rfl
theorem q3265 : (Jvm.Cond.methodLink "SpendHouseLaw" (39 : Nat) ({ cls := "SpendHouseModel", name := "written", desc := "()I" } : Jvm.MethodName)) ∈ lw_all := lw_g (lw_at lw_m13 213 rfl) rfl
theorem q3266 : (Jvm.Cond.instanceMethod ({ cls := "SpendHouseModel", name := "written", desc := "()I" } : Jvm.MethodName)) ∈ lw_all := lw_g (lw_at lw_m13 214 rfl) rfl
theorem q3267 : (Jvm.Cond.selects "SpendHouseModel" ({ cls := "SpendHouseModel", name := "written", desc := "()I" } : Jvm.MethodName) ({ cls := "SpendHouseModel", name := "written", desc := "()I" } : Jvm.MethodName)) ∈ lw_all := lw_g (lw_at lw_m13 215 rfl) rfl
theorem q3268 : (Jvm.Cond.code ({ cls := "SpendHouseModel", name := "written", desc := "()I" } : Jvm.MethodName) prog_23_method_91_code (1 : Nat) (Option.some Jvm.ClassFile.FieldType.int)) ∈ lw_all := lw_g (lw_at lw_m13 216 rfl) rfl
theorem q3269 : (Jvm.Cond.methodLink "SpendHouseLaw" (43 : Nat) ({ cls := "SpendHouseModel", name := "letter", desc := "(I)I" } : Jvm.MethodName)) ∈ lw_all := lw_g (lw_at lw_m13 217 rfl) rfl
theorem q3270 : (Jvm.Cond.instanceMethod ({ cls := "SpendHouseModel", name := "letter", desc := "(I)I" } : Jvm.MethodName)) ∈ lw_all := lw_g (lw_at lw_m13 218 rfl) rfl
theorem q3271 : (Jvm.Cond.selects "SpendHouseModel" ({ cls := "SpendHouseModel", name := "letter", desc := "(I)I" } : Jvm.MethodName) ({ cls := "SpendHouseModel", name := "letter", desc := "(I)I" } : Jvm.MethodName)) ∈ lw_all := lw_g (lw_at lw_m13 219 rfl) rfl
theorem q3272 : (Jvm.Cond.code ({ cls := "SpendHouseModel", name := "letter", desc := "(I)I" } : Jvm.MethodName) prog_23_method_92_code (2 : Nat) (Option.some Jvm.ClassFile.FieldType.int)) ∈ lw_all := lw_g (lw_at lw_m13 220 rfl) rfl
theorem q3273 : (Jvm.Cond.methodLink "SpendHouseLaw" (51 : Nat) ({ cls := "SpendHouseModel", name := "code", desc := "(I)I" } : Jvm.MethodName)) ∈ lw_all := lw_g (lw_at lw_m13 221 rfl) rfl
theorem q3274 : (Jvm.Cond.instanceMethod ({ cls := "SpendHouseModel", name := "code", desc := "(I)I" } : Jvm.MethodName)) ∈ lw_all := lw_g (lw_at lw_m13 222 rfl) rfl
theorem q3275 : (Jvm.Cond.selects "SpendHouseModel" ({ cls := "SpendHouseModel", name := "code", desc := "(I)I" } : Jvm.MethodName) ({ cls := "SpendHouseModel", name := "code", desc := "(I)I" } : Jvm.MethodName)) ∈ lw_all := lw_g (lw_at lw_m13 223 rfl) rfl
theorem q3276 : (Jvm.Cond.code ({ cls := "SpendHouseModel", name := "code", desc := "(I)I" } : Jvm.MethodName) prog_23_method_101_code (2 : Nat) (Option.some Jvm.ClassFile.FieldType.int)) ∈ lw_all := lw_g (lw_at lw_m13 224 rfl) rfl
theorem q3277 : (Jvm.Cond.methodLink "SpendHouseLaw" (47 : Nat) ({ cls := "SpendHouseModel", name := "type", desc := "(I)I" } : Jvm.MethodName)) ∈ lw_all := lw_g (lw_at lw_m13 225 rfl) rfl
theorem q3278 : (Jvm.Cond.instanceMethod ({ cls := "SpendHouseModel", name := "type", desc := "(I)I" } : Jvm.MethodName)) ∈ lw_all := lw_g (lw_at lw_m13 226 rfl) rfl
theorem q3279 : (Jvm.Cond.selects "SpendHouseModel" ({ cls := "SpendHouseModel", name := "type", desc := "(I)I" } : Jvm.MethodName) ({ cls := "SpendHouseModel", name := "type", desc := "(I)I" } : Jvm.MethodName)) ∈ lw_all := lw_g (lw_at lw_m13 227 rfl) rfl
theorem q3280 : (Jvm.Cond.code ({ cls := "SpendHouseModel", name := "type", desc := "(I)I" } : Jvm.MethodName) prog_23_method_104_code (3 : Nat) (Option.some Jvm.ClassFile.FieldType.int)) ∈ lw_all := lw_g (lw_at lw_m13 228 rfl) rfl
theorem q3281 : (Jvm.Cond.methodLink "SpendHouseModel" (663 : Nat) ({ cls := "SpendHouseModel", name := "isTwice", desc := "()Z" } : Jvm.MethodName)) ∈ lw_all := lw_g (lw_at lw_m13 229 rfl) rfl
theorem q3282 : (Jvm.Cond.privateMethod ({ cls := "SpendHouseModel", name := "isTwice", desc := "()Z" } : Jvm.MethodName)) ∈ lw_tbl := lw_at lw_m13 230 rfl
theorem q3283 : (Jvm.Cond.instanceMethod ({ cls := "SpendHouseModel", name := "isTwice", desc := "()Z" } : Jvm.MethodName)) ∈ lw_all := lw_g (lw_at lw_m13 231 rfl) rfl
theorem q3284 : (Jvm.Cond.code ({ cls := "SpendHouseModel", name := "isTwice", desc := "()Z" } : Jvm.MethodName) prog_23_method_103_code (3 : Nat) (Option.some Jvm.ClassFile.FieldType.boolean)) ∈ lw_all := lw_g (lw_at lw_m13 232 rfl) rfl
theorem q3285 : (Jvm.Cond.methodLink "SpendHouseModel" (659 : Nat) ({ cls := "SpendHouseModel", name := "uses", desc := "(I[I)V" } : Jvm.MethodName)) ∈ lw_all := lw_g (lw_at lw_m13 233 rfl) rfl
theorem q3286 : (Jvm.Cond.privateMethod ({ cls := "SpendHouseModel", name := "uses", desc := "(I[I)V" } : Jvm.MethodName)) ∈ lw_tbl := lw_at lw_m13 234 rfl
theorem q3287 : (Jvm.Cond.instanceMethod ({ cls := "SpendHouseModel", name := "uses", desc := "(I[I)V" } : Jvm.MethodName)) ∈ lw_all := lw_g (lw_at lw_m13 235 rfl) rfl
theorem q3288 : (Jvm.Cond.code ({ cls := "SpendHouseModel", name := "uses", desc := "(I[I)V" } : Jvm.MethodName) prog_23_method_102_code (4 : Nat) (Option.none : Option Jvm.ClassFile.FieldType)) ∈ lw_all := lw_g (lw_at lw_m13 236 rfl) rfl
theorem q3289 : (Jvm.Cond.methodLink "SpendHouseLaw" (73 : Nat) ({ cls := "SpendHouseModel", name := "satisfy", desc := "()I" } : Jvm.MethodName)) ∈ lw_all := lw_g (lw_at lw_m13 237 rfl) rfl
theorem q3290 : (Jvm.Cond.instanceMethod ({ cls := "SpendHouseModel", name := "satisfy", desc := "()I" } : Jvm.MethodName)) ∈ lw_all := lw_g (lw_at lw_m13 238 rfl) rfl
theorem q3291 : (Jvm.Cond.selects "SpendHouseModel" ({ cls := "SpendHouseModel", name := "satisfy", desc := "()I" } : Jvm.MethodName) ({ cls := "SpendHouseModel", name := "satisfy", desc := "()I" } : Jvm.MethodName)) ∈ lw_all := lw_g (lw_at lw_m13 239 rfl) rfl
theorem q3292 : (Jvm.Cond.code ({ cls := "SpendHouseModel", name := "satisfy", desc := "()I" } : Jvm.MethodName) prog_23_method_120_code (3 : Nat) (Option.some Jvm.ClassFile.FieldType.int)) ∈ lw_all := lw_g (lw_at lw_m14 0 rfl) rfl
theorem q3293 : (Jvm.Cond.methodLink "SpendHouseModel" (685 : Nat) ({ cls := "SpendHouseModel", name := "find", desc := "(I)V" } : Jvm.MethodName)) ∈ lw_all := lw_g (lw_at lw_m14 1 rfl) rfl
theorem q3294 : (Jvm.Cond.privateMethod ({ cls := "SpendHouseModel", name := "find", desc := "(I)V" } : Jvm.MethodName)) ∈ lw_tbl := lw_at lw_m14 2 rfl
theorem q3295 : (Jvm.Cond.instanceMethod ({ cls := "SpendHouseModel", name := "find", desc := "(I)V" } : Jvm.MethodName)) ∈ lw_all := lw_g (lw_at lw_m14 3 rfl) rfl
theorem q3296 : (Jvm.Cond.code ({ cls := "SpendHouseModel", name := "find", desc := "(I)V" } : Jvm.MethodName) prog_23_method_112_code (5 : Nat) (Option.none : Option Jvm.ClassFile.FieldType)) ∈ lw_all := lw_g (lw_at lw_m14 4 rfl) rfl
theorem q3297 : (Jvm.Cond.methodLink "SpendHouseModel" (688 : Nat) ({ cls := "SpendHouseModel", name := "wrapWays", desc := "(III)V" } : Jvm.MethodName)) ∈ lw_all := lw_g (lw_at lw_m14 5 rfl) rfl
theorem q3298 : (Jvm.Cond.privateMethod ({ cls := "SpendHouseModel", name := "wrapWays", desc := "(III)V" } : Jvm.MethodName)) ∈ lw_tbl := lw_at lw_m14 6 rfl
theorem q3299 : (Jvm.Cond.instanceMethod ({ cls := "SpendHouseModel", name := "wrapWays", desc := "(III)V" } : Jvm.MethodName)) ∈ lw_all := lw_g (lw_at lw_m14 7 rfl) rfl
theorem q3300 : (Jvm.Cond.code ({ cls := "SpendHouseModel", name := "wrapWays", desc := "(III)V" } : Jvm.MethodName) prog_23_method_116_code (4 : Nat) (Option.none : Option Jvm.ClassFile.FieldType)) ∈ lw_all := lw_g (lw_at lw_m14 8 rfl) rfl
theorem q3301 : (Jvm.Cond.methodLink "SpendHouseModel" (709 : Nat) ({ cls := "SpendHouseModel", name := "onTop", desc := "(II)I" } : Jvm.MethodName)) ∈ lw_all := lw_g (lw_at lw_m14 9 rfl) rfl
theorem q3302 : (Jvm.Cond.privateMethod ({ cls := "SpendHouseModel", name := "onTop", desc := "(II)I" } : Jvm.MethodName)) ∈ lw_tbl := lw_at lw_m14 10 rfl
theorem q3303 : (Jvm.Cond.instanceMethod ({ cls := "SpendHouseModel", name := "onTop", desc := "(II)I" } : Jvm.MethodName)) ∈ lw_all := lw_g (lw_at lw_m14 11 rfl) rfl
theorem q3304 : (Jvm.Cond.code ({ cls := "SpendHouseModel", name := "onTop", desc := "(II)I" } : Jvm.MethodName) prog_23_method_110_code (4 : Nat) (Option.some Jvm.ClassFile.FieldType.int)) ∈ lw_all := lw_g (lw_at lw_m14 12 rfl) rfl
theorem q3305 : (Jvm.Cond.methodLink "SpendHouseModel" (678 : Nat) ({ cls := "SpendHouseModel", name := "way", desc := "(Z)I" } : Jvm.MethodName)) ∈ lw_all := lw_g (lw_at lw_m14 13 rfl) rfl
theorem q3306 : (Jvm.Cond.privateMethod ({ cls := "SpendHouseModel", name := "way", desc := "(Z)I" } : Jvm.MethodName)) ∈ lw_tbl := lw_at lw_m14 14 rfl
theorem q3307 : (Jvm.Cond.instanceMethod ({ cls := "SpendHouseModel", name := "way", desc := "(Z)I" } : Jvm.MethodName)) ∈ lw_all := lw_g (lw_at lw_m14 15 rfl) rfl
theorem q3308 : (Jvm.Cond.code ({ cls := "SpendHouseModel", name := "way", desc := "(Z)I" } : Jvm.MethodName) prog_23_method_105_code (3 : Nat) (Option.some Jvm.ClassFile.FieldType.int)) ∈ lw_all := lw_g (lw_at lw_m14 16 rfl) rfl
theorem q3309 : (Jvm.Cond.methodLink "SpendHouseModel" (682 : Nat) ({ cls := "SpendHouseModel", name := "takes", desc := "(II)V" } : Jvm.MethodName)) ∈ lw_all := lw_g (lw_at lw_m14 17 rfl) rfl
theorem q3310 : (Jvm.Cond.privateMethod ({ cls := "SpendHouseModel", name := "takes", desc := "(II)V" } : Jvm.MethodName)) ∈ lw_tbl := lw_at lw_m14 18 rfl
theorem q3311 : (Jvm.Cond.instanceMethod ({ cls := "SpendHouseModel", name := "takes", desc := "(II)V" } : Jvm.MethodName)) ∈ lw_all := lw_g (lw_at lw_m14 19 rfl) rfl
theorem q3312 : (Jvm.Cond.code ({ cls := "SpendHouseModel", name := "takes", desc := "(II)V" } : Jvm.MethodName) prog_23_method_108_code (4 : Nat) (Option.none : Option Jvm.ClassFile.FieldType)) ∈ lw_all := lw_g (lw_at lw_m14 20 rfl) rfl
theorem q3313 : (Jvm.Cond.methodLink "SpendHouseModel" (675 : Nat) ({ cls := "SpendHouseModel", name := "with", desc := "(II)I" } : Jvm.MethodName)) ∈ lw_all := lw_g (lw_at lw_m14 21 rfl) rfl
theorem q3314 : (Jvm.Cond.privateMethod ({ cls := "SpendHouseModel", name := "with", desc := "(II)I" } : Jvm.MethodName)) ∈ lw_tbl := lw_at lw_m14 22 rfl
theorem q3315 : (Jvm.Cond.instanceMethod ({ cls := "SpendHouseModel", name := "with", desc := "(II)I" } : Jvm.MethodName)) ∈ lw_all := lw_g (lw_at lw_m14 23 rfl) rfl
theorem q3316 : (Jvm.Cond.code ({ cls := "SpendHouseModel", name := "with", desc := "(II)I" } : Jvm.MethodName) prog_23_method_107_code (3 : Nat) (Option.some Jvm.ClassFile.FieldType.int)) ∈ lw_all := lw_g (lw_at lw_m14 24 rfl) rfl
theorem q3317 : (Jvm.Cond.methodLink "SpendHouseModel" (672 : Nat) ({ cls := "SpendHouseModel", name := "itemSize", desc := "(I)I" } : Jvm.MethodName)) ∈ lw_all := lw_g (lw_at lw_m14 25 rfl) rfl
theorem q3318 : (Jvm.Cond.static ({ cls := "SpendHouseModel", name := "itemSize", desc := "(I)I" } : Jvm.MethodName)) ∈ lw_all := lw_g (lw_at lw_m14 26 rfl) rfl
theorem q3319 : (Jvm.Cond.code ({ cls := "SpendHouseModel", name := "itemSize", desc := "(I)I" } : Jvm.MethodName) prog_23_method_106_code (1 : Nat) (Option.some Jvm.ClassFile.FieldType.int)) ∈ lw_all := lw_g (lw_at lw_m14 27 rfl) rfl
theorem q3320 : (Jvm.Cond.methodLink "SpendHouseModel" (703 : Nat) ({ cls := "SpendHouseModel", name := "both", desc := "(II)I" } : Jvm.MethodName)) ∈ lw_all := lw_g (lw_at lw_m14 28 rfl) rfl
theorem q3321 : (Jvm.Cond.privateMethod ({ cls := "SpendHouseModel", name := "both", desc := "(II)I" } : Jvm.MethodName)) ∈ lw_tbl := lw_at lw_m14 29 rfl
theorem q3322 : (Jvm.Cond.instanceMethod ({ cls := "SpendHouseModel", name := "both", desc := "(II)I" } : Jvm.MethodName)) ∈ lw_all := lw_g (lw_at lw_m14 30 rfl) rfl
theorem q3323 : (Jvm.Cond.code ({ cls := "SpendHouseModel", name := "both", desc := "(II)I" } : Jvm.MethodName) prog_23_method_109_code (4 : Nat) (Option.some Jvm.ClassFile.FieldType.int)) ∈ lw_all := lw_g (lw_at lw_m14 31 rfl) rfl
theorem q3324 : (Jvm.Cond.methodLink "SpendHouseModel" (691 : Nat) ({ cls := "SpendHouseModel", name := "pairWays", desc := "(IIII)V" } : Jvm.MethodName)) ∈ lw_all := lw_g (lw_at lw_m14 32 rfl) rfl
theorem q3325 : (Jvm.Cond.privateMethod ({ cls := "SpendHouseModel", name := "pairWays", desc := "(IIII)V" } : Jvm.MethodName)) ∈ lw_tbl := lw_at lw_m14 33 rfl
theorem q3326 : (Jvm.Cond.instanceMethod ({ cls := "SpendHouseModel", name := "pairWays", desc := "(IIII)V" } : Jvm.MethodName)) ∈ lw_all := lw_g (lw_at lw_m14 34 rfl) rfl
theorem q3327 : (Jvm.Cond.code ({ cls := "SpendHouseModel", name := "pairWays", desc := "(IIII)V" } : Jvm.MethodName) prog_23_method_115_code (7 : Nat) (Option.none : Option Jvm.ClassFile.FieldType)) ∈ lw_all := lw_g (lw_at lw_m14 35 rfl) rfl
theorem q3328 : (Jvm.Cond.methodLink "SpendHouseModel" (706 : Nat) ({ cls := "SpendHouseModel", name := "either", desc := "(II)I" } : Jvm.MethodName)) ∈ lw_all := lw_g (lw_at lw_m14 36 rfl) rfl
theorem q3329 : (Jvm.Cond.privateMethod ({ cls := "SpendHouseModel", name := "either", desc := "(II)I" } : Jvm.MethodName)) ∈ lw_tbl := lw_at lw_m14 37 rfl
theorem q3330 : (Jvm.Cond.instanceMethod ({ cls := "SpendHouseModel", name := "either", desc := "(II)I" } : Jvm.MethodName)) ∈ lw_all := lw_g (lw_at lw_m14 38 rfl) rfl
theorem q3331 : (Jvm.Cond.code ({ cls := "SpendHouseModel", name := "either", desc := "(II)I" } : Jvm.MethodName) prog_23_method_111_code (4 : Nat) (Option.some Jvm.ClassFile.FieldType.int)) ∈ lw_all := lw_g (lw_at lw_m14 39 rfl) rfl
theorem q3332 : (Jvm.Cond.methodLink "SpendHouseModel" (694 : Nat) ({ cls := "SpendHouseModel", name := "threshWays", desc := "(I)V" } : Jvm.MethodName)) ∈ lw_all := lw_g (lw_at lw_m14 40 rfl) rfl
theorem q3333 : (Jvm.Cond.privateMethod ({ cls := "SpendHouseModel", name := "threshWays", desc := "(I)V" } : Jvm.MethodName)) ∈ lw_tbl := lw_at lw_m14 41 rfl
theorem q3334 : (Jvm.Cond.instanceMethod ({ cls := "SpendHouseModel", name := "threshWays", desc := "(I)V" } : Jvm.MethodName)) ∈ lw_all := lw_g (lw_at lw_m14 42 rfl) rfl
theorem q3335 : (Jvm.Cond.code ({ cls := "SpendHouseModel", name := "threshWays", desc := "(I)V" } : Jvm.MethodName) prog_23_method_117_code (6 : Nat) (Option.none : Option Jvm.ClassFile.FieldType)) ∈ lw_all := lw_g (lw_at lw_m14 43 rfl) rfl
theorem q3336 : (Jvm.Cond.methodLink "SpendHouseModel" (697 : Nat) ({ cls := "SpendHouseModel", name := "plainWays", desc := "(III)V" } : Jvm.MethodName)) ∈ lw_all := lw_g (lw_at lw_m14 44 rfl) rfl
theorem q3337 : (Jvm.Cond.privateMethod ({ cls := "SpendHouseModel", name := "plainWays", desc := "(III)V" } : Jvm.MethodName)) ∈ lw_tbl := lw_at lw_m14 45 rfl
theorem q3338 : (Jvm.Cond.instanceMethod ({ cls := "SpendHouseModel", name := "plainWays", desc := "(III)V" } : Jvm.MethodName)) ∈ lw_all := lw_g (lw_at lw_m14 46 rfl) rfl
theorem q3339 : (Jvm.Cond.code ({ cls := "SpendHouseModel", name := "plainWays", desc := "(III)V" } : Jvm.MethodName) prog_23_method_113_code (4 : Nat) (Option.none : Option Jvm.ClassFile.FieldType)) ∈ lw_all := lw_g (lw_at lw_m14 47 rfl) rfl
theorem q3340 : (Jvm.Cond.methodLink "SpendHouseModel" (700 : Nat) ({ cls := "SpendHouseModel", name := "multiWays", desc := "(II)V" } : Jvm.MethodName)) ∈ lw_all := lw_g (lw_at lw_m14 48 rfl) rfl
theorem q3341 : (Jvm.Cond.privateMethod ({ cls := "SpendHouseModel", name := "multiWays", desc := "(II)V" } : Jvm.MethodName)) ∈ lw_tbl := lw_at lw_m14 49 rfl
theorem q3342 : (Jvm.Cond.instanceMethod ({ cls := "SpendHouseModel", name := "multiWays", desc := "(II)V" } : Jvm.MethodName)) ∈ lw_all := lw_g (lw_at lw_m14 50 rfl) rfl
theorem q3343 : (Jvm.Cond.code ({ cls := "SpendHouseModel", name := "multiWays", desc := "(II)V" } : Jvm.MethodName) prog_23_method_114_code (6 : Nat) (Option.none : Option Jvm.ClassFile.FieldType)) ∈ lw_all := lw_g (lw_at lw_m14 51 rfl) rfl
theorem q3344 : (Jvm.Cond.methodLink "SpendHouseModel" (715 : Nat) ({ cls := "SpendHouseModel", name := "lays", desc := "(I)V" } : Jvm.MethodName)) ∈ lw_all := lw_g (lw_at lw_m14 52 rfl) rfl
theorem q3345 : (Jvm.Cond.privateMethod ({ cls := "SpendHouseModel", name := "lays", desc := "(I)V" } : Jvm.MethodName)) ∈ lw_tbl := lw_at lw_m14 53 rfl
theorem q3346 : (Jvm.Cond.instanceMethod ({ cls := "SpendHouseModel", name := "lays", desc := "(I)V" } : Jvm.MethodName)) ∈ lw_all := lw_g (lw_at lw_m14 54 rfl) rfl
theorem q3347 : (Jvm.Cond.code ({ cls := "SpendHouseModel", name := "lays", desc := "(I)V" } : Jvm.MethodName) prog_23_method_119_code (3 : Nat) (Option.none : Option Jvm.ClassFile.FieldType)) ∈ lw_all := lw_g (lw_at lw_m14 55 rfl) rfl
theorem q3348 : (Jvm.Cond.methodLink "SpendHouseModel" (712 : Nat) ({ cls := "SpendHouseModel", name := "itemByte", desc := "(II)I" } : Jvm.MethodName)) ∈ lw_all := lw_g (lw_at lw_m14 56 rfl) rfl
theorem q3349 : (Jvm.Cond.privateMethod ({ cls := "SpendHouseModel", name := "itemByte", desc := "(II)I" } : Jvm.MethodName)) ∈ lw_tbl := lw_at lw_m14 57 rfl
theorem q3350 : (Jvm.Cond.instanceMethod ({ cls := "SpendHouseModel", name := "itemByte", desc := "(II)I" } : Jvm.MethodName)) ∈ lw_all := lw_g (lw_at lw_m14 58 rfl) rfl
theorem q3351 : (Jvm.Cond.code ({ cls := "SpendHouseModel", name := "itemByte", desc := "(II)I" } : Jvm.MethodName) prog_23_method_118_code (4 : Nat) (Option.some Jvm.ClassFile.FieldType.int)) ∈ lw_all := lw_g (lw_at lw_m14 59 rfl) rfl
theorem q3352 : (Jvm.Cond.methodLink "SpendHouseLaw" (77 : Nat) ({ cls := "SpendHouseModel", name := "item", desc := "(II)I" } : Jvm.MethodName)) ∈ lw_all := lw_g (lw_at lw_m14 60 rfl) rfl
theorem q3353 : (Jvm.Cond.instanceMethod ({ cls := "SpendHouseModel", name := "item", desc := "(II)I" } : Jvm.MethodName)) ∈ lw_all := lw_g (lw_at lw_m14 61 rfl) rfl
theorem q3354 : (Jvm.Cond.selects "SpendHouseModel" ({ cls := "SpendHouseModel", name := "item", desc := "(II)I" } : Jvm.MethodName) ({ cls := "SpendHouseModel", name := "item", desc := "(II)I" } : Jvm.MethodName)) ∈ lw_all := lw_g (lw_at lw_m14 62 rfl) rfl
theorem q3355 : (Jvm.Cond.code ({ cls := "SpendHouseModel", name := "item", desc := "(II)I" } : Jvm.MethodName) prog_23_method_121_code (3 : Nat) (Option.some Jvm.ClassFile.FieldType.int)) ∈ lw_all := lw_g (lw_at lw_m14 63 rfl) rfl
theorem q3356 : (Jvm.Cond.methodLink "SpendHouseLaw" (81 : Nat) ({ cls := "SpendHouseModel", name := "add", desc := "(II)I" } : Jvm.MethodName)) ∈ lw_all := lw_g (lw_at lw_m14 64 rfl) rfl
theorem q3357 : (Jvm.Cond.instanceMethod ({ cls := "SpendHouseModel", name := "add", desc := "(II)I" } : Jvm.MethodName)) ∈ lw_all := lw_g (lw_at lw_m14 65 rfl) rfl
theorem q3358 : (Jvm.Cond.selects "SpendHouseModel" ({ cls := "SpendHouseModel", name := "add", desc := "(II)I" } : Jvm.MethodName) ({ cls := "SpendHouseModel", name := "add", desc := "(II)I" } : Jvm.MethodName)) ∈ lw_all := lw_g (lw_at lw_m14 66 rfl) rfl
theorem q3359 : (Jvm.Cond.code ({ cls := "SpendHouseModel", name := "add", desc := "(II)I" } : Jvm.MethodName) prog_23_method_122_code (4 : Nat) (Option.some Jvm.ClassFile.FieldType.int)) ∈ lw_all := lw_g (lw_at lw_m14 67 rfl) rfl
theorem q3360 : (Jvm.Cond.methodLink "SpendHouseLaw" (85 : Nat) ({ cls := "SpendHouseModel", name := "give", desc := "(II)I" } : Jvm.MethodName)) ∈ lw_all := lw_g (lw_at lw_m14 68 rfl) rfl
theorem q3361 : (Jvm.Cond.instanceMethod ({ cls := "SpendHouseModel", name := "give", desc := "(II)I" } : Jvm.MethodName)) ∈ lw_all := lw_g (lw_at lw_m14 69 rfl) rfl
theorem q3362 : (Jvm.Cond.selects "SpendHouseModel" ({ cls := "SpendHouseModel", name := "give", desc := "(II)I" } : Jvm.MethodName) ({ cls := "SpendHouseModel", name := "give", desc := "(II)I" } : Jvm.MethodName)) ∈ lw_all := lw_g (lw_at lw_m14 70 rfl) rfl
theorem q3363 : (Jvm.Cond.code ({ cls := "SpendHouseModel", name := "give", desc := "(II)I" } : Jvm.MethodName) prog_23_method_123_code (3 : Nat) (Option.some Jvm.ClassFile.FieldType.int)) ∈ lw_all := lw_g (lw_at lw_m14 71 rfl) rfl
theorem q3364 : (Jvm.Cond.methodLink "SpendHouseLaw" (89 : Nat) ({ cls := "SpendHouseModel", name := "swap", desc := "(II)I" } : Jvm.MethodName)) ∈ lw_all := lw_g (lw_at lw_m14 72 rfl) rfl
theorem q3365 : (Jvm.Cond.instanceMethod ({ cls := "SpendHouseModel", name := "swap", desc := "(II)I" } : Jvm.MethodName)) ∈ lw_all := lw_g (lw_at lw_m14 73 rfl) rfl
theorem q3366 : (Jvm.Cond.selects "SpendHouseModel" ({ cls := "SpendHouseModel", name := "swap", desc := "(II)I" } : Jvm.MethodName) ({ cls := "SpendHouseModel", name := "swap", desc := "(II)I" } : Jvm.MethodName)) ∈ lw_all := lw_g (lw_at lw_m14 74 rfl) rfl
theorem q3367 : (Jvm.Cond.code ({ cls := "SpendHouseModel", name := "swap", desc := "(II)I" } : Jvm.MethodName) prog_23_method_124_code (6 : Nat) (Option.some Jvm.ClassFile.FieldType.int)) ∈ lw_all := lw_g (lw_at lw_m14 75 rfl) rfl
theorem q3368 : (Jvm.Cond.methodLink "SpendHouseLaw" (94 : Nat) ({ cls := "SpendHouseModel", name := "alter", desc := "(III)I" } : Jvm.MethodName)) ∈ lw_all := lw_g (lw_at lw_m14 76 rfl) rfl
theorem q3369 : (Jvm.Cond.instanceMethod ({ cls := "SpendHouseModel", name := "alter", desc := "(III)I" } : Jvm.MethodName)) ∈ lw_all := lw_g (lw_at lw_m14 77 rfl) rfl
theorem q3370 : (Jvm.Cond.selects "SpendHouseModel" ({ cls := "SpendHouseModel", name := "alter", desc := "(III)I" } : Jvm.MethodName) ({ cls := "SpendHouseModel", name := "alter", desc := "(III)I" } : Jvm.MethodName)) ∈ lw_all := lw_g (lw_at lw_m14 78 rfl) rfl
theorem q3371 : (Jvm.Cond.code ({ cls := "SpendHouseModel", name := "alter", desc := "(III)I" } : Jvm.MethodName) prog_23_method_125_code (4 : Nat) (Option.some Jvm.ClassFile.FieldType.int)) ∈ lw_all := lw_g (lw_at lw_m14 79 rfl) rfl
theorem q3372 : (Jvm.Cond.methodLink "SpendHouseLaw" (98 : Nat) ({ cls := "SpendHouseModel", name := "forget", desc := "()I" } : Jvm.MethodName)) ∈ lw_all := lw_g (lw_at lw_m14 80 rfl) rfl
theorem q3373 : (Jvm.Cond.instanceMethod ({ cls := "SpendHouseModel", name := "forget", desc := "()I" } : Jvm.MethodName)) ∈ lw_all := lw_g (lw_at lw_m14 81 rfl) rfl
theorem q3374 : (Jvm.Cond.selects "SpendHouseModel" ({ cls := "SpendHouseModel", name := "forget", desc := "()I" } : Jvm.MethodName) ({ cls := "SpendHouseModel", name := "forget", desc := "()I" } : Jvm.MethodName)) ∈ lw_all := lw_g (lw_at lw_m14 82 rfl) rfl
theorem q3375 : (Jvm.Cond.code ({ cls := "SpendHouseModel", name := "forget", desc := "()I" } : Jvm.MethodName) prog_23_method_126_code (2 : Nat) (Option.some Jvm.ClassFile.FieldType.int)) ∈ lw_all := lw_g (lw_at lw_m14 83 rfl) rfl
theorem q3376 : (Jvm.Cond.methodLink "SpendHouseLaw" (102 : Nat) ({ cls := "SpendHouseModel", name := "run", desc := "()I" } : Jvm.MethodName)) ∈ lw_all := lw_g (lw_at lw_m14 84 rfl) rfl
theorem q3377 : (Jvm.Cond.instanceMethod ({ cls := "SpendHouseModel", name := "run", desc := "()I" } : Jvm.MethodName)) ∈ lw_all := lw_g (lw_at lw_m14 85 rfl) rfl
theorem q3378 : (Jvm.Cond.selects "SpendHouseModel" ({ cls := "SpendHouseModel", name := "run", desc := "()I" } : Jvm.MethodName) ({ cls := "SpendHouseModel", name := "run", desc := "()I" } : Jvm.MethodName)) ∈ lw_all := lw_g (lw_at lw_m14 86 rfl) rfl
theorem q3379 : (Jvm.Cond.code ({ cls := "SpendHouseModel", name := "run", desc := "()I" } : Jvm.MethodName) prog_23_method_137_code (2 : Nat) (Option.some Jvm.ClassFile.FieldType.int)) ∈ lw_all := lw_g (lw_at lw_m14 87 rfl) rfl
theorem q3380 : (Jvm.Cond.methodLink "SpendHouseModel" (724 : Nat) ({ cls := "SpendHouseModel", name := "stops", desc := "(I)V" } : Jvm.MethodName)) ∈ lw_all := lw_g (lw_at lw_m14 88 rfl) rfl
theorem q3381 : (Jvm.Cond.privateMethod ({ cls := "SpendHouseModel", name := "stops", desc := "(I)V" } : Jvm.MethodName)) ∈ lw_tbl := lw_at lw_m14 89 rfl
theorem q3382 : (Jvm.Cond.instanceMethod ({ cls := "SpendHouseModel", name := "stops", desc := "(I)V" } : Jvm.MethodName)) ∈ lw_all := lw_g (lw_at lw_m14 90 rfl) rfl
theorem q3383 : (Jvm.Cond.code ({ cls := "SpendHouseModel", name := "stops", desc := "(I)V" } : Jvm.MethodName) prog_23_method_127_code (2 : Nat) (Option.none : Option Jvm.ClassFile.FieldType)) ∈ lw_all := lw_g (lw_at lw_m14 91 rfl) rfl
theorem q3384 : (Jvm.Cond.methodLink "SpendHouseModel" (738 : Nat) ({ cls := "SpendHouseModel", name := "steps", desc := "()V" } : Jvm.MethodName)) ∈ lw_all := lw_g (lw_at lw_m14 92 rfl) rfl
theorem q3385 : (Jvm.Cond.privateMethod ({ cls := "SpendHouseModel", name := "steps", desc := "()V" } : Jvm.MethodName)) ∈ lw_tbl := lw_at lw_m14 93 rfl
theorem q3386 : (Jvm.Cond.instanceMethod ({ cls := "SpendHouseModel", name := "steps", desc := "()V" } : Jvm.MethodName)) ∈ lw_all := lw_g (lw_at lw_m14 94 rfl) rfl
theorem q3387 : (Jvm.Cond.code ({ cls := "SpendHouseModel", name := "steps", desc := "()V" } : Jvm.MethodName) prog_23_method_138_code (4 : Nat) (Option.none : Option Jvm.ClassFile.FieldType)) ∈ lw_all := lw_g (lw_at lw_m14 95 rfl) rfl
theorem q3388 : (Jvm.Cond.methodLink "SpendHouseModel" (747 : Nat) ({ cls := "SpendHouseModel", name := "runs", desc := "()Z" } : Jvm.MethodName)) ∈ lw_all := lw_g (lw_at lw_m14 96 rfl) rfl
theorem q3389 : (Jvm.Cond.privateMethod ({ cls := "SpendHouseModel", name := "runs", desc := "()Z" } : Jvm.MethodName)) ∈ lw_tbl := lw_at lw_m14 97 rfl
theorem q3390 : (Jvm.Cond.instanceMethod ({ cls := "SpendHouseModel", name := "runs", desc := "()Z" } : Jvm.MethodName)) ∈ lw_all := lw_g (lw_at lw_m14 98 rfl) rfl
theorem q3391 : (Jvm.Cond.code ({ cls := "SpendHouseModel", name := "runs", desc := "()Z" } : Jvm.MethodName) prog_23_method_136_code (3 : Nat) (Option.some Jvm.ClassFile.FieldType.boolean)) ∈ lw_all := lw_g (lw_at lw_m14 99 rfl) rfl
theorem q3392 : (Jvm.Cond.methodLink "SpendHouseModel" (750 : Nat) ({ cls := "SpendHouseModel", name := "branch", desc := "(I)V" } : Jvm.MethodName)) ∈ lw_all := lw_g (lw_at lw_m14 100 rfl) rfl
theorem q3393 : (Jvm.Cond.privateMethod ({ cls := "SpendHouseModel", name := "branch", desc := "(I)V" } : Jvm.MethodName)) ∈ lw_tbl := lw_at lw_m14 101 rfl
theorem q3394 : (Jvm.Cond.instanceMethod ({ cls := "SpendHouseModel", name := "branch", desc := "(I)V" } : Jvm.MethodName)) ∈ lw_all := lw_g (lw_at lw_m14 102 rfl) rfl
theorem q3395 : (Jvm.Cond.code ({ cls := "SpendHouseModel", name := "branch", desc := "(I)V" } : Jvm.MethodName) prog_23_method_139_code (4 : Nat) (Option.none : Option Jvm.ClassFile.FieldType)) ∈ lw_all := lw_g (lw_at lw_m14 103 rfl) rfl
theorem q3396 : (Jvm.Cond.methodLink "SpendHouseModel" (756 : Nat) ({ cls := "SpendHouseModel", name := "needs", desc := "(I)Z" } : Jvm.MethodName)) ∈ lw_all := lw_g (lw_at lw_m14 104 rfl) rfl
theorem q3397 : (Jvm.Cond.privateMethod ({ cls := "SpendHouseModel", name := "needs", desc := "(I)Z" } : Jvm.MethodName)) ∈ lw_tbl := lw_at lw_m14 105 rfl
theorem q3398 : (Jvm.Cond.instanceMethod ({ cls := "SpendHouseModel", name := "needs", desc := "(I)Z" } : Jvm.MethodName)) ∈ lw_all := lw_g (lw_at lw_m14 106 rfl) rfl
theorem q3399 : (Jvm.Cond.code ({ cls := "SpendHouseModel", name := "needs", desc := "(I)Z" } : Jvm.MethodName) prog_23_method_128_code (2 : Nat) (Option.some Jvm.ClassFile.FieldType.boolean)) ∈ lw_all := lw_g (lw_at lw_m14 107 rfl) rfl
theorem q3400 : (Jvm.Cond.methodLink "SpendHouseModel" (753 : Nat) ({ cls := "SpendHouseModel", name := "does", desc := "(I)V" } : Jvm.MethodName)) ∈ lw_all := lw_g (lw_at lw_m14 108 rfl) rfl
theorem q3401 : (Jvm.Cond.privateMethod ({ cls := "SpendHouseModel", name := "does", desc := "(I)V" } : Jvm.MethodName)) ∈ lw_tbl := lw_at lw_m14 109 rfl
theorem q3402 : (Jvm.Cond.instanceMethod ({ cls := "SpendHouseModel", name := "does", desc := "(I)V" } : Jvm.MethodName)) ∈ lw_all := lw_g (lw_at lw_m14 110 rfl) rfl
theorem q3403 : (Jvm.Cond.code ({ cls := "SpendHouseModel", name := "does", desc := "(I)V" } : Jvm.MethodName) prog_23_method_140_code (3 : Nat) (Option.none : Option Jvm.ClassFile.FieldType)) ∈ lw_all := lw_g (lw_at lw_m14 111 rfl) rfl
theorem q3404 : (Jvm.Cond.methodLink "SpendHouseModel" (759 : Nat) ({ cls := "SpendHouseModel", name := "pushLong", desc := "(J)V" } : Jvm.MethodName)) ∈ lw_all := lw_g (lw_at lw_m14 112 rfl) rfl
theorem q3405 : (Jvm.Cond.privateMethod ({ cls := "SpendHouseModel", name := "pushLong", desc := "(J)V" } : Jvm.MethodName)) ∈ lw_tbl := lw_at lw_m14 113 rfl
theorem q3406 : (Jvm.Cond.instanceMethod ({ cls := "SpendHouseModel", name := "pushLong", desc := "(J)V" } : Jvm.MethodName)) ∈ lw_all := lw_g (lw_at lw_m14 114 rfl) rfl
theorem q3407 : (Jvm.Cond.code ({ cls := "SpendHouseModel", name := "pushLong", desc := "(J)V" } : Jvm.MethodName) prog_23_method_132_code (6 : Nat) (Option.none : Option Jvm.ClassFile.FieldType)) ∈ lw_all := lw_g (lw_at lw_m14 115 rfl) rfl
theorem q3408 : (Jvm.Cond.constantLong "SpendHouseModel" (727 : Nat) (255 : Int64)) ∈ lw_all := lw_g (lw_at lw_m14 116 rfl) rfl
theorem q3409 : (Jvm.Cond.methodLink "SpendHouseModel" (741 : Nat) ({ cls := "SpendHouseModel", name := "isTrue", desc := "(I)Z" } : Jvm.MethodName)) ∈ lw_all := lw_g (lw_at lw_m14 117 rfl) rfl
theorem q3410 : (Jvm.Cond.privateMethod ({ cls := "SpendHouseModel", name := "isTrue", desc := "(I)Z" } : Jvm.MethodName)) ∈ lw_tbl := lw_at lw_m14 118 rfl
theorem q3411 : (Jvm.Cond.instanceMethod ({ cls := "SpendHouseModel", name := "isTrue", desc := "(I)Z" } : Jvm.MethodName)) ∈ lw_all := lw_g (lw_at lw_m14 119 rfl) rfl
theorem q3412 : (Jvm.Cond.code ({ cls := "SpendHouseModel", name := "isTrue", desc := "(I)Z" } : Jvm.MethodName) prog_23_method_130_code (4 : Nat) (Option.some Jvm.ClassFile.FieldType.boolean)) ∈ lw_all := lw_g (lw_at lw_m14 120 rfl) rfl
theorem q3413 : (Jvm.Cond.methodLink "SpendHouseModel" (763 : Nat) ({ cls := "SpendHouseModel", name := "alternates", desc := "(I)V" } : Jvm.MethodName)) ∈ lw_all := lw_g (lw_at lw_m14 121 rfl) rfl
theorem q3414 : (Jvm.Cond.privateMethod ({ cls := "SpendHouseModel", name := "alternates", desc := "(I)V" } : Jvm.MethodName)) ∈ lw_tbl := lw_at lw_m14 122 rfl
theorem q3415 : (Jvm.Cond.instanceMethod ({ cls := "SpendHouseModel", name := "alternates", desc := "(I)V" } : Jvm.MethodName)) ∈ lw_all := lw_g (lw_at lw_m14 123 rfl) rfl
theorem q3416 : (Jvm.Cond.code ({ cls := "SpendHouseModel", name := "alternates", desc := "(I)V" } : Jvm.MethodName) prog_23_method_141_code (2 : Nat) (Option.none : Option Jvm.ClassFile.FieldType)) ∈ lw_all := lw_g (lw_at lw_m14 124 rfl) rfl
theorem q3417 : (Jvm.Cond.methodLink "SpendHouseModel" (766 : Nat) ({ cls := "SpendHouseModel", name := "copyItem", desc := "(II)V" } : Jvm.MethodName)) ∈ lw_all := lw_g (lw_at lw_m14 125 rfl) rfl
theorem q3418 : (Jvm.Cond.privateMethod ({ cls := "SpendHouseModel", name := "copyItem", desc := "(II)V" } : Jvm.MethodName)) ∈ lw_tbl := lw_at lw_m14 126 rfl
theorem q3419 : (Jvm.Cond.instanceMethod ({ cls := "SpendHouseModel", name := "copyItem", desc := "(II)V" } : Jvm.MethodName)) ∈ lw_all := lw_g (lw_at lw_m14 127 rfl) rfl
theorem q3420 : (Jvm.Cond.code ({ cls := "SpendHouseModel", name := "copyItem", desc := "(II)V" } : Jvm.MethodName) prog_23_method_129_code (4 : Nat) (Option.none : Option Jvm.ClassFile.FieldType)) ∈ lw_all := lw_g (lw_at lw_m14 128 rfl) rfl
theorem q3421 : (Jvm.Cond.methodLink "SpendHouseModel" (769 : Nat) ({ cls := "SpendHouseModel", name := "alike", desc := "(II)Z" } : Jvm.MethodName)) ∈ lw_all := lw_g (lw_at lw_m14 129 rfl) rfl
theorem q3422 : (Jvm.Cond.privateMethod ({ cls := "SpendHouseModel", name := "alike", desc := "(II)Z" } : Jvm.MethodName)) ∈ lw_tbl := lw_at lw_m14 130 rfl
theorem q3423 : (Jvm.Cond.instanceMethod ({ cls := "SpendHouseModel", name := "alike", desc := "(II)Z" } : Jvm.MethodName)) ∈ lw_all := lw_g (lw_at lw_m14 131 rfl) rfl
theorem q3424 : (Jvm.Cond.code ({ cls := "SpendHouseModel", name := "alike", desc := "(II)Z" } : Jvm.MethodName) prog_23_method_134_code (5 : Nat) (Option.some Jvm.ClassFile.FieldType.boolean)) ∈ lw_all := lw_g (lw_at lw_m14 132 rfl) rfl
theorem q3425 : (Jvm.Cond.methodLink "SpendHouseModel" (772 : Nat) ({ cls := "SpendHouseModel", name := "pushTruth", desc := "(Z)V" } : Jvm.MethodName)) ∈ lw_all := lw_g (lw_at lw_m14 133 rfl) rfl
theorem q3426 : (Jvm.Cond.privateMethod ({ cls := "SpendHouseModel", name := "pushTruth", desc := "(Z)V" } : Jvm.MethodName)) ∈ lw_tbl := lw_at lw_m14 134 rfl
theorem q3427 : (Jvm.Cond.instanceMethod ({ cls := "SpendHouseModel", name := "pushTruth", desc := "(Z)V" } : Jvm.MethodName)) ∈ lw_all := lw_g (lw_at lw_m14 135 rfl) rfl
theorem q3428 : (Jvm.Cond.code ({ cls := "SpendHouseModel", name := "pushTruth", desc := "(Z)V" } : Jvm.MethodName) prog_23_method_131_code (2 : Nat) (Option.none : Option Jvm.ClassFile.FieldType)) ∈ lw_all := lw_g (lw_at lw_m14 136 rfl) rfl
theorem q3429 : (Jvm.Cond.methodLink "SpendHouseModel" (776 : Nat) ({ cls := "SpendHouseModel", name := "locks", desc := "(I)V" } : Jvm.MethodName)) ∈ lw_all := lw_g (lw_at lw_m14 137 rfl) rfl
theorem q3430 : (Jvm.Cond.privateMethod ({ cls := "SpendHouseModel", name := "locks", desc := "(I)V" } : Jvm.MethodName)) ∈ lw_tbl := lw_at lw_m14 138 rfl
theorem q3431 : (Jvm.Cond.instanceMethod ({ cls := "SpendHouseModel", name := "locks", desc := "(I)V" } : Jvm.MethodName)) ∈ lw_all := lw_g (lw_at lw_m14 139 rfl) rfl
theorem q3432 : (Jvm.Cond.code ({ cls := "SpendHouseModel", name := "locks", desc := "(I)V" } : Jvm.MethodName) prog_23_method_143_code (4 : Nat) (Option.none : Option Jvm.ClassFile.FieldType)) ∈ lw_all := lw_g (lw_at lw_m14 140 rfl) rfl
theorem q3433 : (Jvm.Cond.methodLink "SpendHouseModel" (787 : Nat) ({ cls := "SpendHouseModel", name := "numberAt", desc := "(II)J" } : Jvm.MethodName)) ∈ lw_all := lw_g (lw_at lw_m14 141 rfl) rfl
theorem q3434 : (Jvm.Cond.privateMethod ({ cls := "SpendHouseModel", name := "numberAt", desc := "(II)J" } : Jvm.MethodName)) ∈ lw_tbl := lw_at lw_m14 142 rfl
theorem q3435 : (Jvm.Cond.instanceMethod ({ cls := "SpendHouseModel", name := "numberAt", desc := "(II)J" } : Jvm.MethodName)) ∈ lw_all := lw_g (lw_at lw_m14 143 rfl) rfl
theorem q3436 : (Jvm.Cond.code ({ cls := "SpendHouseModel", name := "numberAt", desc := "(II)J" } : Jvm.MethodName) prog_23_method_133_code (8 : Nat) (Option.some Jvm.ClassFile.FieldType.long)) ∈ lw_all := lw_g (lw_at lw_m14 144 rfl) rfl
theorem q3437 : (Jvm.Cond.methodLink "SpendHouseModel" (778 : Nat) ({ cls := "SpendHouseModel", name := "signature", desc := "(Z)V" } : Jvm.MethodName)) ∈ lw_all := lw_g (lw_at lw_m14 145 rfl) rfl
theorem q3438 : (Jvm.Cond.privateMethod ({ cls := "SpendHouseModel", name := "signature", desc := "(Z)V" } : Jvm.MethodName)) ∈ lw_tbl := lw_at lw_m14 146 rfl
theorem q3439 : (Jvm.Cond.instanceMethod ({ cls := "SpendHouseModel", name := "signature", desc := "(Z)V" } : Jvm.MethodName)) ∈ lw_all := lw_g (lw_at lw_m14 147 rfl) rfl
theorem q3440 : (Jvm.Cond.code ({ cls := "SpendHouseModel", name := "signature", desc := "(Z)V" } : Jvm.MethodName) prog_23_method_144_code (3 : Nat) (Option.none : Option Jvm.ClassFile.FieldType)) ∈ lw_all := lw_g (lw_at lw_m14 148 rfl) rfl
theorem q3441 : (Jvm.Cond.methodLink "SpendHouseModel" (791 : Nat) ({ cls := "SpendHouseModel", name := "isSignature", desc := "(II)Z" } : Jvm.MethodName)) ∈ lw_all := lw_g (lw_at lw_m14 149 rfl) rfl
theorem q3442 : (Jvm.Cond.privateMethod ({ cls := "SpendHouseModel", name := "isSignature", desc := "(II)Z" } : Jvm.MethodName)) ∈ lw_tbl := lw_at lw_m14 150 rfl
theorem q3443 : (Jvm.Cond.instanceMethod ({ cls := "SpendHouseModel", name := "isSignature", desc := "(II)Z" } : Jvm.MethodName)) ∈ lw_all := lw_g (lw_at lw_m14 151 rfl) rfl
theorem q3444 : (Jvm.Cond.code ({ cls := "SpendHouseModel", name := "isSignature", desc := "(II)Z" } : Jvm.MethodName) prog_23_method_135_code (6 : Nat) (Option.some Jvm.ClassFile.FieldType.boolean)) ∈ lw_all := lw_g (lw_at lw_m14 152 rfl) rfl
theorem q3445 : (Jvm.Cond.methodLink "SpendHouseModel" (781 : Nat) ({ cls := "SpendHouseModel", name := "signatures", desc := "(Z)V" } : Jvm.MethodName)) ∈ lw_all := lw_g (lw_at lw_m14 153 rfl) rfl
theorem q3446 : (Jvm.Cond.privateMethod ({ cls := "SpendHouseModel", name := "signatures", desc := "(Z)V" } : Jvm.MethodName)) ∈ lw_tbl := lw_at lw_m14 154 rfl
theorem q3447 : (Jvm.Cond.instanceMethod ({ cls := "SpendHouseModel", name := "signatures", desc := "(Z)V" } : Jvm.MethodName)) ∈ lw_all := lw_g (lw_at lw_m14 155 rfl) rfl
theorem q3448 : (Jvm.Cond.code ({ cls := "SpendHouseModel", name := "signatures", desc := "(Z)V" } : Jvm.MethodName) prog_23_method_145_code (10 : Nat) (Option.none : Option Jvm.ClassFile.FieldType)) ∈ lw_all := lw_g (lw_at lw_m14 156 rfl) rfl
theorem q3449 : (Jvm.Cond.methodLink "SpendHouseModel" (784 : Nat) ({ cls := "SpendHouseModel", name := "numbers", desc := "(I)V" } : Jvm.MethodName)) ∈ lw_all := lw_g (lw_at lw_m14 157 rfl) rfl
theorem q3450 : (Jvm.Cond.privateMethod ({ cls := "SpendHouseModel", name := "numbers", desc := "(I)V" } : Jvm.MethodName)) ∈ lw_tbl := lw_at lw_m14 158 rfl
theorem q3451 : (Jvm.Cond.instanceMethod ({ cls := "SpendHouseModel", name := "numbers", desc := "(I)V" } : Jvm.MethodName)) ∈ lw_all := lw_g (lw_at lw_m14 159 rfl) rfl
theorem q3452 : (Jvm.Cond.code ({ cls := "SpendHouseModel", name := "numbers", desc := "(I)V" } : Jvm.MethodName) prog_23_method_142_code (6 : Nat) (Option.none : Option Jvm.ClassFile.FieldType)) ∈ lw_all := lw_g (lw_at lw_m14 160 rfl) rfl
theorem q3453 : (Jvm.Cond.methodLink "SpendHouseLaw" (106 : Nat) ({ cls := "SpendHouseModel", name := "ran", desc := "(I)I" } : Jvm.MethodName)) ∈ lw_all := lw_g (lw_at lw_m14 161 rfl) rfl
theorem q3454 : (Jvm.Cond.instanceMethod ({ cls := "SpendHouseModel", name := "ran", desc := "(I)I" } : Jvm.MethodName)) ∈ lw_all := lw_g (lw_at lw_m14 162 rfl) rfl
theorem q3455 : (Jvm.Cond.selects "SpendHouseModel" ({ cls := "SpendHouseModel", name := "ran", desc := "(I)I" } : Jvm.MethodName) ({ cls := "SpendHouseModel", name := "ran", desc := "(I)I" } : Jvm.MethodName)) ∈ lw_all := lw_g (lw_at lw_m14 163 rfl) rfl
theorem q3456 : (Jvm.Cond.code ({ cls := "SpendHouseModel", name := "ran", desc := "(I)I" } : Jvm.MethodName) prog_23_method_146_code (2 : Nat) (Option.some Jvm.ClassFile.FieldType.int)) ∈ lw_all := lw_g (lw_at lw_m14 164 rfl) rfl
theorem q3457 : (Jvm.Cond.sameMethod "java/lang/Throwable" "java/lang/Throwable" "fillInStackTrace" "(I)Ljava/lang/Throwable;") ∈ lw_all := lw_g (lw_at lw_m14 165 rfl) rfl
theorem q3458 : (Jvm.Cond.sameMethod "java/lang/AbstractStringBuilder" "java/lang/AbstractStringBuilder" "append" "(C)Ljava/lang/AbstractStringBuilder;") ∈ lw_all := lw_g (lw_at lw_m14 166 rfl) rfl
theorem q3459 : (Jvm.Cond.sameMethod "java/lang/AbstractStringBuilder" "java/lang/AbstractStringBuilder" "ensureCapacityInternal" "(I)V") ∈ lw_all := lw_g (lw_at lw_m14 167 rfl) rfl
theorem q3460 : (Jvm.Cond.sameMethod "java/lang/AbstractStringBuilder" "java/lang/AbstractStringBuilder" "newCapacity" "(I)I") ∈ lw_all := lw_g (lw_at lw_m14 168 rfl) rfl
theorem q3461 : (Jvm.Cond.sameMethod "java/lang/AbstractStringBuilder" "java/lang/AbstractStringBuilder" "inflate" "()V") ∈ lw_all := lw_g (lw_at lw_m14 169 rfl) rfl
theorem q3462 : (Jvm.Cond.sameMethod "java/lang/AbstractStringBuilder" "java/lang/AbstractStringBuilder" "append" "(Ljava/lang/String;)Ljava/lang/AbstractStringBuilder;") ∈ lw_all := lw_g (lw_at lw_m14 170 rfl) rfl
theorem q3463 : (Jvm.Cond.sameMethod "java/lang/AbstractStringBuilder" "java/lang/AbstractStringBuilder" "appendNull" "()Ljava/lang/AbstractStringBuilder;") ∈ lw_all := lw_g (lw_at lw_m14 171 rfl) rfl
theorem q3464 : (Jvm.Cond.sameMethod "java/lang/AbstractStringBuilder" "java/lang/AbstractStringBuilder" "putStringAt" "(ILjava/lang/String;)V") ∈ lw_all := lw_g (lw_at lw_m14 172 rfl) rfl
theorem q3465 : (Jvm.Cond.sameMethod "java/lang/AbstractStringBuilder" "java/lang/AbstractStringBuilder" "inflateIfNeededFor" "(Ljava/lang/String;)V") ∈ lw_all := lw_g (lw_at lw_m14 173 rfl) rfl
theorem q3466 : (Jvm.Cond.sameMethod "java/lang/AbstractStringBuilder" "java/lang/AbstractStringBuilder" "append" "(I)Ljava/lang/AbstractStringBuilder;") ∈ lw_all := lw_g (lw_at lw_m14 174 rfl) rfl
theorem q3467 : (Jvm.Cond.selects "SpendHouse$Wrapper" ({ cls := "SpendHouse$Wrapper", name := "write", desc := "(Ljava/lang/StringBuilder;)V" } : Jvm.MethodName) ({ cls := "SpendHouse$Wrapper", name := "write", desc := "(Ljava/lang/StringBuilder;)V" } : Jvm.MethodName)) ∈ lw_all := lw_g (lw_at lw_m14 175 rfl) rfl
theorem q3468 : (Jvm.Cond.selects "SpendHouse$Lock" ({ cls := "SpendHouse$Lock", name := "holds", desc := "()Z" } : Jvm.MethodName) ({ cls := "SpendHouse$Lock", name := "holds", desc := "()Z" } : Jvm.MethodName)) ∈ lw_all := lw_g (lw_at lw_m14 176 rfl) rfl
theorem q3469 : (Jvm.Cond.selects "SpendHouse$Multi" ({ cls := "SpendHouse$Multi", name := "holds", desc := "()Z" } : Jvm.MethodName) ({ cls := "SpendHouse$Multi", name := "holds", desc := "()Z" } : Jvm.MethodName)) ∈ lw_all := lw_g (lw_at lw_m14 177 rfl) rfl
theorem q3470 : (Jvm.Cond.initialized "java/lang/Object") ∈ lw_all := lw_g (lw_at lw_m14 178 rfl) rfl
theorem q3471 : (Jvm.Cond.castable "SpendHouse$Wrapper" "SpendHouse$Node") ∈ lw_tbl := lw_at lw_m14 179 rfl
theorem q3472 : (Jvm.Cond.castable "SpendHouse$Key" "SpendHouse$Node") ∈ lw_tbl := lw_at lw_m14 180 rfl
theorem q3473 : (Jvm.Cond.castable "SpendHouse$Lock" "SpendHouse$Node") ∈ lw_tbl := lw_at lw_m14 181 rfl
theorem q3474 : (Jvm.Cond.castable "SpendHouse$Image" "SpendHouse$Node") ∈ lw_tbl := lw_at lw_m14 182 rfl
theorem q3475 : (Jvm.Cond.castable "SpendHouse$Truth" "SpendHouse$Node") ∈ lw_tbl := lw_at lw_m14 183 rfl
theorem q3476 : (Jvm.Cond.castable "SpendHouse$Multi" "SpendHouse$Node") ∈ lw_tbl := lw_at lw_m14 184 rfl
theorem q3477 : (Jvm.Cond.castable "SpendHouse$Thresh" "SpendHouse$Node") ∈ lw_tbl := lw_at lw_m14 185 rfl
theorem q3478 : (Jvm.Cond.castable "SpendHouse$AndOr" "SpendHouse$Node") ∈ lw_tbl := lw_at lw_m14 186 rfl
theorem q3479 : (Jvm.Cond.castable "SpendHouse$Pair" "SpendHouse$Node") ∈ lw_tbl := lw_at lw_m14 187 rfl
theorem q3480 : (Jvm.Cond.arrayClass Jvm.ClassFile.FieldType.char) ∈ lw_all := lw_g (lw_at lw_m14 188 rfl) rfl
theorem q3481 : (Jvm.Cond.arrayClass Jvm.ClassFile.FieldType.short) ∈ lw_all := lw_g (lw_at lw_m14 189 rfl) rfl
