set_option maxRecDepth 100000
theorem q146 : (Jvm.Cond.initialized "ChildSaysLaw") ∈ lw_all := lw_g (lw_at lw_m1 0 rfl) rfl
theorem q147 : (Jvm.Cond.initialized "ChildSays") ∈ lw_all := lw_g (lw_at lw_m1 1 rfl) rfl
theorem q148 : (Jvm.Cond.initialized "ChildSays$Town") ∈ lw_all := lw_g (lw_at lw_m1 2 rfl) rfl
theorem q149 : (Jvm.Cond.initialized "java/util/AbstractCollection") ∈ lw_all := lw_g (lw_at lw_m1 3 rfl) rfl
theorem q150 : (Jvm.Cond.initialized "java/util/AbstractList") ∈ lw_all := lw_g (lw_at lw_m1 4 rfl) rfl
theorem q151 : (Jvm.Cond.initialized "java/util/ArrayList") ∈ lw_all := lw_g (lw_at lw_m1 5 rfl) rfl
theorem q152 : (Jvm.Cond.initialized "ChildSays$Saying") ∈ lw_all := lw_g (lw_at lw_m1 6 rfl) rfl
theorem q153 : (Jvm.Cond.initialized "ChildSays$Row") ∈ lw_all := lw_g (lw_at lw_m1 7 rfl) rfl
theorem q154 : (Jvm.Cond.initialized "ChildSays$Sitting") ∈ lw_all := lw_g (lw_at lw_m1 8 rfl) rfl
theorem q155 : (Jvm.Cond.initialized "ChildSays$Unlike") ∈ lw_all := lw_g (lw_at lw_m1 9 rfl) rfl
theorem q156 : (Jvm.Cond.initialized "ChildSays$Round") ∈ lw_all := lw_g (lw_at lw_m1 10 rfl) rfl
theorem q157 : (Jvm.Cond.initialized "ChildSays$Put") ∈ lw_all := lw_g (lw_at lw_m1 11 rfl) rfl
theorem q158 : (Jvm.Cond.initialized "ChildSays$Order") ∈ lw_all := lw_g (lw_at lw_m1 12 rfl) rfl
theorem q159 : (Jvm.Cond.initialized "java/lang/AbstractStringBuilder") ∈ lw_all := lw_g (lw_at lw_m1 13 rfl) rfl
theorem q160 : (Jvm.Cond.initialized "java/lang/StringBuilder") ∈ lw_all := lw_g (lw_at lw_m1 14 rfl) rfl
theorem q161 : (Jvm.Cond.initialized "java/lang/String") ∈ lw_all := lw_g (lw_at lw_m1 15 rfl) rfl
theorem q162 : (Jvm.Cond.initialized "java/lang/StringUTF16") ∈ lw_all := lw_g (lw_at lw_m1 16 rfl) rfl
theorem q163 : (Jvm.Cond.initialized "ChildSaysModel") ∈ lw_all := lw_g (lw_at lw_m1 17 rfl) rfl
theorem q164 : (Jvm.Cond.initialized "ChildSays$Reader") ∈ lw_all := lw_g (lw_at lw_m1 18 rfl) rfl
theorem q165 : (Jvm.Cond.initialized "java/lang/Throwable") ∈ lw_all := lw_g (lw_at lw_m1 19 rfl) rfl
theorem q166 : (Jvm.Cond.initialized "java/lang/Exception") ∈ lw_all := lw_g (lw_at lw_m1 20 rfl) rfl
theorem q167 : (Jvm.Cond.initialized "ChildSays$Fault") ∈ lw_all := lw_g (lw_at lw_m1 21 rfl) rfl
theorem q168 : (Jvm.Cond.initialized "jdk/internal/util/Preconditions") ∈ lw_all := lw_g (lw_at lw_m1 22 rfl) rfl
theorem q169 : (Jvm.Cond.initialized "java/lang/StringLatin1") ∈ lw_all := lw_g (lw_at lw_m1 23 rfl) rfl
theorem q170 : (Jvm.Cond.initialized "ChildSays$Named") ∈ lw_all := lw_g (lw_at lw_m1 24 rfl) rfl
theorem q171 : (Jvm.Cond.initialized "ChildSays$Word") ∈ lw_all := lw_g (lw_at lw_m1 25 rfl) rfl
theorem q172 : (Jvm.Cond.initialized "java/util/Objects") ∈ lw_all := lw_g (lw_at lw_m1 26 rfl) rfl
theorem q173 : (Jvm.Cond.initialized "jdk/internal/util/ArraysSupport") ∈ lw_all := lw_g (lw_at lw_m1 27 rfl) rfl
theorem q174 : (Jvm.Cond.initialized "java/lang/Math") ∈ lw_all := lw_g (lw_at lw_m1 28 rfl) rfl
theorem q175 : (Jvm.Cond.initialized "java/util/Arrays") ∈ lw_all := lw_g (lw_at lw_m1 29 rfl) rfl
theorem q176 : (Jvm.Cond.initialized "java/lang/System") ∈ lw_all := lw_g (lw_at lw_m1 30 rfl) rfl
theorem q177 : (Jvm.Cond.initialized "ChildSays$Street") ∈ lw_all := lw_g (lw_at lw_m1 31 rfl) rfl
theorem q178 : (Jvm.Cond.initialized "ChildSays$Child") ∈ lw_all := lw_g (lw_at lw_m1 32 rfl) rfl
theorem q179 : (Jvm.Cond.initialized "ChildSays$Law") ∈ lw_all := lw_g (lw_at lw_m1 33 rfl) rfl
theorem q180 : (Jvm.Cond.initialized "ChildSays$Was") ∈ lw_all := lw_g (lw_at lw_m1 34 rfl) rfl
theorem q181 : (Jvm.Cond.initialized "ChildSays$Line") ∈ lw_all := lw_g (lw_at lw_m1 35 rfl) rfl
theorem q182 : (Jvm.Cond.classLink "ChildSaysLaw" (7 : Nat) "ChildSays") ∈ lw_all := lw_g (lw_at lw_m1 36 rfl) rfl
theorem q183 : (Jvm.Cond.instantiable "ChildSays" (17 : Nat)) ∈ lw_all := lw_g (lw_at lw_m1 37 rfl) rfl
theorem q184 : (Jvm.Cond.methodLink "ChildSaysLaw" (9 : Nat) ({ cls := "ChildSays", name := "<init>", desc := "()V" } : Jvm.MethodName)) ∈ lw_all := lw_g (lw_at lw_m1 38 rfl) rfl
theorem q185 : (Jvm.Cond.instanceMethod ({ cls := "ChildSays", name := "<init>", desc := "()V" } : Jvm.MethodName)) ∈ lw_all := lw_g (lw_at lw_m1 39 rfl) rfl
theorem q186 : (Jvm.Cond.code ({ cls := "ChildSays", name := "<init>", desc := "()V" } : Jvm.MethodName) prog_1_method_1_code (1 : Nat) (Option.none : Option Jvm.ClassFile.FieldType)) ∈ lw_all := lw_g (lw_at lw_m1 40 rfl) rfl
theorem q187 : (Jvm.Cond.methodLink "ChildSays" (1 : Nat) ({ cls := "java/lang/Object", name := "<init>", desc := "()V" } : Jvm.MethodName)) ∈ lw_all := lw_g (lw_at lw_m1 41 rfl) rfl
theorem q188 : (Jvm.Cond.instanceMethod ({ cls := "java/lang/Object", name := "<init>", desc := "()V" } : Jvm.MethodName)) ∈ lw_all := lw_g (lw_at lw_m1 42 rfl) rfl
theorem q189 : (Jvm.Cond.code ({ cls := "java/lang/Object", name := "<init>", desc := "()V" } : Jvm.MethodName) object_method_1_code (1 : Nat) (Option.none : Option Jvm.ClassFile.FieldType)) ∈ lw_all := lw_g (lw_at lw_m1 43 rfl) rfl
theorem q190 : (Jvm.Cond.classLink "ChildSays" (17 : Nat) "ChildSays$Town") ∈ lw_all := lw_g (lw_at lw_m1 44 rfl) rfl
theorem q191 : (Jvm.Cond.instantiable "ChildSays$Town" (11 : Nat)) ∈ lw_all := lw_g (lw_at lw_m1 45 rfl) rfl
theorem q192 : (Jvm.Cond.methodLinkNest "ChildSays" (19 : Nat) ({ cls := "ChildSays$Town", name := "<init>", desc := "()V" } : Jvm.MethodName) "ChildSays") ∈ lw_tbl := lw_at lw_m1 46 rfl
theorem q193 : (Jvm.Cond.instanceMethod ({ cls := "ChildSays$Town", name := "<init>", desc := "()V" } : Jvm.MethodName)) ∈ lw_all := lw_g (lw_at lw_m1 47 rfl) rfl
theorem q194 : (Jvm.Cond.code ({ cls := "ChildSays$Town", name := "<init>", desc := "()V" } : Jvm.MethodName) prog_16_method_1_code (1 : Nat) (Option.none : Option Jvm.ClassFile.FieldType)) ∈ lw_all := lw_g (lw_at lw_m1 48 rfl) rfl
theorem q195 : (Jvm.Cond.methodLink "ChildSays$Town" (3 : Nat) ({ cls := "java/lang/Object", name := "<init>", desc := "()V" } : Jvm.MethodName)) ∈ lw_all := lw_g (lw_at lw_m1 49 rfl) rfl
theorem q196 : (Jvm.Cond.classLink "ChildSays$Town" (18 : Nat) "java/util/ArrayList") ∈ lw_all := lw_g (lw_at lw_m1 50 rfl) rfl
theorem q197 : (Jvm.Cond.instantiable "java/util/ArrayList" (3 : Nat)) ∈ lw_all := lw_g (lw_at lw_m1 51 rfl) rfl
theorem q198 : (Jvm.Cond.methodLink "ChildSays$Town" (20 : Nat) ({ cls := "java/util/ArrayList", name := "<init>", desc := "()V" } : Jvm.MethodName)) ∈ lw_all := lw_g (lw_at lw_m1 52 rfl) rfl
theorem q199 : (Jvm.Cond.instanceMethod ({ cls := "java/util/ArrayList", name := "<init>", desc := "()V" } : Jvm.MethodName)) ∈ lw_all := lw_g (lw_at lw_m1 53 rfl) rfl
theorem q200 : (Jvm.Cond.code ({ cls := "java/util/ArrayList", name := "<init>", desc := "()V" } : Jvm.MethodName) prog_41_method_2_code (1 : Nat) (Option.none : Option Jvm.ClassFile.FieldType)) ∈ lw_all := lw_g (lw_at lw_m1 54 rfl) rfl
theorem q201 : (Jvm.Cond.methodLink "java/util/ArrayList" (1 : Nat) ({ cls := "java/util/AbstractList", name := "<init>", desc := "()V" } : Jvm.MethodName)) ∈ lw_all := lw_g (lw_at lw_m1 55 rfl) rfl
theorem q202 : (Jvm.Cond.instanceMethod ({ cls := "java/util/AbstractList", name := "<init>", desc := "()V" } : Jvm.MethodName)) ∈ lw_all := lw_g (lw_at lw_m1 56 rfl) rfl
theorem q203 : (Jvm.Cond.code ({ cls := "java/util/AbstractList", name := "<init>", desc := "()V" } : Jvm.MethodName) prog_40_method_1_code (1 : Nat) (Option.none : Option Jvm.ClassFile.FieldType)) ∈ lw_all := lw_g (lw_at lw_m1 57 rfl) rfl
theorem q204 : (Jvm.Cond.methodLink "java/util/AbstractList" (1 : Nat) ({ cls := "java/util/AbstractCollection", name := "<init>", desc := "()V" } : Jvm.MethodName)) ∈ lw_all := lw_g (lw_at lw_m1 58 rfl) rfl
theorem q205 : (Jvm.Cond.instanceMethod ({ cls := "java/util/AbstractCollection", name := "<init>", desc := "()V" } : Jvm.MethodName)) ∈ lw_all := lw_g (lw_at lw_m1 59 rfl) rfl
theorem q206 : (Jvm.Cond.code ({ cls := "java/util/AbstractCollection", name := "<init>", desc := "()V" } : Jvm.MethodName) prog_39_method_1_code (1 : Nat) (Option.none : Option Jvm.ClassFile.FieldType)) ∈ lw_all := lw_g (lw_at lw_m1 60 rfl) rfl
theorem q207 : (Jvm.Cond.methodLink "java/util/AbstractCollection" (1 : Nat) ({ cls := "java/lang/Object", name := "<init>", desc := "()V" } : Jvm.MethodName)) ∈ lw_all := lw_g (lw_at lw_m1 61 rfl) rfl
theorem q208 : (Jvm.Cond.fieldLink "java/util/ArrayList" (39 : Nat) "java/util/ArrayList" "DEFAULTCAPACITY_EMPTY_ELEMENTDATA" "[Ljava/lang/Object;") ∈ lw_all := lw_g (lw_at lw_m1 62 rfl) rfl
theorem q209 : (Jvm.Cond.laysStatic "java/util/ArrayList" "DEFAULTCAPACITY_EMPTY_ELEMENTDATA" "[Ljava/lang/Object;") ∈ lw_tbl := lw_at lw_m1 63 rfl
theorem q210 : (Jvm.Cond.fieldLink "java/util/ArrayList" (9 : Nat) "java/util/ArrayList" "elementData" "[Ljava/lang/Object;") ∈ lw_all := lw_g (lw_at lw_m1 64 rfl) rfl
theorem q211 : (Jvm.Cond.fieldLink "java/util/ArrayList" (48 : Nat) "java/util/ArrayList" "size" "I") ∈ lw_all := lw_g (lw_at lw_m1 65 rfl) rfl
theorem q212 : (Jvm.Cond.fieldLink "java/util/AbstractList" (7 : Nat) "java/util/AbstractList" "modCount" "I") ∈ lw_all := lw_g (lw_at lw_m1 66 rfl) rfl
theorem q213 : (Jvm.Cond.fieldLink "java/util/ArrayList" (63 : Nat) "java/util/ArrayList" "modCount" "I") ∈ lw_all := lw_g (lw_at lw_m1 67 rfl) rfl
theorem q214 : (Jvm.Cond.sameField "java/util/ArrayList" "java/util/AbstractList" "modCount" "I") ∈ lw_all := lw_g (lw_at lw_m1 68 rfl) rfl
theorem q215 : (Jvm.Cond.lays "java/util/ArrayList" "java/util/ArrayList" "elementData" "[Ljava/lang/Object;") ∈ lw_all := lw_g (lw_at lw_m1 69 rfl) rfl
theorem q216 : (Jvm.Cond.soleField "java/util/ArrayList" "elementData") ∈ lw_all := lw_g (lw_at lw_m1 70 rfl) rfl
theorem q217 : (Jvm.Cond.lays "java/util/ArrayList" "java/util/ArrayList" "size" "I") ∈ lw_all := lw_g (lw_at lw_m1 71 rfl) rfl
theorem q218 : (Jvm.Cond.soleField "java/util/ArrayList" "size") ∈ lw_all := lw_g (lw_at lw_m1 72 rfl) rfl
theorem q219 : (Jvm.Cond.lays "java/util/ArrayList" "java/util/AbstractList" "modCount" "I") ∈ lw_all := lw_g (lw_at lw_m1 73 rfl) rfl
theorem q220 : (Jvm.Cond.soleField "java/util/AbstractList" "modCount") ∈ lw_all := lw_g (lw_at lw_m1 74 rfl) rfl
theorem q221 : (Jvm.Cond.superclass "java/util/ArrayList" "java/util/AbstractList") ∈ lw_all := lw_g (lw_at lw_m1 75 rfl) rfl
theorem q222 : (Jvm.Cond.arrayClass Jvm.ClassFile.FieldType.char) ∈ lw_all := lw_g (lw_at lw_m1 76 rfl) rfl
theorem q223 : (Jvm.Cond.arrayClass Jvm.ClassFile.FieldType.int) ∈ lw_all := lw_g (lw_at lw_m1 77 rfl) rfl
theorem q224 : (Jvm.Cond.fieldLink "ChildSays" (178 : Nat) "ChildSays$Town" "statements" "I") ∈ lw_all := lw_g (lw_at lw_m1 78 rfl) rfl
theorem q225 : (Jvm.Cond.fieldLink "ChildSays$Reader" (247 : Nat) "ChildSays$Town" "statements" "I") ∈ lw_all := lw_g (lw_at lw_m1 79 rfl) rfl
theorem q226 : (Jvm.Cond.fieldLink "ChildSays$Town" (9 : Nat) "ChildSays$Town" "head" "I") ∈ lw_all := lw_g (lw_at lw_m1 80 rfl) rfl
theorem q227 : (Jvm.Cond.fieldLink "ChildSays$Sitting" (74 : Nat) "ChildSays$Town" "head" "I") ∈ lw_all := lw_g (lw_at lw_m1 81 rfl) rfl
theorem q228 : (Jvm.Cond.fieldLink "ChildSays" (212 : Nat) "ChildSays$Town" "head" "I") ∈ lw_all := lw_g (lw_at lw_m1 82 rfl) rfl
theorem q229 : (Jvm.Cond.fieldLink "ChildSays$Reader" (268 : Nat) "ChildSays$Town" "head" "I") ∈ lw_all := lw_g (lw_at lw_m1 83 rfl) rfl
theorem q230 : (Jvm.Cond.fieldLink "ChildSays$Town" (15 : Nat) "ChildSays$Town" "mend" "I") ∈ lw_all := lw_g (lw_at lw_m1 84 rfl) rfl
theorem q231 : (Jvm.Cond.fieldLink "ChildSays$Child" (55 : Nat) "ChildSays$Town" "mend" "I") ∈ lw_all := lw_g (lw_at lw_m1 85 rfl) rfl
theorem q232 : (Jvm.Cond.fieldLink "ChildSays" (215 : Nat) "ChildSays$Town" "mend" "I") ∈ lw_all := lw_g (lw_at lw_m1 86 rfl) rfl
theorem q233 : (Jvm.Cond.fieldLink "ChildSays$Reader" (272 : Nat) "ChildSays$Town" "mend" "I") ∈ lw_all := lw_g (lw_at lw_m1 87 rfl) rfl
theorem q234 : (Jvm.Cond.fieldLink "ChildSays$Saying" (56 : Nat) "ChildSays$Town" "tune" "I") ∈ lw_all := lw_g (lw_at lw_m1 88 rfl) rfl
theorem q235 : (Jvm.Cond.fieldLink "ChildSays" (218 : Nat) "ChildSays$Town" "tune" "I") ∈ lw_all := lw_g (lw_at lw_m1 89 rfl) rfl
theorem q236 : (Jvm.Cond.fieldLink "ChildSays$Reader" (276 : Nat) "ChildSays$Town" "tune" "I") ∈ lw_all := lw_g (lw_at lw_m1 90 rfl) rfl
theorem q237 : (Jvm.Cond.fieldLink "ChildSays$Was" (19 : Nat) "ChildSays$Town" "year" "I") ∈ lw_all := lw_g (lw_at lw_m1 91 rfl) rfl
theorem q238 : (Jvm.Cond.fieldLink "ChildSays" (221 : Nat) "ChildSays$Town" "year" "I") ∈ lw_all := lw_g (lw_at lw_m1 92 rfl) rfl
theorem q239 : (Jvm.Cond.fieldLink "ChildSays$Town" (21 : Nat) "ChildSays$Town" "words" "Ljava/util/ArrayList;") ∈ lw_all := lw_g (lw_at lw_m1 93 rfl) rfl
theorem q240 : (Jvm.Cond.fieldLink "ChildSays$Child" (25 : Nat) "ChildSays$Town" "words" "Ljava/util/ArrayList;") ∈ lw_all := lw_g (lw_at lw_m1 94 rfl) rfl
theorem q241 : (Jvm.Cond.fieldLink "ChildSays$Reader" (119 : Nat) "ChildSays$Town" "words" "Ljava/util/ArrayList;") ∈ lw_all := lw_g (lw_at lw_m1 95 rfl) rfl
theorem q242 : (Jvm.Cond.fieldLink "ChildSays" (197 : Nat) "ChildSays$Town" "words" "Ljava/util/ArrayList;") ∈ lw_all := lw_g (lw_at lw_m1 96 rfl) rfl
theorem q243 : (Jvm.Cond.fieldLink "ChildSays$Town" (25 : Nat) "ChildSays$Town" "streets" "Ljava/util/ArrayList;") ∈ lw_all := lw_g (lw_at lw_m1 97 rfl) rfl
theorem q244 : (Jvm.Cond.fieldLink "ChildSays$Reader" (169 : Nat) "ChildSays$Town" "streets" "Ljava/util/ArrayList;") ∈ lw_all := lw_g (lw_at lw_m1 98 rfl) rfl
theorem q245 : (Jvm.Cond.fieldLink "ChildSays" (200 : Nat) "ChildSays$Town" "streets" "Ljava/util/ArrayList;") ∈ lw_all := lw_g (lw_at lw_m1 99 rfl) rfl
theorem q246 : (Jvm.Cond.fieldLink "ChildSays$Town" (28 : Nat) "ChildSays$Town" "children" "Ljava/util/ArrayList;") ∈ lw_all := lw_g (lw_at lw_m1 100 rfl) rfl
theorem q247 : (Jvm.Cond.fieldLink "ChildSays$Unlike" (39 : Nat) "ChildSays$Town" "children" "Ljava/util/ArrayList;") ∈ lw_all := lw_g (lw_at lw_m1 101 rfl) rfl
theorem q248 : (Jvm.Cond.fieldLink "ChildSays" (203 : Nat) "ChildSays$Town" "children" "Ljava/util/ArrayList;") ∈ lw_all := lw_g (lw_at lw_m1 102 rfl) rfl
theorem q249 : (Jvm.Cond.fieldLink "ChildSays$Reader" (186 : Nat) "ChildSays$Town" "children" "Ljava/util/ArrayList;") ∈ lw_all := lw_g (lw_at lw_m1 103 rfl) rfl
theorem q250 : (Jvm.Cond.fieldLink "ChildSays$Was" (26 : Nat) "ChildSays$Town" "laws" "Ljava/util/ArrayList;") ∈ lw_all := lw_g (lw_at lw_m1 104 rfl) rfl
theorem q251 : (Jvm.Cond.fieldLink "ChildSays$Town" (31 : Nat) "ChildSays$Town" "laws" "Ljava/util/ArrayList;") ∈ lw_all := lw_g (lw_at lw_m1 105 rfl) rfl
theorem q252 : (Jvm.Cond.fieldLink "ChildSays$Order" (59 : Nat) "ChildSays$Town" "laws" "Ljava/util/ArrayList;") ∈ lw_all := lw_g (lw_at lw_m1 106 rfl) rfl
theorem q253 : (Jvm.Cond.fieldLink "ChildSays" (206 : Nat) "ChildSays$Town" "laws" "Ljava/util/ArrayList;") ∈ lw_all := lw_g (lw_at lw_m1 107 rfl) rfl
theorem q254 : (Jvm.Cond.fieldLink "ChildSays$Reader" (230 : Nat) "ChildSays$Town" "laws" "Ljava/util/ArrayList;") ∈ lw_all := lw_g (lw_at lw_m1 108 rfl) rfl
theorem q255 : (Jvm.Cond.fieldLink "ChildSays$Town" (34 : Nat) "ChildSays$Town" "order" "Ljava/util/ArrayList;") ∈ lw_all := lw_g (lw_at lw_m1 109 rfl) rfl
theorem q256 : (Jvm.Cond.fieldLink "ChildSays$Was" (72 : Nat) "ChildSays$Town" "order" "Ljava/util/ArrayList;") ∈ lw_all := lw_g (lw_at lw_m1 110 rfl) rfl
theorem q257 : (Jvm.Cond.fieldLink "ChildSays$Sitting" (41 : Nat) "ChildSays$Town" "order" "Ljava/util/ArrayList;") ∈ lw_all := lw_g (lw_at lw_m1 111 rfl) rfl
theorem q258 : (Jvm.Cond.fieldLink "ChildSays$Reader" (244 : Nat) "ChildSays$Town" "order" "Ljava/util/ArrayList;") ∈ lw_all := lw_g (lw_at lw_m1 112 rfl) rfl
theorem q259 : (Jvm.Cond.fieldLink "ChildSays" (305 : Nat) "ChildSays$Town" "order" "Ljava/util/ArrayList;") ∈ lw_all := lw_g (lw_at lw_m1 113 rfl) rfl
theorem q260 : (Jvm.Cond.fieldLink "ChildSays$Town" (37 : Nat) "ChildSays$Town" "book" "Ljava/util/ArrayList;") ∈ lw_all := lw_g (lw_at lw_m1 114 rfl) rfl
theorem q261 : (Jvm.Cond.fieldLink "ChildSays$Was" (77 : Nat) "ChildSays$Town" "book" "Ljava/util/ArrayList;") ∈ lw_all := lw_g (lw_at lw_m1 115 rfl) rfl
theorem q262 : (Jvm.Cond.fieldLink "ChildSays" (224 : Nat) "ChildSays$Town" "book" "Ljava/util/ArrayList;") ∈ lw_all := lw_g (lw_at lw_m1 116 rfl) rfl
theorem q263 : (Jvm.Cond.lays "ChildSays$Town" "ChildSays$Town" "statements" "I") ∈ lw_all := lw_g (lw_at lw_m1 117 rfl) rfl
theorem q264 : (Jvm.Cond.soleField "ChildSays$Town" "statements") ∈ lw_all := lw_g (lw_at lw_m1 118 rfl) rfl
theorem q265 : (Jvm.Cond.lays "ChildSays$Town" "ChildSays$Town" "head" "I") ∈ lw_all := lw_g (lw_at lw_m1 119 rfl) rfl
theorem q266 : (Jvm.Cond.soleField "ChildSays$Town" "head") ∈ lw_all := lw_g (lw_at lw_m1 120 rfl) rfl
theorem q267 : (Jvm.Cond.lays "ChildSays$Town" "ChildSays$Town" "mend" "I") ∈ lw_all := lw_g (lw_at lw_m1 121 rfl) rfl
theorem q268 : (Jvm.Cond.soleField "ChildSays$Town" "mend") ∈ lw_all := lw_g (lw_at lw_m1 122 rfl) rfl
theorem q269 : (Jvm.Cond.lays "ChildSays$Town" "ChildSays$Town" "tune" "I") ∈ lw_all := lw_g (lw_at lw_m1 123 rfl) rfl
theorem q270 : (Jvm.Cond.soleField "ChildSays$Town" "tune") ∈ lw_all := lw_g (lw_at lw_m1 124 rfl) rfl
theorem q271 : (Jvm.Cond.lays "ChildSays$Town" "ChildSays$Town" "year" "I") ∈ lw_all := lw_g (lw_at lw_m1 125 rfl) rfl
theorem q272 : (Jvm.Cond.soleField "ChildSays$Town" "year") ∈ lw_all := lw_g (lw_at lw_m1 126 rfl) rfl
theorem q273 : (Jvm.Cond.laysFinal "ChildSays$Town" "ChildSays$Town" "words" "Ljava/util/ArrayList;") ∈ lw_all := lw_g (lw_at lw_m1 127 rfl) rfl
theorem q274 : (Jvm.Cond.soleField "ChildSays$Town" "words") ∈ lw_all := lw_g (lw_at lw_m1 128 rfl) rfl
theorem q275 : (Jvm.Cond.laysFinal "ChildSays$Town" "ChildSays$Town" "streets" "Ljava/util/ArrayList;") ∈ lw_all := lw_g (lw_at lw_m1 129 rfl) rfl
theorem q276 : (Jvm.Cond.soleField "ChildSays$Town" "streets") ∈ lw_all := lw_g (lw_at lw_m1 130 rfl) rfl
theorem q277 : (Jvm.Cond.laysFinal "ChildSays$Town" "ChildSays$Town" "children" "Ljava/util/ArrayList;") ∈ lw_all := lw_g (lw_at lw_m1 131 rfl) rfl
theorem q278 : (Jvm.Cond.soleField "ChildSays$Town" "children") ∈ lw_all := lw_g (lw_at lw_m1 132 rfl) rfl
theorem q279 : (Jvm.Cond.laysFinal "ChildSays$Town" "ChildSays$Town" "laws" "Ljava/util/ArrayList;") ∈ lw_all := lw_g (lw_at lw_m1 133 rfl) rfl
theorem q280 : (Jvm.Cond.soleField "ChildSays$Town" "laws") ∈ lw_all := lw_g (lw_at lw_m1 134 rfl) rfl
theorem q281 : (Jvm.Cond.laysFinal "ChildSays$Town" "ChildSays$Town" "order" "Ljava/util/ArrayList;") ∈ lw_all := lw_g (lw_at lw_m1 135 rfl) rfl
theorem q282 : (Jvm.Cond.soleField "ChildSays$Town" "order") ∈ lw_all := lw_g (lw_at lw_m1 136 rfl) rfl
theorem q283 : (Jvm.Cond.laysFinal "ChildSays$Town" "ChildSays$Town" "book" "Ljava/util/ArrayList;") ∈ lw_all := lw_g (lw_at lw_m1 137 rfl) rfl
theorem q284 : (Jvm.Cond.soleField "ChildSays$Town" "book") ∈ lw_all := lw_g (lw_at lw_m1 138 rfl) rfl
theorem q285 : (Jvm.Cond.superclass "ChildSays$Town" "java/lang/Object") ∈ lw_all := lw_g (lw_at lw_m1 139 rfl) rfl
theorem q286 : (Jvm.Cond.classLink "ChildSays" (32 : Nat) "java/util/ArrayList") ∈ lw_all := lw_g (lw_at lw_m1 140 rfl) rfl
theorem q287 : (Jvm.Cond.methodLink "ChildSays" (34 : Nat) ({ cls := "java/util/ArrayList", name := "<init>", desc := "()V" } : Jvm.MethodName)) ∈ lw_all := lw_g (lw_at lw_m1 141 rfl) rfl
theorem q288 : (Jvm.Cond.classLink "ChildSays" (39 : Nat) "ChildSays$Saying") ∈ lw_all := lw_g (lw_at lw_m1 142 rfl) rfl
theorem q289 : (Jvm.Cond.instantiable "ChildSays$Saying" (5 : Nat)) ∈ lw_all := lw_g (lw_at lw_m1 143 rfl) rfl
theorem q290 : (Jvm.Cond.methodLinkNest "ChildSays" (41 : Nat) ({ cls := "ChildSays$Saying", name := "<init>", desc := "(LChildSays;)V" } : Jvm.MethodName) "ChildSays") ∈ lw_tbl := lw_at lw_m1 144 rfl
theorem q291 : (Jvm.Cond.instanceMethod ({ cls := "ChildSays$Saying", name := "<init>", desc := "(LChildSays;)V" } : Jvm.MethodName)) ∈ lw_all := lw_g (lw_at lw_m1 145 rfl) rfl
theorem q292 : (Jvm.Cond.code ({ cls := "ChildSays$Saying", name := "<init>", desc := "(LChildSays;)V" } : Jvm.MethodName) prog_13_method_1_code (2 : Nat) (Option.none : Option Jvm.ClassFile.FieldType)) ∈ lw_all := lw_g (lw_at lw_m1 146 rfl) rfl
theorem q293 : (Jvm.Cond.methodLink "ChildSays$Saying" (9 : Nat) ({ cls := "java/lang/Object", name := "<init>", desc := "()V" } : Jvm.MethodName)) ∈ lw_all := lw_g (lw_at lw_m1 147 rfl) rfl
theorem q294 : (Jvm.Cond.classLink "ChildSays$Saying" (15 : Nat) "ChildSays$Row") ∈ lw_all := lw_g (lw_at lw_m1 148 rfl) rfl
theorem q295 : (Jvm.Cond.instantiable "ChildSays$Row" (3 : Nat)) ∈ lw_all := lw_g (lw_at lw_m1 149 rfl) rfl
theorem q296 : (Jvm.Cond.methodLinkNest "ChildSays$Saying" (17 : Nat) ({ cls := "ChildSays$Row", name := "<init>", desc := "()V" } : Jvm.MethodName) "ChildSays") ∈ lw_tbl := lw_at lw_m1 150 rfl
theorem q297 : (Jvm.Cond.instanceMethod ({ cls := "ChildSays$Row", name := "<init>", desc := "()V" } : Jvm.MethodName)) ∈ lw_all := lw_g (lw_at lw_m1 151 rfl) rfl
theorem q298 : (Jvm.Cond.code ({ cls := "ChildSays$Row", name := "<init>", desc := "()V" } : Jvm.MethodName) prog_12_method_1_code (1 : Nat) (Option.none : Option Jvm.ClassFile.FieldType)) ∈ lw_all := lw_g (lw_at lw_m1 152 rfl) rfl
theorem q299 : (Jvm.Cond.methodLink "ChildSays$Row" (3 : Nat) ({ cls := "java/lang/Object", name := "<init>", desc := "()V" } : Jvm.MethodName)) ∈ lw_all := lw_g (lw_at lw_m1 153 rfl) rfl
theorem q300 : (Jvm.Cond.classLink "ChildSays$Row" (9 : Nat) "ChildSays$Word") ∈ lw_all := lw_g (lw_at lw_m1 154 rfl) rfl
theorem q301 : (Jvm.Cond.arrayOver (Jvm.ClassFile.FieldType.object "ChildSays$Word")) ∈ lw_tbl := lw_at lw_m1 155 rfl
theorem q302 : (Jvm.Cond.fieldLink "ChildSays$Row" (11 : Nat) "ChildSays$Row" "at" "[LChildSays$Word;") ∈ lw_all := lw_g (lw_at lw_m1 156 rfl) rfl
theorem q303 : (Jvm.Cond.fieldLink "ChildSays$Saying" (28 : Nat) "ChildSays$Row" "at" "[LChildSays$Word;") ∈ lw_all := lw_g (lw_at lw_m1 157 rfl) rfl
theorem q304 : (Jvm.Cond.fieldLink "ChildSays$Put" (58 : Nat) "ChildSays$Row" "at" "[LChildSays$Word;") ∈ lw_all := lw_g (lw_at lw_m1 158 rfl) rfl
theorem q305 : (Jvm.Cond.fieldLink "ChildSays$Reader" (205 : Nat) "ChildSays$Row" "at" "[LChildSays$Word;") ∈ lw_all := lw_g (lw_at lw_m1 159 rfl) rfl
theorem q306 : (Jvm.Cond.fieldLink "ChildSays" (319 : Nat) "ChildSays$Row" "at" "[LChildSays$Word;") ∈ lw_all := lw_g (lw_at lw_m1 160 rfl) rfl
theorem q307 : (Jvm.Cond.fieldLink "ChildSays$Row" (17 : Nat) "ChildSays$Row" "main" "I") ∈ lw_all := lw_g (lw_at lw_m1 161 rfl) rfl
theorem q308 : (Jvm.Cond.fieldLink "ChildSays$Put" (47 : Nat) "ChildSays$Row" "main" "I") ∈ lw_all := lw_g (lw_at lw_m1 162 rfl) rfl
theorem q309 : (Jvm.Cond.fieldLink "ChildSays$Saying" (61 : Nat) "ChildSays$Row" "main" "I") ∈ lw_all := lw_g (lw_at lw_m1 163 rfl) rfl
theorem q310 : (Jvm.Cond.fieldLink "ChildSays$Reader" (219 : Nat) "ChildSays$Row" "main" "I") ∈ lw_all := lw_g (lw_at lw_m1 164 rfl) rfl
theorem q311 : (Jvm.Cond.fieldLink "ChildSays" (296 : Nat) "ChildSays$Row" "main" "I") ∈ lw_all := lw_g (lw_at lw_m1 165 rfl) rfl
theorem q312 : (Jvm.Cond.fieldLink "ChildSays$Row" (21 : Nat) "ChildSays$Row" "but" "I") ∈ lw_all := lw_g (lw_at lw_m1 166 rfl) rfl
theorem q313 : (Jvm.Cond.fieldLink "ChildSays$Saying" (71 : Nat) "ChildSays$Row" "but" "I") ∈ lw_all := lw_g (lw_at lw_m1 167 rfl) rfl
theorem q314 : (Jvm.Cond.fieldLink "ChildSays$Reader" (224 : Nat) "ChildSays$Row" "but" "I") ∈ lw_all := lw_g (lw_at lw_m1 168 rfl) rfl
theorem q315 : (Jvm.Cond.fieldLink "ChildSays" (299 : Nat) "ChildSays$Row" "but" "I") ∈ lw_all := lw_g (lw_at lw_m1 169 rfl) rfl
theorem q316 : (Jvm.Cond.laysFinal "ChildSays$Row" "ChildSays$Row" "at" "[LChildSays$Word;") ∈ lw_all := lw_g (lw_at lw_m1 170 rfl) rfl
theorem q317 : (Jvm.Cond.soleField "ChildSays$Row" "at") ∈ lw_all := lw_g (lw_at lw_m1 171 rfl) rfl
theorem q318 : (Jvm.Cond.lays "ChildSays$Row" "ChildSays$Row" "main" "I") ∈ lw_all := lw_g (lw_at lw_m1 172 rfl) rfl
theorem q319 : (Jvm.Cond.soleField "ChildSays$Row" "main") ∈ lw_all := lw_g (lw_at lw_m1 173 rfl) rfl
theorem q320 : (Jvm.Cond.lays "ChildSays$Row" "ChildSays$Row" "but" "I") ∈ lw_all := lw_g (lw_at lw_m1 174 rfl) rfl
theorem q321 : (Jvm.Cond.soleField "ChildSays$Row" "but") ∈ lw_all := lw_g (lw_at lw_m1 175 rfl) rfl
theorem q322 : (Jvm.Cond.superclass "ChildSays$Row" "java/lang/Object") ∈ lw_all := lw_g (lw_at lw_m1 176 rfl) rfl
theorem q323 : (Jvm.Cond.fieldLink "ChildSays$Saying" (18 : Nat) "ChildSays$Saying" "row" "LChildSays$Row;") ∈ lw_all := lw_g (lw_at lw_m1 177 rfl) rfl
theorem q324 : (Jvm.Cond.fieldLink "ChildSays$Round" (47 : Nat) "ChildSays$Saying" "row" "LChildSays$Row;") ∈ lw_all := lw_g (lw_at lw_m1 178 rfl) rfl
theorem q325 : (Jvm.Cond.fieldLink "ChildSays$Unlike" (61 : Nat) "ChildSays$Saying" "row" "LChildSays$Row;") ∈ lw_all := lw_g (lw_at lw_m1 179 rfl) rfl
theorem q326 : (Jvm.Cond.fieldLink "ChildSays$Sitting" (91 : Nat) "ChildSays$Saying" "row" "LChildSays$Row;") ∈ lw_all := lw_g (lw_at lw_m1 180 rfl) rfl
theorem q327 : (Jvm.Cond.fieldLink "ChildSays" (369 : Nat) "ChildSays$Saying" "row" "LChildSays$Row;") ∈ lw_all := lw_g (lw_at lw_m1 181 rfl) rfl
theorem q328 : (Jvm.Cond.fieldLink "ChildSays$Saying" (96 : Nat) "ChildSays$Saying" "kind" "I") ∈ lw_all := lw_g (lw_at lw_m1 182 rfl) rfl
theorem q329 : (Jvm.Cond.fieldLink "ChildSays$Sitting" (84 : Nat) "ChildSays$Saying" "kind" "I") ∈ lw_all := lw_g (lw_at lw_m1 183 rfl) rfl
theorem q330 : (Jvm.Cond.fieldLink "ChildSays" (343 : Nat) "ChildSays$Saying" "kind" "I") ∈ lw_all := lw_g (lw_at lw_m1 184 rfl) rfl
theorem q331 : (Jvm.Cond.fieldLink "ChildSays$Saying" (37 : Nat) "ChildSays$Saying" "left" "I") ∈ lw_all := lw_g (lw_at lw_m1 185 rfl) rfl
theorem q332 : (Jvm.Cond.fieldLink "ChildSays$Saying" (40 : Nat) "ChildSays$Saying" "last" "LChildSays$Word;") ∈ lw_all := lw_g (lw_at lw_m1 186 rfl) rfl
theorem q333 : (Jvm.Cond.fieldLink "ChildSays$Saying" (3 : Nat) "ChildSays$Saying" "this$0" "LChildSays;") ∈ lw_all := lw_g (lw_at lw_m1 187 rfl) rfl
theorem q334 : (Jvm.Cond.laysFinal "ChildSays$Saying" "ChildSays$Saying" "row" "LChildSays$Row;") ∈ lw_all := lw_g (lw_at lw_m1 188 rfl) rfl
theorem q335 : (Jvm.Cond.soleField "ChildSays$Saying" "row") ∈ lw_all := lw_g (lw_at lw_m1 189 rfl) rfl
theorem q336 : (Jvm.Cond.lays "ChildSays$Saying" "ChildSays$Saying" "kind" "I") ∈ lw_all := lw_g (lw_at lw_m1 190 rfl) rfl
theorem q337 : (Jvm.Cond.soleField "ChildSays$Saying" "kind") ∈ lw_all := lw_g (lw_at lw_m1 191 rfl) rfl
theorem q338 : (Jvm.Cond.lays "ChildSays$Saying" "ChildSays$Saying" "left" "I") ∈ lw_all := lw_g (lw_at lw_m1 192 rfl) rfl
theorem q339 : (Jvm.Cond.soleField "ChildSays$Saying" "left") ∈ lw_all := lw_g (lw_at lw_m1 193 rfl) rfl
theorem q340 : (Jvm.Cond.lays "ChildSays$Saying" "ChildSays$Saying" "last" "LChildSays$Word;") ∈ lw_all := lw_g (lw_at lw_m1 194 rfl) rfl
theorem q341 : (Jvm.Cond.soleField "ChildSays$Saying" "last") ∈ lw_all := lw_g (lw_at lw_m1 195 rfl) rfl
theorem q342 : (Jvm.Cond.laysFinal "ChildSays$Saying" "ChildSays$Saying" "this$0" "LChildSays;") ∈ lw_all := lw_g (lw_at lw_m1 196 rfl) rfl
theorem q343 : (Jvm.Cond.soleField "ChildSays$Saying" "this$0") ∈ lw_all := lw_g (lw_at lw_m1 197 rfl) rfl
theorem q344 : (Jvm.Cond.superclass "ChildSays$Saying" "java/lang/Object") ∈ lw_all := lw_g (lw_at lw_m1 198 rfl) rfl
theorem q345 : (Jvm.Cond.classLink "ChildSays" (48 : Nat) "ChildSays$Sitting") ∈ lw_all := lw_g (lw_at lw_m1 199 rfl) rfl
theorem q346 : (Jvm.Cond.instantiable "ChildSays$Sitting" (4 : Nat)) ∈ lw_all := lw_g (lw_at lw_m1 200 rfl) rfl
theorem q347 : (Jvm.Cond.methodLink "ChildSays" (50 : Nat) ({ cls := "ChildSays$Sitting", name := "<init>", desc := "(LChildSays;)V" } : Jvm.MethodName)) ∈ lw_all := lw_g (lw_at lw_m1 201 rfl) rfl
theorem q348 : (Jvm.Cond.instanceMethod ({ cls := "ChildSays$Sitting", name := "<init>", desc := "(LChildSays;)V" } : Jvm.MethodName)) ∈ lw_all := lw_g (lw_at lw_m1 202 rfl) rfl
theorem q349 : (Jvm.Cond.code ({ cls := "ChildSays$Sitting", name := "<init>", desc := "(LChildSays;)V" } : Jvm.MethodName) prog_14_method_1_code (3 : Nat) (Option.none : Option Jvm.ClassFile.FieldType)) ∈ lw_all := lw_g (lw_at lw_m1 203 rfl) rfl
theorem q350 : (Jvm.Cond.methodLink "ChildSays$Sitting" (9 : Nat) ({ cls := "java/lang/Object", name := "<init>", desc := "()V" } : Jvm.MethodName)) ∈ lw_all := lw_g (lw_at lw_m1 204 rfl) rfl
theorem q351 : (Jvm.Cond.classLink "ChildSays$Sitting" (15 : Nat) "ChildSays$Saying") ∈ lw_all := lw_g (lw_at lw_m1 205 rfl) rfl
theorem q352 : (Jvm.Cond.arrayOver (Jvm.ClassFile.FieldType.object "ChildSays$Saying")) ∈ lw_tbl := lw_at lw_m1 206 rfl
theorem q353 : (Jvm.Cond.classLink "ChildSays$Sitting" (21 : Nat) "ChildSays$Law") ∈ lw_all := lw_g (lw_at lw_m1 207 rfl) rfl
theorem q354 : (Jvm.Cond.arrayOver (Jvm.ClassFile.FieldType.object "ChildSays$Law")) ∈ lw_tbl := lw_at lw_m1 208 rfl
theorem q355 : (Jvm.Cond.methodLinkNest "ChildSays$Sitting" (27 : Nat) ({ cls := "ChildSays$Saying", name := "<init>", desc := "(LChildSays;)V" } : Jvm.MethodName) "ChildSays") ∈ lw_tbl := lw_at lw_m1 209 rfl
theorem q356 : (Jvm.Cond.fieldLink "ChildSays$Sitting" (17 : Nat) "ChildSays$Sitting" "by" "[LChildSays$Saying;") ∈ lw_all := lw_g (lw_at lw_m1 210 rfl) rfl
theorem q357 : (Jvm.Cond.fieldLink "ChildSays$Sitting" (23 : Nat) "ChildSays$Sitting" "row" "[LChildSays$Law;") ∈ lw_all := lw_g (lw_at lw_m1 211 rfl) rfl
theorem q358 : (Jvm.Cond.fieldLinkNest "ChildSays$Order" (42 : Nat) "ChildSays$Sitting" "row" "[LChildSays$Law;" "ChildSays") ∈ lw_tbl := lw_at lw_m1 212 rfl
theorem q359 : (Jvm.Cond.fieldLinkNest "ChildSays" (390 : Nat) "ChildSays$Sitting" "row" "[LChildSays$Law;" "ChildSays") ∈ lw_tbl := lw_at lw_m1 213 rfl
theorem q360 : (Jvm.Cond.fieldLink "ChildSays$Sitting" (34 : Nat) "ChildSays$Sitting" "many" "I") ∈ lw_all := lw_g (lw_at lw_m1 214 rfl) rfl
theorem q361 : (Jvm.Cond.fieldLinkNest "ChildSays$Order" (38 : Nat) "ChildSays$Sitting" "many" "I" "ChildSays") ∈ lw_tbl := lw_at lw_m1 215 rfl
theorem q362 : (Jvm.Cond.fieldLinkNest "ChildSays" (387 : Nat) "ChildSays$Sitting" "many" "I" "ChildSays") ∈ lw_tbl := lw_at lw_m1 216 rfl
theorem q363 : (Jvm.Cond.fieldLink "ChildSays$Sitting" (3 : Nat) "ChildSays$Sitting" "this$0" "LChildSays;") ∈ lw_all := lw_g (lw_at lw_m1 217 rfl) rfl
theorem q364 : (Jvm.Cond.laysFinal "ChildSays$Sitting" "ChildSays$Sitting" "by" "[LChildSays$Saying;") ∈ lw_all := lw_g (lw_at lw_m1 218 rfl) rfl
theorem q365 : (Jvm.Cond.soleField "ChildSays$Sitting" "by") ∈ lw_all := lw_g (lw_at lw_m1 219 rfl) rfl
theorem q366 : (Jvm.Cond.laysFinal "ChildSays$Sitting" "ChildSays$Sitting" "row" "[LChildSays$Law;") ∈ lw_all := lw_g (lw_at lw_m1 220 rfl) rfl
theorem q367 : (Jvm.Cond.soleField "ChildSays$Sitting" "row") ∈ lw_all := lw_g (lw_at lw_m1 221 rfl) rfl
theorem q368 : (Jvm.Cond.lays "ChildSays$Sitting" "ChildSays$Sitting" "many" "I") ∈ lw_all := lw_g (lw_at lw_m1 222 rfl) rfl
theorem q369 : (Jvm.Cond.soleField "ChildSays$Sitting" "many") ∈ lw_all := lw_g (lw_at lw_m1 223 rfl) rfl
theorem q370 : (Jvm.Cond.laysFinal "ChildSays$Sitting" "ChildSays$Sitting" "this$0" "LChildSays;") ∈ lw_all := lw_g (lw_at lw_m1 224 rfl) rfl
theorem q371 : (Jvm.Cond.soleField "ChildSays$Sitting" "this$0") ∈ lw_all := lw_g (lw_at lw_m1 225 rfl) rfl
theorem q372 : (Jvm.Cond.superclass "ChildSays$Sitting" "java/lang/Object") ∈ lw_all := lw_g (lw_at lw_m1 226 rfl) rfl
theorem q373 : (Jvm.Cond.classLink "ChildSays" (55 : Nat) "ChildSays$Unlike") ∈ lw_all := lw_g (lw_at lw_m1 227 rfl) rfl
theorem q374 : (Jvm.Cond.instantiable "ChildSays$Unlike" (5 : Nat)) ∈ lw_all := lw_g (lw_at lw_m1 228 rfl) rfl
theorem q375 : (Jvm.Cond.methodLink "ChildSays" (57 : Nat) ({ cls := "ChildSays$Unlike", name := "<init>", desc := "(LChildSays;)V" } : Jvm.MethodName)) ∈ lw_all := lw_g (lw_at lw_m1 229 rfl) rfl
theorem q376 : (Jvm.Cond.instanceMethod ({ cls := "ChildSays$Unlike", name := "<init>", desc := "(LChildSays;)V" } : Jvm.MethodName)) ∈ lw_all := lw_g (lw_at lw_m1 230 rfl) rfl
theorem q377 : (Jvm.Cond.code ({ cls := "ChildSays$Unlike", name := "<init>", desc := "(LChildSays;)V" } : Jvm.MethodName) prog_17_method_1_code (3 : Nat) (Option.none : Option Jvm.ClassFile.FieldType)) ∈ lw_all := lw_g (lw_at lw_m1 231 rfl) rfl
theorem q378 : (Jvm.Cond.methodLink "ChildSays$Unlike" (9 : Nat) ({ cls := "java/lang/Object", name := "<init>", desc := "()V" } : Jvm.MethodName)) ∈ lw_all := lw_g (lw_at lw_m1 232 rfl) rfl
theorem q379 : (Jvm.Cond.classLink "ChildSays$Unlike" (15 : Nat) "ChildSays$Saying") ∈ lw_all := lw_g (lw_at lw_m1 233 rfl) rfl
theorem q380 : (Jvm.Cond.methodLinkNest "ChildSays$Unlike" (28 : Nat) ({ cls := "ChildSays$Saying", name := "<init>", desc := "(LChildSays;)V" } : Jvm.MethodName) "ChildSays") ∈ lw_tbl := lw_at lw_m1 234 rfl
theorem q381 : (Jvm.Cond.fieldLink "ChildSays$Unlike" (17 : Nat) "ChildSays$Unlike" "by" "[LChildSays$Saying;") ∈ lw_all := lw_g (lw_at lw_m1 235 rfl) rfl
theorem q382 : (Jvm.Cond.fieldLink "ChildSays$Unlike" (21 : Nat) "ChildSays$Unlike" "first" "[I") ∈ lw_all := lw_g (lw_at lw_m1 236 rfl) rfl
theorem q383 : (Jvm.Cond.fieldLinkNest "ChildSays" (440 : Nat) "ChildSays$Unlike" "first" "[I" "ChildSays") ∈ lw_tbl := lw_at lw_m1 237 rfl
theorem q384 : (Jvm.Cond.fieldLink "ChildSays$Unlike" (25 : Nat) "ChildSays$Unlike" "many" "[I") ∈ lw_all := lw_g (lw_at lw_m1 238 rfl) rfl
theorem q385 : (Jvm.Cond.fieldLinkNest "ChildSays" (443 : Nat) "ChildSays$Unlike" "many" "[I" "ChildSays") ∈ lw_tbl := lw_at lw_m1 239 rfl
theorem q386 : (Jvm.Cond.fieldLink "ChildSays$Unlike" (31 : Nat) "ChildSays$Unlike" "all" "I") ∈ lw_all := lw_g (lw_at lw_m2 0 rfl) rfl
theorem q387 : (Jvm.Cond.fieldLinkNest "ChildSays" (437 : Nat) "ChildSays$Unlike" "all" "I" "ChildSays") ∈ lw_tbl := lw_at lw_m2 1 rfl
theorem q388 : (Jvm.Cond.fieldLink "ChildSays$Unlike" (3 : Nat) "ChildSays$Unlike" "this$0" "LChildSays;") ∈ lw_all := lw_g (lw_at lw_m2 2 rfl) rfl
theorem q389 : (Jvm.Cond.laysFinal "ChildSays$Unlike" "ChildSays$Unlike" "by" "[LChildSays$Saying;") ∈ lw_all := lw_g (lw_at lw_m2 3 rfl) rfl
theorem q390 : (Jvm.Cond.soleField "ChildSays$Unlike" "by") ∈ lw_all := lw_g (lw_at lw_m2 4 rfl) rfl
theorem q391 : (Jvm.Cond.laysFinal "ChildSays$Unlike" "ChildSays$Unlike" "first" "[I") ∈ lw_all := lw_g (lw_at lw_m2 5 rfl) rfl
theorem q392 : (Jvm.Cond.soleField "ChildSays$Unlike" "first") ∈ lw_all := lw_g (lw_at lw_m2 6 rfl) rfl
theorem q393 : (Jvm.Cond.laysFinal "ChildSays$Unlike" "ChildSays$Unlike" "many" "[I") ∈ lw_all := lw_g (lw_at lw_m2 7 rfl) rfl
theorem q394 : (Jvm.Cond.soleField "ChildSays$Unlike" "many") ∈ lw_all := lw_g (lw_at lw_m2 8 rfl) rfl
theorem q395 : (Jvm.Cond.lays "ChildSays$Unlike" "ChildSays$Unlike" "all" "I") ∈ lw_all := lw_g (lw_at lw_m2 9 rfl) rfl
theorem q396 : (Jvm.Cond.soleField "ChildSays$Unlike" "all") ∈ lw_all := lw_g (lw_at lw_m2 10 rfl) rfl
theorem q397 : (Jvm.Cond.laysFinal "ChildSays$Unlike" "ChildSays$Unlike" "this$0" "LChildSays;") ∈ lw_all := lw_g (lw_at lw_m2 11 rfl) rfl
theorem q398 : (Jvm.Cond.soleField "ChildSays$Unlike" "this$0") ∈ lw_all := lw_g (lw_at lw_m2 12 rfl) rfl
theorem q399 : (Jvm.Cond.superclass "ChildSays$Unlike" "java/lang/Object") ∈ lw_all := lw_g (lw_at lw_m2 13 rfl) rfl
theorem q400 : (Jvm.Cond.classLink "ChildSays" (62 : Nat) "ChildSays$Round") ∈ lw_all := lw_g (lw_at lw_m2 14 rfl) rfl
theorem q401 : (Jvm.Cond.instantiable "ChildSays$Round" (6 : Nat)) ∈ lw_all := lw_g (lw_at lw_m2 15 rfl) rfl
theorem q402 : (Jvm.Cond.methodLinkNest "ChildSays" (64 : Nat) ({ cls := "ChildSays$Round", name := "<init>", desc := "(LChildSays;)V" } : Jvm.MethodName) "ChildSays") ∈ lw_tbl := lw_at lw_m2 16 rfl
theorem q403 : (Jvm.Cond.instanceMethod ({ cls := "ChildSays$Round", name := "<init>", desc := "(LChildSays;)V" } : Jvm.MethodName)) ∈ lw_all := lw_g (lw_at lw_m2 17 rfl) rfl
theorem q404 : (Jvm.Cond.code ({ cls := "ChildSays$Round", name := "<init>", desc := "(LChildSays;)V" } : Jvm.MethodName) prog_11_method_1_code (2 : Nat) (Option.none : Option Jvm.ClassFile.FieldType)) ∈ lw_all := lw_g (lw_at lw_m2 18 rfl) rfl
theorem q405 : (Jvm.Cond.methodLink "ChildSays$Round" (9 : Nat) ({ cls := "java/lang/Object", name := "<init>", desc := "()V" } : Jvm.MethodName)) ∈ lw_all := lw_g (lw_at lw_m2 19 rfl) rfl
theorem q406 : (Jvm.Cond.classLink "ChildSays$Round" (15 : Nat) "ChildSays$Row") ∈ lw_all := lw_g (lw_at lw_m2 20 rfl) rfl
theorem q407 : (Jvm.Cond.methodLinkNest "ChildSays$Round" (17 : Nat) ({ cls := "ChildSays$Row", name := "<init>", desc := "()V" } : Jvm.MethodName) "ChildSays") ∈ lw_tbl := lw_at lw_m2 21 rfl
theorem q408 : (Jvm.Cond.fieldLink "ChildSays$Round" (18 : Nat) "ChildSays$Round" "slow" "LChildSays$Row;") ∈ lw_all := lw_g (lw_at lw_m2 22 rfl) rfl
theorem q409 : (Jvm.Cond.fieldLink "ChildSays$Round" (22 : Nat) "ChildSays$Round" "fast" "LChildSays$Row;") ∈ lw_all := lw_g (lw_at lw_m2 23 rfl) rfl
theorem q410 : (Jvm.Cond.fieldLink "ChildSays$Round" (59 : Nat) "ChildSays$Round" "told" "I") ∈ lw_all := lw_g (lw_at lw_m2 24 rfl) rfl
theorem q411 : (Jvm.Cond.fieldLinkNest "ChildSays" (450 : Nat) "ChildSays$Round" "told" "I" "ChildSays") ∈ lw_tbl := lw_at lw_m2 25 rfl
theorem q412 : (Jvm.Cond.fieldLink "ChildSays$Round" (81 : Nat) "ChildSays$Round" "behind" "I") ∈ lw_all := lw_g (lw_at lw_m2 26 rfl) rfl
theorem q413 : (Jvm.Cond.fieldLinkNest "ChildSays" (453 : Nat) "ChildSays$Round" "behind" "I" "ChildSays") ∈ lw_tbl := lw_at lw_m2 27 rfl
theorem q414 : (Jvm.Cond.fieldLink "ChildSays$Round" (62 : Nat) "ChildSays$Round" "round" "I") ∈ lw_all := lw_g (lw_at lw_m2 28 rfl) rfl
theorem q415 : (Jvm.Cond.fieldLinkNest "ChildSays" (456 : Nat) "ChildSays$Round" "round" "I" "ChildSays") ∈ lw_tbl := lw_at lw_m2 29 rfl
theorem q416 : (Jvm.Cond.fieldLink "ChildSays$Round" (3 : Nat) "ChildSays$Round" "this$0" "LChildSays;") ∈ lw_all := lw_g (lw_at lw_m2 30 rfl) rfl
theorem q417 : (Jvm.Cond.laysFinal "ChildSays$Round" "ChildSays$Round" "slow" "LChildSays$Row;") ∈ lw_all := lw_g (lw_at lw_m2 31 rfl) rfl
theorem q418 : (Jvm.Cond.soleField "ChildSays$Round" "slow") ∈ lw_all := lw_g (lw_at lw_m2 32 rfl) rfl
theorem q419 : (Jvm.Cond.laysFinal "ChildSays$Round" "ChildSays$Round" "fast" "LChildSays$Row;") ∈ lw_all := lw_g (lw_at lw_m2 33 rfl) rfl
theorem q420 : (Jvm.Cond.soleField "ChildSays$Round" "fast") ∈ lw_all := lw_g (lw_at lw_m2 34 rfl) rfl
theorem q421 : (Jvm.Cond.lays "ChildSays$Round" "ChildSays$Round" "told" "I") ∈ lw_all := lw_g (lw_at lw_m2 35 rfl) rfl
theorem q422 : (Jvm.Cond.soleField "ChildSays$Round" "told") ∈ lw_all := lw_g (lw_at lw_m2 36 rfl) rfl
theorem q423 : (Jvm.Cond.lays "ChildSays$Round" "ChildSays$Round" "behind" "I") ∈ lw_all := lw_g (lw_at lw_m2 37 rfl) rfl
theorem q424 : (Jvm.Cond.soleField "ChildSays$Round" "behind") ∈ lw_all := lw_g (lw_at lw_m2 38 rfl) rfl
theorem q425 : (Jvm.Cond.lays "ChildSays$Round" "ChildSays$Round" "round" "I") ∈ lw_all := lw_g (lw_at lw_m2 39 rfl) rfl
theorem q426 : (Jvm.Cond.soleField "ChildSays$Round" "round") ∈ lw_all := lw_g (lw_at lw_m2 40 rfl) rfl
theorem q427 : (Jvm.Cond.laysFinal "ChildSays$Round" "ChildSays$Round" "this$0" "LChildSays;") ∈ lw_all := lw_g (lw_at lw_m2 41 rfl) rfl
theorem q428 : (Jvm.Cond.soleField "ChildSays$Round" "this$0") ∈ lw_all := lw_g (lw_at lw_m2 42 rfl) rfl
theorem q429 : (Jvm.Cond.superclass "ChildSays$Round" "java/lang/Object") ∈ lw_all := lw_g (lw_at lw_m2 43 rfl) rfl
theorem q430 : (Jvm.Cond.classLink "ChildSays" (69 : Nat) "ChildSays$Put") ∈ lw_all := lw_g (lw_at lw_m2 44 rfl) rfl
theorem q431 : (Jvm.Cond.instantiable "ChildSays$Put" (7 : Nat)) ∈ lw_all := lw_g (lw_at lw_m2 45 rfl) rfl
theorem q432 : (Jvm.Cond.methodLinkNest "ChildSays" (71 : Nat) ({ cls := "ChildSays$Put", name := "<init>", desc := "(LChildSays;)V" } : Jvm.MethodName) "ChildSays") ∈ lw_tbl := lw_at lw_m2 46 rfl
theorem q433 : (Jvm.Cond.instanceMethod ({ cls := "ChildSays$Put", name := "<init>", desc := "(LChildSays;)V" } : Jvm.MethodName)) ∈ lw_all := lw_g (lw_at lw_m2 47 rfl) rfl
theorem q434 : (Jvm.Cond.code ({ cls := "ChildSays$Put", name := "<init>", desc := "(LChildSays;)V" } : Jvm.MethodName) prog_9_method_1_code (2 : Nat) (Option.none : Option Jvm.ClassFile.FieldType)) ∈ lw_all := lw_g (lw_at lw_m2 48 rfl) rfl
theorem q435 : (Jvm.Cond.methodLink "ChildSays$Put" (9 : Nat) ({ cls := "java/lang/Object", name := "<init>", desc := "()V" } : Jvm.MethodName)) ∈ lw_all := lw_g (lw_at lw_m2 49 rfl) rfl
theorem q436 : (Jvm.Cond.classLink "ChildSays$Put" (15 : Nat) "ChildSays$Row") ∈ lw_all := lw_g (lw_at lw_m2 50 rfl) rfl
theorem q437 : (Jvm.Cond.methodLinkNest "ChildSays$Put" (17 : Nat) ({ cls := "ChildSays$Row", name := "<init>", desc := "()V" } : Jvm.MethodName) "ChildSays") ∈ lw_tbl := lw_at lw_m2 51 rfl
theorem q438 : (Jvm.Cond.fieldLink "ChildSays$Put" (18 : Nat) "ChildSays$Put" "row" "LChildSays$Row;") ∈ lw_all := lw_g (lw_at lw_m2 52 rfl) rfl
theorem q439 : (Jvm.Cond.fieldLink "ChildSays$Put" (22 : Nat) "ChildSays$Put" "place" "[I") ∈ lw_all := lw_g (lw_at lw_m2 53 rfl) rfl
theorem q440 : (Jvm.Cond.fieldLink "ChildSays$Put" (26 : Nat) "ChildSays$Put" "first" "[I") ∈ lw_all := lw_g (lw_at lw_m2 54 rfl) rfl
theorem q441 : (Jvm.Cond.fieldLink "ChildSays$Put" (29 : Nat) "ChildSays$Put" "law" "LChildSays$Law;") ∈ lw_all := lw_g (lw_at lw_m2 55 rfl) rfl
theorem q442 : (Jvm.Cond.fieldLink "ChildSays$Put" (33 : Nat) "ChildSays$Put" "most" "I") ∈ lw_all := lw_g (lw_at lw_m2 56 rfl) rfl
theorem q443 : (Jvm.Cond.fieldLink "ChildSays$Put" (37 : Nat) "ChildSays$Put" "changed" "I") ∈ lw_all := lw_g (lw_at lw_m2 57 rfl) rfl
theorem q444 : (Jvm.Cond.fieldLinkNest "ChildSays" (470 : Nat) "ChildSays$Put" "changed" "I" "ChildSays") ∈ lw_tbl := lw_at lw_m2 58 rfl
theorem q445 : (Jvm.Cond.fieldLink "ChildSays$Put" (3 : Nat) "ChildSays$Put" "this$0" "LChildSays;") ∈ lw_all := lw_g (lw_at lw_m2 59 rfl) rfl
theorem q446 : (Jvm.Cond.laysFinal "ChildSays$Put" "ChildSays$Put" "row" "LChildSays$Row;") ∈ lw_all := lw_g (lw_at lw_m2 60 rfl) rfl
theorem q447 : (Jvm.Cond.soleField "ChildSays$Put" "row") ∈ lw_all := lw_g (lw_at lw_m2 61 rfl) rfl
theorem q448 : (Jvm.Cond.laysFinal "ChildSays$Put" "ChildSays$Put" "place" "[I") ∈ lw_all := lw_g (lw_at lw_m2 62 rfl) rfl
theorem q449 : (Jvm.Cond.soleField "ChildSays$Put" "place") ∈ lw_all := lw_g (lw_at lw_m2 63 rfl) rfl
theorem q450 : (Jvm.Cond.laysFinal "ChildSays$Put" "ChildSays$Put" "first" "[I") ∈ lw_all := lw_g (lw_at lw_m2 64 rfl) rfl
theorem q451 : (Jvm.Cond.soleField "ChildSays$Put" "first") ∈ lw_all := lw_g (lw_at lw_m2 65 rfl) rfl
theorem q452 : (Jvm.Cond.lays "ChildSays$Put" "ChildSays$Put" "law" "LChildSays$Law;") ∈ lw_all := lw_g (lw_at lw_m2 66 rfl) rfl
theorem q453 : (Jvm.Cond.soleField "ChildSays$Put" "law") ∈ lw_all := lw_g (lw_at lw_m2 67 rfl) rfl
theorem q454 : (Jvm.Cond.lays "ChildSays$Put" "ChildSays$Put" "most" "I") ∈ lw_all := lw_g (lw_at lw_m2 68 rfl) rfl
theorem q455 : (Jvm.Cond.soleField "ChildSays$Put" "most") ∈ lw_all := lw_g (lw_at lw_m2 69 rfl) rfl
theorem q456 : (Jvm.Cond.lays "ChildSays$Put" "ChildSays$Put" "changed" "I") ∈ lw_all := lw_g (lw_at lw_m2 70 rfl) rfl
theorem q457 : (Jvm.Cond.soleField "ChildSays$Put" "changed") ∈ lw_all := lw_g (lw_at lw_m2 71 rfl) rfl
theorem q458 : (Jvm.Cond.laysFinal "ChildSays$Put" "ChildSays$Put" "this$0" "LChildSays;") ∈ lw_all := lw_g (lw_at lw_m2 72 rfl) rfl
theorem q459 : (Jvm.Cond.soleField "ChildSays$Put" "this$0") ∈ lw_all := lw_g (lw_at lw_m2 73 rfl) rfl
theorem q460 : (Jvm.Cond.superclass "ChildSays$Put" "java/lang/Object") ∈ lw_all := lw_g (lw_at lw_m2 74 rfl) rfl
theorem q461 : (Jvm.Cond.classLink "ChildSays" (76 : Nat) "ChildSays$Order") ∈ lw_all := lw_g (lw_at lw_m2 75 rfl) rfl
theorem q462 : (Jvm.Cond.instantiable "ChildSays$Order" (5 : Nat)) ∈ lw_all := lw_g (lw_at lw_m2 76 rfl) rfl
theorem q463 : (Jvm.Cond.methodLinkNest "ChildSays" (78 : Nat) ({ cls := "ChildSays$Order", name := "<init>", desc := "(LChildSays;)V" } : Jvm.MethodName) "ChildSays") ∈ lw_tbl := lw_at lw_m2 77 rfl
theorem q464 : (Jvm.Cond.instanceMethod ({ cls := "ChildSays$Order", name := "<init>", desc := "(LChildSays;)V" } : Jvm.MethodName)) ∈ lw_all := lw_g (lw_at lw_m2 78 rfl) rfl
theorem q465 : (Jvm.Cond.code ({ cls := "ChildSays$Order", name := "<init>", desc := "(LChildSays;)V" } : Jvm.MethodName) prog_8_method_1_code (2 : Nat) (Option.none : Option Jvm.ClassFile.FieldType)) ∈ lw_all := lw_g (lw_at lw_m2 79 rfl) rfl
theorem q466 : (Jvm.Cond.methodLink "ChildSays$Order" (9 : Nat) ({ cls := "java/lang/Object", name := "<init>", desc := "()V" } : Jvm.MethodName)) ∈ lw_all := lw_g (lw_at lw_m2 80 rfl) rfl
theorem q467 : (Jvm.Cond.classLink "ChildSays$Order" (15 : Nat) "ChildSays$Sitting") ∈ lw_all := lw_g (lw_at lw_m2 81 rfl) rfl
theorem q468 : (Jvm.Cond.methodLink "ChildSays$Order" (17 : Nat) ({ cls := "ChildSays$Sitting", name := "<init>", desc := "(LChildSays;)V" } : Jvm.MethodName)) ∈ lw_all := lw_g (lw_at lw_m2 82 rfl) rfl
theorem q469 : (Jvm.Cond.classLink "ChildSays$Order" (24 : Nat) "ChildSays$Law") ∈ lw_all := lw_g (lw_at lw_m2 83 rfl) rfl
theorem q470 : (Jvm.Cond.fieldLink "ChildSays$Order" (20 : Nat) "ChildSays$Order" "s" "LChildSays$Sitting;") ∈ lw_all := lw_g (lw_at lw_m2 84 rfl) rfl
theorem q471 : (Jvm.Cond.fieldLink "ChildSays$Order" (26 : Nat) "ChildSays$Order" "first" "[LChildSays$Law;") ∈ lw_all := lw_g (lw_at lw_m2 85 rfl) rfl
theorem q472 : (Jvm.Cond.fieldLink "ChildSays$Order" (49 : Nat) "ChildSays$Order" "most" "I") ∈ lw_all := lw_g (lw_at lw_m2 86 rfl) rfl
theorem q473 : (Jvm.Cond.fieldLink "ChildSays$Order" (103 : Nat) "ChildSays$Order" "changed" "I") ∈ lw_all := lw_g (lw_at lw_m2 87 rfl) rfl
theorem q474 : (Jvm.Cond.fieldLinkNest "ChildSays" (483 : Nat) "ChildSays$Order" "changed" "I" "ChildSays") ∈ lw_tbl := lw_at lw_m2 88 rfl
theorem q475 : (Jvm.Cond.fieldLink "ChildSays$Order" (3 : Nat) "ChildSays$Order" "this$0" "LChildSays;") ∈ lw_all := lw_g (lw_at lw_m2 89 rfl) rfl
theorem q476 : (Jvm.Cond.laysFinal "ChildSays$Order" "ChildSays$Order" "s" "LChildSays$Sitting;") ∈ lw_all := lw_g (lw_at lw_m2 90 rfl) rfl
theorem q477 : (Jvm.Cond.soleField "ChildSays$Order" "s") ∈ lw_all := lw_g (lw_at lw_m2 91 rfl) rfl
theorem q478 : (Jvm.Cond.laysFinal "ChildSays$Order" "ChildSays$Order" "first" "[LChildSays$Law;") ∈ lw_all := lw_g (lw_at lw_m2 92 rfl) rfl
theorem q479 : (Jvm.Cond.soleField "ChildSays$Order" "first") ∈ lw_all := lw_g (lw_at lw_m2 93 rfl) rfl
theorem q480 : (Jvm.Cond.lays "ChildSays$Order" "ChildSays$Order" "most" "I") ∈ lw_all := lw_g (lw_at lw_m2 94 rfl) rfl
theorem q481 : (Jvm.Cond.soleField "ChildSays$Order" "most") ∈ lw_all := lw_g (lw_at lw_m2 95 rfl) rfl
theorem q482 : (Jvm.Cond.lays "ChildSays$Order" "ChildSays$Order" "changed" "I") ∈ lw_all := lw_g (lw_at lw_m2 96 rfl) rfl
theorem q483 : (Jvm.Cond.soleField "ChildSays$Order" "changed") ∈ lw_all := lw_g (lw_at lw_m2 97 rfl) rfl
theorem q484 : (Jvm.Cond.laysFinal "ChildSays$Order" "ChildSays$Order" "this$0" "LChildSays;") ∈ lw_all := lw_g (lw_at lw_m2 98 rfl) rfl
theorem q485 : (Jvm.Cond.soleField "ChildSays$Order" "this$0") ∈ lw_all := lw_g (lw_at lw_m2 99 rfl) rfl
theorem q486 : (Jvm.Cond.superclass "ChildSays$Order" "java/lang/Object") ∈ lw_all := lw_g (lw_at lw_m2 100 rfl) rfl
theorem q487 : (Jvm.Cond.classLink "ChildSays" (83 : Nat) "ChildSays$Row") ∈ lw_all := lw_g (lw_at lw_m2 101 rfl) rfl
theorem q488 : (Jvm.Cond.methodLinkNest "ChildSays" (85 : Nat) ({ cls := "ChildSays$Row", name := "<init>", desc := "()V" } : Jvm.MethodName) "ChildSays") ∈ lw_tbl := lw_at lw_m2 102 rfl
theorem q489 : (Jvm.Cond.classLink "ChildSays" (90 : Nat) "java/lang/StringBuilder") ∈ lw_all := lw_g (lw_at lw_m2 103 rfl) rfl
theorem q490 : (Jvm.Cond.instantiable "java/lang/StringBuilder" (4 : Nat)) ∈ lw_all := lw_g (lw_at lw_m2 104 rfl) rfl
theorem q491 : (Jvm.Cond.methodLink "ChildSays" (92 : Nat) ({ cls := "java/lang/StringBuilder", name := "<init>", desc := "()V" } : Jvm.MethodName)) ∈ lw_all := lw_g (lw_at lw_m2 105 rfl) rfl
theorem q492 : (Jvm.Cond.instanceMethod ({ cls := "java/lang/StringBuilder", name := "<init>", desc := "()V" } : Jvm.MethodName)) ∈ lw_all := lw_g (lw_at lw_m2 106 rfl) rfl
theorem q493 : (Jvm.Cond.code ({ cls := "java/lang/StringBuilder", name := "<init>", desc := "()V" } : Jvm.MethodName) prog_32_method_1_code (1 : Nat) (Option.none : Option Jvm.ClassFile.FieldType)) ∈ lw_all := lw_g (lw_at lw_m2 107 rfl) rfl
theorem q494 : (Jvm.Cond.methodLink "java/lang/StringBuilder" (1 : Nat) ({ cls := "java/lang/AbstractStringBuilder", name := "<init>", desc := "(I)V" } : Jvm.MethodName)) ∈ lw_all := lw_g (lw_at lw_m2 108 rfl) rfl
theorem q495 : (Jvm.Cond.instanceMethod ({ cls := "java/lang/AbstractStringBuilder", name := "<init>", desc := "(I)V" } : Jvm.MethodName)) ∈ lw_all := lw_g (lw_at lw_m2 109 rfl) rfl
theorem q496 : (Jvm.Cond.code ({ cls := "java/lang/AbstractStringBuilder", name := "<init>", desc := "(I)V" } : Jvm.MethodName) prog_23_method_2_code (2 : Nat) (Option.none : Option Jvm.ClassFile.FieldType)) ∈ lw_all := lw_g (lw_at lw_m2 110 rfl) rfl
theorem q497 : (Jvm.Cond.methodLink "java/lang/AbstractStringBuilder" (3 : Nat) ({ cls := "java/lang/Object", name := "<init>", desc := "()V" } : Jvm.MethodName)) ∈ lw_all := lw_g (lw_at lw_m2 111 rfl) rfl
theorem q498 : (Jvm.Cond.fieldLink "java/lang/AbstractStringBuilder" (18 : Nat) "java/lang/String" "COMPACT_STRINGS" "Z") ∈ lw_all := lw_g (lw_at lw_m2 112 rfl) rfl
theorem q499 : (Jvm.Cond.laysStatic "java/lang/String" "COMPACT_STRINGS" "Z") ∈ lw_tbl := lw_at lw_m2 113 rfl
theorem q500 : (Jvm.Cond.methodLink "java/lang/AbstractStringBuilder" (26 : Nat) ({ cls := "java/lang/StringUTF16", name := "newBytesFor", desc := "(I)[B" } : Jvm.MethodName)) ∈ lw_all := lw_g (lw_at lw_m2 114 rfl) rfl
theorem q501 : (Jvm.Cond.static ({ cls := "java/lang/StringUTF16", name := "newBytesFor", desc := "(I)[B" } : Jvm.MethodName)) ∈ lw_all := lw_g (lw_at lw_m2 115 rfl) rfl
theorem q502 : (Jvm.Cond.code ({ cls := "java/lang/StringUTF16", name := "newBytesFor", desc := "(I)[B" } : Jvm.MethodName) prog_34_method_2_code (1 : Nat) (Option.some (Jvm.ClassFile.FieldType.array Jvm.ClassFile.FieldType.byte))) ∈ lw_all := lw_g (lw_at lw_m2 116 rfl) rfl
theorem q503 : (Jvm.Cond.methodLink "java/lang/StringUTF16" (11 : Nat) ({ cls := "java/lang/StringUTF16", name := "newBytesLength", desc := "(I)I" } : Jvm.MethodName)) ∈ lw_all := lw_g (lw_at lw_m2 117 rfl) rfl
theorem q504 : (Jvm.Cond.static ({ cls := "java/lang/StringUTF16", name := "newBytesLength", desc := "(I)I" } : Jvm.MethodName)) ∈ lw_all := lw_g (lw_at lw_m2 118 rfl) rfl
theorem q505 : (Jvm.Cond.code ({ cls := "java/lang/StringUTF16", name := "newBytesLength", desc := "(I)I" } : Jvm.MethodName) prog_34_method_3_code (1 : Nat) (Option.some Jvm.ClassFile.FieldType.int)) ∈ lw_all := lw_g (lw_at lw_m2 119 rfl) rfl
theorem q506 : (Jvm.Cond.constant "java/lang/StringUTF16" (20 : Nat) (1073741823 : Int32)) ∈ lw_all := lw_g (lw_at lw_m2 120 rfl) rfl
theorem q507 : (Jvm.Cond.fieldLink "java/lang/AbstractStringBuilder" (15 : Nat) "java/lang/AbstractStringBuilder" "value" "[B") ∈ lw_all := lw_g (lw_at lw_m2 121 rfl) rfl
theorem q508 : (Jvm.Cond.fieldLink "java/lang/AbstractStringBuilder" (22 : Nat) "java/lang/AbstractStringBuilder" "coder" "B") ∈ lw_all := lw_g (lw_at lw_m2 122 rfl) rfl
theorem q509 : (Jvm.Cond.fieldLink "java/lang/AbstractStringBuilder" (73 : Nat) "java/lang/AbstractStringBuilder" "maybeLatin1" "Z") ∈ lw_all := lw_g (lw_at lw_m2 123 rfl) rfl
theorem q510 : (Jvm.Cond.fieldLink "java/lang/AbstractStringBuilder" (79 : Nat) "java/lang/AbstractStringBuilder" "count" "I") ∈ lw_all := lw_g (lw_at lw_m2 124 rfl) rfl
theorem q511 : (Jvm.Cond.lays "java/lang/StringBuilder" "java/lang/AbstractStringBuilder" "value" "[B") ∈ lw_all := lw_g (lw_at lw_m2 125 rfl) rfl
theorem q512 : (Jvm.Cond.soleField "java/lang/AbstractStringBuilder" "value") ∈ lw_all := lw_g (lw_at lw_m2 126 rfl) rfl
theorem q513 : (Jvm.Cond.lays "java/lang/StringBuilder" "java/lang/AbstractStringBuilder" "coder" "B") ∈ lw_all := lw_g (lw_at lw_m2 127 rfl) rfl
theorem q514 : (Jvm.Cond.soleField "java/lang/AbstractStringBuilder" "coder") ∈ lw_all := lw_g (lw_at lw_m2 128 rfl) rfl
theorem q515 : (Jvm.Cond.lays "java/lang/StringBuilder" "java/lang/AbstractStringBuilder" "maybeLatin1" "Z") ∈ lw_all := lw_g (lw_at lw_m2 129 rfl) rfl
theorem q516 : (Jvm.Cond.soleField "java/lang/AbstractStringBuilder" "maybeLatin1") ∈ lw_all := lw_g (lw_at lw_m2 130 rfl) rfl
theorem q517 : (Jvm.Cond.lays "java/lang/StringBuilder" "java/lang/AbstractStringBuilder" "count" "I") ∈ lw_all := lw_g (lw_at lw_m2 131 rfl) rfl
theorem q518 : (Jvm.Cond.soleField "java/lang/AbstractStringBuilder" "count") ∈ lw_all := lw_g (lw_at lw_m2 132 rfl) rfl
theorem q519 : (Jvm.Cond.superclass "java/lang/StringBuilder" "java/lang/AbstractStringBuilder") ∈ lw_all := lw_g (lw_at lw_m2 133 rfl) rfl
theorem q520 : (Jvm.Cond.arrayClass Jvm.ClassFile.FieldType.byte) ∈ lw_all := lw_g (lw_at lw_m2 134 rfl) rfl
theorem q521 : (Jvm.Cond.fieldLink "ChildSays" (9 : Nat) "ChildSays" "tape" "[C") ∈ lw_all := lw_g (lw_at lw_m2 135 rfl) rfl
theorem q522 : (Jvm.Cond.fieldLinkNest "ChildSays$Reader" (36 : Nat) "ChildSays" "tape" "[C" "ChildSays") ∈ lw_tbl := lw_at lw_m2 136 rfl
theorem q523 : (Jvm.Cond.fieldLink "ChildSays" (111 : Nat) "ChildSays" "taped" "I") ∈ lw_all := lw_g (lw_at lw_m2 137 rfl) rfl
theorem q524 : (Jvm.Cond.fieldLink "ChildSays" (13 : Nat) "ChildSays" "refusals" "[I") ∈ lw_all := lw_g (lw_at lw_m2 138 rfl) rfl
theorem q525 : (Jvm.Cond.fieldLinkNest "ChildSays$Was" (15 : Nat) "ChildSays" "town" "LChildSays$Town;" "ChildSays") ∈ lw_tbl := lw_at lw_m2 139 rfl
theorem q526 : (Jvm.Cond.fieldLink "ChildSays" (20 : Nat) "ChildSays" "town" "LChildSays$Town;") ∈ lw_all := lw_g (lw_at lw_m2 140 rfl) rfl
theorem q527 : (Jvm.Cond.fieldLinkNest "ChildSays$Unlike" (35 : Nat) "ChildSays" "town" "LChildSays$Town;" "ChildSays") ∈ lw_tbl := lw_at lw_m2 141 rfl
theorem q528 : (Jvm.Cond.fieldLinkNest "ChildSays$Saying" (52 : Nat) "ChildSays" "town" "LChildSays$Town;" "ChildSays") ∈ lw_tbl := lw_at lw_m2 142 rfl
theorem q529 : (Jvm.Cond.fieldLinkNest "ChildSays$Sitting" (37 : Nat) "ChildSays" "town" "LChildSays$Town;" "ChildSays") ∈ lw_tbl := lw_at lw_m2 143 rfl
theorem q530 : (Jvm.Cond.fieldLinkNest "ChildSays$Order" (55 : Nat) "ChildSays" "town" "LChildSays$Town;" "ChildSays") ∈ lw_tbl := lw_at lw_m2 144 rfl
theorem q531 : (Jvm.Cond.fieldLink "ChildSays" (154 : Nat) "ChildSays" "faultKind" "I") ∈ lw_all := lw_g (lw_at lw_m2 145 rfl) rfl
theorem q532 : (Jvm.Cond.fieldLink "ChildSays" (24 : Nat) "ChildSays" "faultPlace" "I") ∈ lw_all := lw_g (lw_at lw_m2 146 rfl) rfl
theorem q533 : (Jvm.Cond.fieldLink "ChildSays" (28 : Nat) "ChildSays" "seed" "J") ∈ lw_all := lw_g (lw_at lw_m2 147 rfl) rfl
theorem q534 : (Jvm.Cond.fieldLink "ChildSays" (35 : Nat) "ChildSays" "acts" "Ljava/util/ArrayList;") ∈ lw_all := lw_g (lw_at lw_m2 148 rfl) rfl
theorem q535 : (Jvm.Cond.fieldLink "ChildSays" (44 : Nat) "ChildSays" "alone" "LChildSays$Saying;") ∈ lw_all := lw_g (lw_at lw_m2 149 rfl) rfl
theorem q536 : (Jvm.Cond.fieldLinkNest "ChildSays$Round" (25 : Nat) "ChildSays" "alone" "LChildSays$Saying;" "ChildSays") ∈ lw_tbl := lw_at lw_m2 150 rfl
theorem q537 : (Jvm.Cond.fieldLink "ChildSays" (51 : Nat) "ChildSays" "sitting" "LChildSays$Sitting;") ∈ lw_all := lw_g (lw_at lw_m2 151 rfl) rfl
theorem q538 : (Jvm.Cond.fieldLink "ChildSays" (378 : Nat) "ChildSays" "dreamt" "Z") ∈ lw_all := lw_g (lw_at lw_m2 152 rfl) rfl
theorem q539 : (Jvm.Cond.fieldLink "ChildSays" (58 : Nat) "ChildSays" "unlike" "LChildSays$Unlike;") ∈ lw_all := lw_g (lw_at lw_m2 153 rfl) rfl
theorem q540 : (Jvm.Cond.fieldLink "ChildSays" (65 : Nat) "ChildSays" "round" "LChildSays$Round;") ∈ lw_all := lw_g (lw_at lw_m2 154 rfl) rfl
theorem q541 : (Jvm.Cond.fieldLink "ChildSays" (72 : Nat) "ChildSays" "put" "LChildSays$Put;") ∈ lw_all := lw_g (lw_at lw_m2 155 rfl) rfl
theorem q542 : (Jvm.Cond.fieldLink "ChildSays" (79 : Nat) "ChildSays" "orders" "LChildSays$Order;") ∈ lw_all := lw_g (lw_at lw_m2 156 rfl) rfl
theorem q543 : (Jvm.Cond.fieldLink "ChildSays" (86 : Nat) "ChildSays" "tried" "LChildSays$Row;") ∈ lw_all := lw_g (lw_at lw_m2 157 rfl) rfl
theorem q544 : (Jvm.Cond.fieldLink "ChildSays" (93 : Nat) "ChildSays" "octets" "Ljava/lang/StringBuilder;") ∈ lw_all := lw_g (lw_at lw_m2 158 rfl) rfl
theorem q545 : (Jvm.Cond.laysFinal "ChildSays" "ChildSays" "tape" "[C") ∈ lw_all := lw_g (lw_at lw_m2 159 rfl) rfl
theorem q546 : (Jvm.Cond.soleField "ChildSays" "tape") ∈ lw_all := lw_g (lw_at lw_m2 160 rfl) rfl
theorem q547 : (Jvm.Cond.lays "ChildSays" "ChildSays" "taped" "I") ∈ lw_all := lw_g (lw_at lw_m2 161 rfl) rfl
theorem q548 : (Jvm.Cond.soleField "ChildSays" "taped") ∈ lw_all := lw_g (lw_at lw_m2 162 rfl) rfl
theorem q549 : (Jvm.Cond.laysFinal "ChildSays" "ChildSays" "refusals" "[I") ∈ lw_all := lw_g (lw_at lw_m2 163 rfl) rfl
theorem q550 : (Jvm.Cond.soleField "ChildSays" "refusals") ∈ lw_all := lw_g (lw_at lw_m2 164 rfl) rfl
theorem q551 : (Jvm.Cond.lays "ChildSays" "ChildSays" "town" "LChildSays$Town;") ∈ lw_all := lw_g (lw_at lw_m2 165 rfl) rfl
theorem q552 : (Jvm.Cond.soleField "ChildSays" "town") ∈ lw_all := lw_g (lw_at lw_m2 166 rfl) rfl
theorem q553 : (Jvm.Cond.lays "ChildSays" "ChildSays" "faultKind" "I") ∈ lw_all := lw_g (lw_at lw_m2 167 rfl) rfl
theorem q554 : (Jvm.Cond.soleField "ChildSays" "faultKind") ∈ lw_all := lw_g (lw_at lw_m2 168 rfl) rfl
theorem q555 : (Jvm.Cond.lays "ChildSays" "ChildSays" "faultPlace" "I") ∈ lw_all := lw_g (lw_at lw_m2 169 rfl) rfl
theorem q556 : (Jvm.Cond.soleField "ChildSays" "faultPlace") ∈ lw_all := lw_g (lw_at lw_m2 170 rfl) rfl
theorem q557 : (Jvm.Cond.lays "ChildSays" "ChildSays" "seed" "J") ∈ lw_all := lw_g (lw_at lw_m2 171 rfl) rfl
theorem q558 : (Jvm.Cond.soleField "ChildSays" "seed") ∈ lw_all := lw_g (lw_at lw_m2 172 rfl) rfl
theorem q559 : (Jvm.Cond.laysFinal "ChildSays" "ChildSays" "acts" "Ljava/util/ArrayList;") ∈ lw_all := lw_g (lw_at lw_m2 173 rfl) rfl
theorem q560 : (Jvm.Cond.soleField "ChildSays" "acts") ∈ lw_all := lw_g (lw_at lw_m2 174 rfl) rfl
theorem q561 : (Jvm.Cond.laysFinal "ChildSays" "ChildSays" "alone" "LChildSays$Saying;") ∈ lw_all := lw_g (lw_at lw_m2 175 rfl) rfl
theorem q562 : (Jvm.Cond.soleField "ChildSays" "alone") ∈ lw_all := lw_g (lw_at lw_m2 176 rfl) rfl
theorem q563 : (Jvm.Cond.laysFinal "ChildSays" "ChildSays" "sitting" "LChildSays$Sitting;") ∈ lw_all := lw_g (lw_at lw_m2 177 rfl) rfl
theorem q564 : (Jvm.Cond.soleField "ChildSays" "sitting") ∈ lw_all := lw_g (lw_at lw_m2 178 rfl) rfl
theorem q565 : (Jvm.Cond.lays "ChildSays" "ChildSays" "dreamt" "Z") ∈ lw_all := lw_g (lw_at lw_m2 179 rfl) rfl
theorem q566 : (Jvm.Cond.soleField "ChildSays" "dreamt") ∈ lw_all := lw_g (lw_at lw_m2 180 rfl) rfl
theorem q567 : (Jvm.Cond.laysFinal "ChildSays" "ChildSays" "unlike" "LChildSays$Unlike;") ∈ lw_all := lw_g (lw_at lw_m2 181 rfl) rfl
theorem q568 : (Jvm.Cond.soleField "ChildSays" "unlike") ∈ lw_all := lw_g (lw_at lw_m2 182 rfl) rfl
theorem q569 : (Jvm.Cond.laysFinal "ChildSays" "ChildSays" "round" "LChildSays$Round;") ∈ lw_all := lw_g (lw_at lw_m2 183 rfl) rfl
theorem q570 : (Jvm.Cond.soleField "ChildSays" "round") ∈ lw_all := lw_g (lw_at lw_m2 184 rfl) rfl
theorem q571 : (Jvm.Cond.laysFinal "ChildSays" "ChildSays" "put" "LChildSays$Put;") ∈ lw_all := lw_g (lw_at lw_m2 185 rfl) rfl
theorem q572 : (Jvm.Cond.soleField "ChildSays" "put") ∈ lw_all := lw_g (lw_at lw_m2 186 rfl) rfl
theorem q573 : (Jvm.Cond.laysFinal "ChildSays" "ChildSays" "orders" "LChildSays$Order;") ∈ lw_all := lw_g (lw_at lw_m2 187 rfl) rfl
theorem q574 : (Jvm.Cond.soleField "ChildSays" "orders") ∈ lw_all := lw_g (lw_at lw_m2 188 rfl) rfl
theorem q575 : (Jvm.Cond.laysFinal "ChildSays" "ChildSays" "tried" "LChildSays$Row;") ∈ lw_all := lw_g (lw_at lw_m2 189 rfl) rfl
theorem q576 : (Jvm.Cond.soleField "ChildSays" "tried") ∈ lw_all := lw_g (lw_at lw_m2 190 rfl) rfl
theorem q577 : (Jvm.Cond.laysFinal "ChildSays" "ChildSays" "octets" "Ljava/lang/StringBuilder;") ∈ lw_all := lw_g (lw_at lw_m2 191 rfl) rfl
theorem q578 : (Jvm.Cond.soleField "ChildSays" "octets") ∈ lw_all := lw_g (lw_at lw_m2 192 rfl) rfl
theorem q579 : (Jvm.Cond.superclass "ChildSays" "java/lang/Object") ∈ lw_all := lw_g (lw_at lw_m2 193 rfl) rfl
theorem q580 : (Jvm.Cond.methodLink "ChildSaysLaw" (13 : Nat) ({ cls := "ChildSays", name := "feed", desc := "(IIIII)I" } : Jvm.MethodName)) ∈ lw_all := lw_g (lw_at lw_m2 194 rfl) rfl
theorem q581 : (Jvm.Cond.instanceMethod ({ cls := "ChildSays", name := "feed", desc := "(IIIII)I" } : Jvm.MethodName)) ∈ lw_all := lw_g (lw_at lw_m2 195 rfl) rfl
theorem q582 : (Jvm.Cond.selects "ChildSays" ({ cls := "ChildSays", name := "feed", desc := "(IIIII)I" } : Jvm.MethodName) ({ cls := "ChildSays", name := "feed", desc := "(IIIII)I" } : Jvm.MethodName)) ∈ lw_all := lw_g (lw_at lw_m2 196 rfl) rfl
theorem q583 : (Jvm.Cond.code ({ cls := "ChildSays", name := "feed", desc := "(IIIII)I" } : Jvm.MethodName) prog_1_method_6_code (6 : Nat) (Option.some Jvm.ClassFile.FieldType.int)) ∈ lw_all := lw_g (lw_at lw_m2 197 rfl) rfl
theorem q584 : (Jvm.Cond.methodLink "ChildSays" (107 : Nat) ({ cls := "ChildSays", name := "refused", desc := "(I)I" } : Jvm.MethodName)) ∈ lw_all := lw_g (lw_at lw_m2 198 rfl) rfl
theorem q585 : (Jvm.Cond.privateMethod ({ cls := "ChildSays", name := "refused", desc := "(I)I" } : Jvm.MethodName)) ∈ lw_tbl := lw_at lw_m2 199 rfl
theorem q586 : (Jvm.Cond.instanceMethod ({ cls := "ChildSays", name := "refused", desc := "(I)I" } : Jvm.MethodName)) ∈ lw_all := lw_g (lw_at lw_m2 200 rfl) rfl
theorem q587 : (Jvm.Cond.code ({ cls := "ChildSays", name := "refused", desc := "(I)I" } : Jvm.MethodName) prog_1_method_4_code (2 : Nat) (Option.some Jvm.ClassFile.FieldType.int)) ∈ lw_all := lw_g (lw_at lw_m2 201 rfl) rfl
theorem q588 : (Jvm.Cond.methodLink "ChildSays" (114 : Nat) ({ cls := "ChildSays", name := "lays", desc := "(I)V" } : Jvm.MethodName)) ∈ lw_all := lw_g (lw_at lw_m2 202 rfl) rfl
theorem q589 : (Jvm.Cond.privateMethod ({ cls := "ChildSays", name := "lays", desc := "(I)V" } : Jvm.MethodName)) ∈ lw_tbl := lw_at lw_m2 203 rfl
theorem q590 : (Jvm.Cond.instanceMethod ({ cls := "ChildSays", name := "lays", desc := "(I)V" } : Jvm.MethodName)) ∈ lw_all := lw_g (lw_at lw_m2 204 rfl) rfl
theorem q591 : (Jvm.Cond.code ({ cls := "ChildSays", name := "lays", desc := "(I)V" } : Jvm.MethodName) prog_1_method_7_code (3 : Nat) (Option.none : Option Jvm.ClassFile.FieldType)) ∈ lw_all := lw_g (lw_at lw_m2 205 rfl) rfl
theorem q592 : (Jvm.Cond.methodLink "ChildSaysLaw" (18 : Nat) ({ cls := "ChildSays", name := "end", desc := "(I)Z" } : Jvm.MethodName)) ∈ lw_all := lw_g (lw_at lw_m2 206 rfl) rfl
theorem q593 : (Jvm.Cond.instanceMethod ({ cls := "ChildSays", name := "end", desc := "(I)Z" } : Jvm.MethodName)) ∈ lw_all := lw_g (lw_at lw_m2 207 rfl) rfl
theorem q594 : (Jvm.Cond.selects "ChildSays" ({ cls := "ChildSays", name := "end", desc := "(I)Z" } : Jvm.MethodName) ({ cls := "ChildSays", name := "end", desc := "(I)Z" } : Jvm.MethodName)) ∈ lw_all := lw_g (lw_at lw_m2 208 rfl) rfl
theorem q595 : (Jvm.Cond.code ({ cls := "ChildSays", name := "end", desc := "(I)Z" } : Jvm.MethodName) prog_1_method_8_code (2 : Nat) (Option.some Jvm.ClassFile.FieldType.boolean)) ∈ lw_all := lw_g (lw_at lw_m2 209 rfl) rfl
theorem q596 : (Jvm.Cond.methodLink "ChildSays" (118 : Nat) ({ cls := "ChildSays", name := "refuses", desc := "(I)Z" } : Jvm.MethodName)) ∈ lw_all := lw_g (lw_at lw_m2 210 rfl) rfl
theorem q597 : (Jvm.Cond.privateMethod ({ cls := "ChildSays", name := "refuses", desc := "(I)Z" } : Jvm.MethodName)) ∈ lw_tbl := lw_at lw_m2 211 rfl
theorem q598 : (Jvm.Cond.instanceMethod ({ cls := "ChildSays", name := "refuses", desc := "(I)Z" } : Jvm.MethodName)) ∈ lw_all := lw_g (lw_at lw_m2 212 rfl) rfl
theorem q599 : (Jvm.Cond.code ({ cls := "ChildSays", name := "refuses", desc := "(I)Z" } : Jvm.MethodName) prog_1_method_5_code (2 : Nat) (Option.some Jvm.ClassFile.FieldType.boolean)) ∈ lw_all := lw_g (lw_at lw_m2 213 rfl) rfl
theorem q600 : (Jvm.Cond.methodLink "ChildSaysLaw" (188 : Nat) ({ cls := "ChildSays", name := "status", desc := "(I)I" } : Jvm.MethodName)) ∈ lw_all := lw_g (lw_at lw_m2 214 rfl) rfl
theorem q601 : (Jvm.Cond.instanceMethod ({ cls := "ChildSays", name := "status", desc := "(I)I" } : Jvm.MethodName)) ∈ lw_all := lw_g (lw_at lw_m2 215 rfl) rfl
theorem q602 : (Jvm.Cond.selects "ChildSays" ({ cls := "ChildSays", name := "status", desc := "(I)I" } : Jvm.MethodName) ({ cls := "ChildSays", name := "status", desc := "(I)I" } : Jvm.MethodName)) ∈ lw_all := lw_g (lw_at lw_m2 216 rfl) rfl
theorem q603 : (Jvm.Cond.code ({ cls := "ChildSays", name := "status", desc := "(I)I" } : Jvm.MethodName) prog_1_method_9_code (2 : Nat) (Option.some Jvm.ClassFile.FieldType.int)) ∈ lw_all := lw_g (lw_at lw_m2 217 rfl) rfl
theorem q604 : (Jvm.Cond.constantLong "ChildSays" (122 : Nat) (5 : Int64)) ∈ lw_all := lw_g (lw_at lw_m2 218 rfl) rfl
theorem q605 : (Jvm.Cond.methodLink "ChildSays" (124 : Nat) ({ cls := "ChildSays", name := "isIn", desc := "(JJJ)Z" } : Jvm.MethodName)) ∈ lw_all := lw_g (lw_at lw_m2 219 rfl) rfl
theorem q606 : (Jvm.Cond.static ({ cls := "ChildSays", name := "isIn", desc := "(JJJ)Z" } : Jvm.MethodName)) ∈ lw_all := lw_g (lw_at lw_m2 220 rfl) rfl
theorem q607 : (Jvm.Cond.code ({ cls := "ChildSays", name := "isIn", desc := "(JJJ)Z" } : Jvm.MethodName) prog_1_method_2_code (6 : Nat) (Option.some Jvm.ClassFile.FieldType.boolean)) ∈ lw_all := lw_g (lw_at lw_m2 221 rfl) rfl
theorem q608 : (Jvm.Cond.methodLink "ChildSaysLaw" (23 : Nat) ({ cls := "ChildSays", name := "town", desc := "()I" } : Jvm.MethodName)) ∈ lw_all := lw_g (lw_at lw_m2 222 rfl) rfl
theorem q609 : (Jvm.Cond.instanceMethod ({ cls := "ChildSays", name := "town", desc := "()I" } : Jvm.MethodName)) ∈ lw_all := lw_g (lw_at lw_m2 223 rfl) rfl
theorem q610 : (Jvm.Cond.selects "ChildSays" ({ cls := "ChildSays", name := "town", desc := "()I" } : Jvm.MethodName) ({ cls := "ChildSays", name := "town", desc := "()I" } : Jvm.MethodName)) ∈ lw_all := lw_g (lw_at lw_m2 224 rfl) rfl
theorem q611 : (Jvm.Cond.codeWith ({ cls := "ChildSays", name := "town", desc := "()I" } : Jvm.MethodName) prog_1_method_14_code (3 : Nat) (Option.some Jvm.ClassFile.FieldType.int) [((10 : Nat), (33 : Nat), (36 : Nat), (150 : Nat))]) ∈ lw_all := lw_g (lw_at lw_m2 225 rfl) rfl
theorem q612 : (Jvm.Cond.classLink "ChildSays" (150 : Nat) "ChildSays$Fault") ∈ lw_all := lw_g (lw_at lw_m2 226 rfl) rfl
theorem q613 : (Jvm.Cond.classLink "ChildSays" (160 : Nat) "ChildSays$Reader") ∈ lw_all := lw_g (lw_at lw_m2 227 rfl) rfl
theorem q614 : (Jvm.Cond.instantiable "ChildSays$Reader" (11 : Nat)) ∈ lw_all := lw_g (lw_at lw_m2 228 rfl) rfl
theorem q615 : (Jvm.Cond.methodLink "ChildSays" (162 : Nat) ({ cls := "ChildSays$Reader", name := "<init>", desc := "(LChildSays;ILChildSays$Town;)V" } : Jvm.MethodName)) ∈ lw_all := lw_g (lw_at lw_m2 229 rfl) rfl
theorem q616 : (Jvm.Cond.instanceMethod ({ cls := "ChildSays$Reader", name := "<init>", desc := "(LChildSays;ILChildSays$Town;)V" } : Jvm.MethodName)) ∈ lw_all := lw_g (lw_at lw_m2 230 rfl) rfl
theorem q617 : (Jvm.Cond.code ({ cls := "ChildSays$Reader", name := "<init>", desc := "(LChildSays;ILChildSays$Town;)V" } : Jvm.MethodName) prog_10_method_1_code (4 : Nat) (Option.none : Option Jvm.ClassFile.FieldType)) ∈ lw_all := lw_g (lw_at lw_m2 231 rfl) rfl
theorem q618 : (Jvm.Cond.methodLink "ChildSays$Reader" (9 : Nat) ({ cls := "java/lang/Object", name := "<init>", desc := "()V" } : Jvm.MethodName)) ∈ lw_all := lw_g (lw_at lw_m2 232 rfl) rfl
theorem q619 : (Jvm.Cond.fieldLink "ChildSays$Reader" (19 : Nat) "ChildSays$Reader" "size" "I") ∈ lw_all := lw_g (lw_at lw_m2 233 rfl) rfl
theorem q620 : (Jvm.Cond.fieldLink "ChildSays$Reader" (22 : Nat) "ChildSays$Reader" "h" "LChildSays$Town;") ∈ lw_all := lw_g (lw_at lw_m2 234 rfl) rfl
theorem q621 : (Jvm.Cond.fieldLink "ChildSays$Reader" (33 : Nat) "ChildSays$Reader" "at" "I") ∈ lw_all := lw_g (lw_at lw_m2 235 rfl) rfl
theorem q622 : (Jvm.Cond.fieldLink "ChildSays$Reader" (15 : Nat) "ChildSays$Reader" "behind" "I") ∈ lw_all := lw_g (lw_at lw_m2 236 rfl) rfl
theorem q623 : (Jvm.Cond.fieldLink "ChildSays$Reader" (40 : Nat) "ChildSays$Reader" "place" "I") ∈ lw_all := lw_g (lw_at lw_m2 237 rfl) rfl
theorem q624 : (Jvm.Cond.fieldLink "ChildSays$Reader" (72 : Nat) "ChildSays$Reader" "number" "I") ∈ lw_all := lw_g (lw_at lw_m2 238 rfl) rfl
theorem q625 : (Jvm.Cond.fieldLink "ChildSays$Reader" (30 : Nat) "ChildSays$Reader" "what" "I") ∈ lw_all := lw_g (lw_at lw_m2 239 rfl) rfl
theorem q626 : (Jvm.Cond.fieldLink "ChildSays$Reader" (26 : Nat) "ChildSays$Reader" "isSeen" "Z") ∈ lw_all := lw_g (lw_at lw_m3 0 rfl) rfl
theorem q627 : (Jvm.Cond.fieldLink "ChildSays$Reader" (50 : Nat) "ChildSays$Reader" "sign" "C") ∈ lw_all := lw_g (lw_at lw_m3 1 rfl) rfl
theorem q628 : (Jvm.Cond.fieldLink "ChildSays$Reader" (64 : Nat) "ChildSays$Reader" "word" "Ljava/lang/String;") ∈ lw_all := lw_g (lw_at lw_m3 2 rfl) rfl
theorem q629 : (Jvm.Cond.fieldLink "ChildSays$Reader" (3 : Nat) "ChildSays$Reader" "this$0" "LChildSays;") ∈ lw_all := lw_g (lw_at lw_m3 3 rfl) rfl
theorem q630 : (Jvm.Cond.laysFinal "ChildSays$Reader" "ChildSays$Reader" "size" "I") ∈ lw_all := lw_g (lw_at lw_m3 4 rfl) rfl
theorem q631 : (Jvm.Cond.soleField "ChildSays$Reader" "size") ∈ lw_all := lw_g (lw_at lw_m3 5 rfl) rfl
theorem q632 : (Jvm.Cond.laysFinal "ChildSays$Reader" "ChildSays$Reader" "h" "LChildSays$Town;") ∈ lw_all := lw_g (lw_at lw_m3 6 rfl) rfl
theorem q633 : (Jvm.Cond.soleField "ChildSays$Reader" "h") ∈ lw_all := lw_g (lw_at lw_m3 7 rfl) rfl
theorem q634 : (Jvm.Cond.lays "ChildSays$Reader" "ChildSays$Reader" "at" "I") ∈ lw_all := lw_g (lw_at lw_m3 8 rfl) rfl
theorem q635 : (Jvm.Cond.soleField "ChildSays$Reader" "at") ∈ lw_all := lw_g (lw_at lw_m3 9 rfl) rfl
theorem q636 : (Jvm.Cond.lays "ChildSays$Reader" "ChildSays$Reader" "behind" "I") ∈ lw_all := lw_g (lw_at lw_m3 10 rfl) rfl
theorem q637 : (Jvm.Cond.soleField "ChildSays$Reader" "behind") ∈ lw_all := lw_g (lw_at lw_m3 11 rfl) rfl
theorem q638 : (Jvm.Cond.lays "ChildSays$Reader" "ChildSays$Reader" "place" "I") ∈ lw_all := lw_g (lw_at lw_m3 12 rfl) rfl
theorem q639 : (Jvm.Cond.soleField "ChildSays$Reader" "place") ∈ lw_all := lw_g (lw_at lw_m3 13 rfl) rfl
theorem q640 : (Jvm.Cond.lays "ChildSays$Reader" "ChildSays$Reader" "number" "I") ∈ lw_all := lw_g (lw_at lw_m3 14 rfl) rfl
theorem q641 : (Jvm.Cond.soleField "ChildSays$Reader" "number") ∈ lw_all := lw_g (lw_at lw_m3 15 rfl) rfl
theorem q642 : (Jvm.Cond.lays "ChildSays$Reader" "ChildSays$Reader" "what" "I") ∈ lw_all := lw_g (lw_at lw_m3 16 rfl) rfl
theorem q643 : (Jvm.Cond.soleField "ChildSays$Reader" "what") ∈ lw_all := lw_g (lw_at lw_m3 17 rfl) rfl
theorem q644 : (Jvm.Cond.lays "ChildSays$Reader" "ChildSays$Reader" "isSeen" "Z") ∈ lw_all := lw_g (lw_at lw_m3 18 rfl) rfl
theorem q645 : (Jvm.Cond.soleField "ChildSays$Reader" "isSeen") ∈ lw_all := lw_g (lw_at lw_m3 19 rfl) rfl
theorem q646 : (Jvm.Cond.lays "ChildSays$Reader" "ChildSays$Reader" "sign" "C") ∈ lw_all := lw_g (lw_at lw_m3 20 rfl) rfl
theorem q647 : (Jvm.Cond.soleField "ChildSays$Reader" "sign") ∈ lw_all := lw_g (lw_at lw_m3 21 rfl) rfl
theorem q648 : (Jvm.Cond.lays "ChildSays$Reader" "ChildSays$Reader" "word" "Ljava/lang/String;") ∈ lw_all := lw_g (lw_at lw_m3 22 rfl) rfl
theorem q649 : (Jvm.Cond.soleField "ChildSays$Reader" "word") ∈ lw_all := lw_g (lw_at lw_m3 23 rfl) rfl
theorem q650 : (Jvm.Cond.laysFinal "ChildSays$Reader" "ChildSays$Reader" "this$0" "LChildSays;") ∈ lw_all := lw_g (lw_at lw_m3 24 rfl) rfl
theorem q651 : (Jvm.Cond.soleField "ChildSays$Reader" "this$0") ∈ lw_all := lw_g (lw_at lw_m3 25 rfl) rfl
theorem q652 : (Jvm.Cond.superclass "ChildSays$Reader" "java/lang/Object") ∈ lw_all := lw_g (lw_at lw_m3 26 rfl) rfl
theorem q653 : (Jvm.Cond.methodLink "ChildSays" (165 : Nat) ({ cls := "ChildSays$Reader", name := "town", desc := "()LChildSays$Town;" } : Jvm.MethodName)) ∈ lw_all := lw_g (lw_at lw_m3 27 rfl) rfl
theorem q654 : (Jvm.Cond.instanceMethod ({ cls := "ChildSays$Reader", name := "town", desc := "()LChildSays$Town;" } : Jvm.MethodName)) ∈ lw_all := lw_g (lw_at lw_m3 28 rfl) rfl
theorem q655 : (Jvm.Cond.selects "ChildSays$Reader" ({ cls := "ChildSays$Reader", name := "town", desc := "()LChildSays$Town;" } : Jvm.MethodName) ({ cls := "ChildSays$Reader", name := "town", desc := "()LChildSays$Town;" } : Jvm.MethodName)) ∈ lw_all := lw_g (lw_at lw_m3 29 rfl) rfl
theorem q656 : (Jvm.Cond.code ({ cls := "ChildSays$Reader", name := "town", desc := "()LChildSays$Town;" } : Jvm.MethodName) prog_10_method_26_code (2 : Nat) (Option.some (Jvm.ClassFile.FieldType.object "ChildSays$Town"))) ∈ lw_all := lw_g (lw_at lw_m3 30 rfl) rfl
theorem q657 : (Jvm.Cond.methodLink "ChildSays$Reader" (281 : Nat) ({ cls := "ChildSays$Reader", name := "isMore", desc := "()Z" } : Jvm.MethodName)) ∈ lw_all := lw_g (lw_at lw_m3 31 rfl) rfl
theorem q658 : (Jvm.Cond.privateMethod ({ cls := "ChildSays$Reader", name := "isMore", desc := "()Z" } : Jvm.MethodName)) ∈ lw_tbl := lw_at lw_m3 32 rfl
theorem q659 : (Jvm.Cond.instanceMethod ({ cls := "ChildSays$Reader", name := "isMore", desc := "()Z" } : Jvm.MethodName)) ∈ lw_all := lw_g (lw_at lw_m3 33 rfl) rfl
theorem q660 : (Jvm.Cond.code ({ cls := "ChildSays$Reader", name := "isMore", desc := "()Z" } : Jvm.MethodName) prog_10_method_27_code (1 : Nat) (Option.some Jvm.ClassFile.FieldType.boolean)) ∈ lw_all := lw_g (lw_at lw_m3 34 rfl) rfl
theorem q661 : (Jvm.Cond.methodLink "ChildSays$Reader" (284 : Nat) ({ cls := "ChildSays$Reader", name := "statement", desc := "()V" } : Jvm.MethodName)) ∈ lw_all := lw_g (lw_at lw_m3 35 rfl) rfl
theorem q662 : (Jvm.Cond.privateMethod ({ cls := "ChildSays$Reader", name := "statement", desc := "()V" } : Jvm.MethodName)) ∈ lw_tbl := lw_at lw_m3 36 rfl
theorem q663 : (Jvm.Cond.instanceMethod ({ cls := "ChildSays$Reader", name := "statement", desc := "()V" } : Jvm.MethodName)) ∈ lw_all := lw_g (lw_at lw_m3 37 rfl) rfl
theorem q664 : (Jvm.Cond.code ({ cls := "ChildSays$Reader", name := "statement", desc := "()V" } : Jvm.MethodName) prog_10_method_25_code (2 : Nat) (Option.none : Option Jvm.ClassFile.FieldType)) ∈ lw_all := lw_g (lw_at lw_m3 38 rfl) rfl
theorem q665 : (Jvm.Cond.classLink "ChildSays$Reader" (54 : Nat) "ChildSays$Fault") ∈ lw_all := lw_g (lw_at lw_m3 39 rfl) rfl
theorem q666 : (Jvm.Cond.instantiable "ChildSays$Fault" (8 : Nat)) ∈ lw_all := lw_g (lw_at lw_m3 40 rfl) rfl
theorem q667 : (Jvm.Cond.castable "ChildSays$Fault" "ChildSays$Fault") ∈ lw_tbl := lw_at lw_m3 41 rfl
theorem q668 : (Jvm.Cond.declares ({ cls := "java/lang/Exception", name := "<init>", desc := "()V" } : Jvm.MethodName)) ∈ lw_tbl := lw_at lw_m3 42 rfl
theorem q669 : (Jvm.Cond.declares ({ cls := "java/lang/Exception", name := "<init>", desc := "(Ljava/lang/String;)V" } : Jvm.MethodName)) ∈ lw_tbl := lw_at lw_m3 43 rfl
theorem q670 : (Jvm.Cond.declares ({ cls := "java/lang/Throwable", name := "<init>", desc := "()V" } : Jvm.MethodName)) ∈ lw_tbl := lw_at lw_m3 44 rfl
theorem q671 : (Jvm.Cond.declares ({ cls := "java/lang/Throwable", name := "<init>", desc := "(Ljava/lang/String;)V" } : Jvm.MethodName)) ∈ lw_tbl := lw_at lw_m3 45 rfl
theorem q672 : (Jvm.Cond.selects "ChildSays$Fault" ({ cls := "java/lang/Throwable", name := "fillInStackTrace", desc := "(I)Ljava/lang/Throwable;" } : Jvm.MethodName) ({ cls := "java/lang/Throwable", name := "fillInStackTrace", desc := "(I)Ljava/lang/Throwable;" } : Jvm.MethodName)) ∈ lw_all := lw_g (lw_at lw_m3 46 rfl) rfl
theorem q673 : (Jvm.Cond.selects "ChildSays$Fault" ({ cls := "java/lang/Throwable", name := "fillInStackTrace", desc := "()Ljava/lang/Throwable;" } : Jvm.MethodName) ({ cls := "java/lang/Throwable", name := "fillInStackTrace", desc := "()Ljava/lang/Throwable;" } : Jvm.MethodName)) ∈ lw_all := lw_g (lw_at lw_m3 47 rfl) rfl
theorem q674 : (Jvm.Cond.lays "ChildSays$Fault" "java/lang/Throwable" "cause" "Ljava/lang/Throwable;") ∈ lw_all := lw_g (lw_at lw_m3 48 rfl) rfl
theorem q675 : (Jvm.Cond.lays "java/lang/Throwable" "java/lang/Throwable" "cause" "Ljava/lang/Throwable;") ∈ lw_all := lw_g (lw_at lw_m3 49 rfl) rfl
theorem q676 : (Jvm.Cond.lays "ChildSays$Fault" "java/lang/Throwable" "stackTrace" "[Ljava/lang/StackTraceElement;") ∈ lw_all := lw_g (lw_at lw_m3 50 rfl) rfl
theorem q677 : (Jvm.Cond.lays "java/lang/Throwable" "java/lang/Throwable" "stackTrace" "[Ljava/lang/StackTraceElement;") ∈ lw_all := lw_g (lw_at lw_m3 51 rfl) rfl
theorem q678 : (Jvm.Cond.lays "ChildSays$Fault" "java/lang/Throwable" "suppressedExceptions" "Ljava/util/List;") ∈ lw_all := lw_g (lw_at lw_m3 52 rfl) rfl
theorem q679 : (Jvm.Cond.lays "java/lang/Throwable" "java/lang/Throwable" "suppressedExceptions" "Ljava/util/List;") ∈ lw_all := lw_g (lw_at lw_m3 53 rfl) rfl
theorem q680 : (Jvm.Cond.lays "ChildSays$Fault" "java/lang/Throwable" "detailMessage" "Ljava/lang/String;") ∈ lw_all := lw_g (lw_at lw_m3 54 rfl) rfl
theorem q681 : (Jvm.Cond.lays "java/lang/Throwable" "java/lang/Throwable" "detailMessage" "Ljava/lang/String;") ∈ lw_all := lw_g (lw_at lw_m3 55 rfl) rfl
theorem q682 : (Jvm.Cond.lays "ChildSays$Fault" "java/lang/Throwable" "backtrace" "Ljava/lang/Object;") ∈ lw_all := lw_g (lw_at lw_m3 56 rfl) rfl
theorem q683 : (Jvm.Cond.lays "java/lang/Throwable" "java/lang/Throwable" "backtrace" "Ljava/lang/Object;") ∈ lw_all := lw_g (lw_at lw_m3 57 rfl) rfl
theorem q684 : (Jvm.Cond.fieldLink "java/lang/Throwable" (198 : Nat) "java/lang/Throwable" "backtrace" "Ljava/lang/Object;") ∈ lw_all := lw_g (lw_at lw_m3 58 rfl) rfl
theorem q685 : (Jvm.Cond.superclass "java/lang/Throwable" "java/lang/Object") ∈ lw_all := lw_g (lw_at lw_m3 59 rfl) rfl
theorem q686 : (Jvm.Cond.instanceMethod ({ cls := "java/lang/Throwable", name := "<init>", desc := "()V" } : Jvm.MethodName)) ∈ lw_all := lw_g (lw_at lw_m3 60 rfl) rfl
theorem q687 : (Jvm.Cond.code ({ cls := "java/lang/Throwable", name := "<init>", desc := "()V" } : Jvm.MethodName) prog_36_method_1_code (1 : Nat) (Option.none : Option Jvm.ClassFile.FieldType)) ∈ lw_all := lw_g (lw_at lw_m3 61 rfl) rfl
theorem q688 : (Jvm.Cond.methodLink "java/lang/Throwable" (1 : Nat) ({ cls := "java/lang/Object", name := "<init>", desc := "()V" } : Jvm.MethodName)) ∈ lw_all := lw_g (lw_at lw_m3 62 rfl) rfl
theorem q689 : (Jvm.Cond.fieldLink "java/lang/Throwable" (13 : Nat) "java/lang/Throwable" "UNASSIGNED_STACK" "[Ljava/lang/StackTraceElement;") ∈ lw_all := lw_g (lw_at lw_m3 63 rfl) rfl
theorem q690 : (Jvm.Cond.laysStatic "java/lang/Throwable" "UNASSIGNED_STACK" "[Ljava/lang/StackTraceElement;") ∈ lw_tbl := lw_at lw_m3 64 rfl
theorem q691 : (Jvm.Cond.fieldLink "java/lang/Throwable" (20 : Nat) "java/lang/Throwable" "SUPPRESSED_SENTINEL" "Ljava/util/List;") ∈ lw_all := lw_g (lw_at lw_m3 65 rfl) rfl
theorem q692 : (Jvm.Cond.laysStatic "java/lang/Throwable" "SUPPRESSED_SENTINEL" "Ljava/util/List;") ∈ lw_tbl := lw_at lw_m3 66 rfl
theorem q693 : (Jvm.Cond.methodLink "java/lang/Throwable" (27 : Nat) ({ cls := "java/lang/Throwable", name := "fillInStackTrace", desc := "()Ljava/lang/Throwable;" } : Jvm.MethodName)) ∈ lw_all := lw_g (lw_at lw_m3 67 rfl) rfl
theorem q694 : (Jvm.Cond.instanceMethod ({ cls := "java/lang/Throwable", name := "fillInStackTrace", desc := "()Ljava/lang/Throwable;" } : Jvm.MethodName)) ∈ lw_all := lw_g (lw_at lw_m3 68 rfl) rfl
theorem q695 : (Jvm.Cond.sameMethod "java/lang/Throwable" "java/lang/Throwable" "fillInStackTrace" "()Ljava/lang/Throwable;") ∈ lw_all := lw_g (lw_at lw_m3 69 rfl) rfl
theorem q696 : (Jvm.Cond.codeSync ({ cls := "java/lang/Throwable", name := "fillInStackTrace", desc := "()Ljava/lang/Throwable;" } : Jvm.MethodName) prog_36_method_18_code (1 : Nat) (Option.some (Jvm.ClassFile.FieldType.object "java/lang/Throwable"))) ∈ lw_all := lw_g (lw_at lw_m3 70 rfl) rfl
theorem q697 : (Jvm.Cond.methodLink "java/lang/Throwable" (202 : Nat) ({ cls := "java/lang/Throwable", name := "fillInStackTrace", desc := "(I)Ljava/lang/Throwable;" } : Jvm.MethodName)) ∈ lw_all := lw_g (lw_at lw_m3 71 rfl) rfl
theorem q698 : (Jvm.Cond.privateMethod ({ cls := "java/lang/Throwable", name := "fillInStackTrace", desc := "(I)Ljava/lang/Throwable;" } : Jvm.MethodName)) ∈ lw_tbl := lw_at lw_m3 72 rfl
theorem q699 : (Jvm.Cond.instanceMethod ({ cls := "java/lang/Throwable", name := "fillInStackTrace", desc := "(I)Ljava/lang/Throwable;" } : Jvm.MethodName)) ∈ lw_all := lw_g (lw_at lw_m3 73 rfl) rfl
theorem q700 : (Jvm.Cond.instantiable "java/lang/Throwable" (6 : Nat)) ∈ lw_all := lw_g (lw_at lw_m3 74 rfl) rfl
theorem q701 : (Jvm.Cond.native ({ cls := "java/lang/Throwable", name := "fillInStackTrace", desc := "(I)Ljava/lang/Throwable;" } : Jvm.MethodName)) ∈ lw_all := lw_g (lw_at lw_m3 75 rfl) rfl
theorem q702 : (Jvm.Cond.methodLink "ChildSays$Reader" (56 : Nat) ({ cls := "ChildSays$Fault", name := "<init>", desc := "(II)V" } : Jvm.MethodName)) ∈ lw_all := lw_g (lw_at lw_m3 76 rfl) rfl
theorem q703 : (Jvm.Cond.instanceMethod ({ cls := "ChildSays$Fault", name := "<init>", desc := "(II)V" } : Jvm.MethodName)) ∈ lw_all := lw_g (lw_at lw_m3 77 rfl) rfl
theorem q704 : (Jvm.Cond.code ({ cls := "ChildSays$Fault", name := "<init>", desc := "(II)V" } : Jvm.MethodName) prog_4_method_1_code (3 : Nat) (Option.none : Option Jvm.ClassFile.FieldType)) ∈ lw_all := lw_g (lw_at lw_m3 78 rfl) rfl
theorem q705 : (Jvm.Cond.methodLink "ChildSays$Fault" (1 : Nat) ({ cls := "java/lang/Exception", name := "<init>", desc := "()V" } : Jvm.MethodName)) ∈ lw_all := lw_g (lw_at lw_m3 79 rfl) rfl
theorem q706 : (Jvm.Cond.instanceMethod ({ cls := "java/lang/Exception", name := "<init>", desc := "()V" } : Jvm.MethodName)) ∈ lw_all := lw_g (lw_at lw_m3 80 rfl) rfl
theorem q707 : (Jvm.Cond.code ({ cls := "java/lang/Exception", name := "<init>", desc := "()V" } : Jvm.MethodName) prog_28_method_1_code (1 : Nat) (Option.none : Option Jvm.ClassFile.FieldType)) ∈ lw_all := lw_g (lw_at lw_m3 81 rfl) rfl
theorem q708 : (Jvm.Cond.methodLink "java/lang/Exception" (1 : Nat) ({ cls := "java/lang/Throwable", name := "<init>", desc := "()V" } : Jvm.MethodName)) ∈ lw_all := lw_g (lw_at lw_m3 82 rfl) rfl
theorem q709 : (Jvm.Cond.fieldLink "ChildSays$Fault" (7 : Nat) "ChildSays$Fault" "kind" "I") ∈ lw_all := lw_g (lw_at lw_m3 83 rfl) rfl
theorem q710 : (Jvm.Cond.fieldLink "ChildSays" (149 : Nat) "ChildSays$Fault" "kind" "I") ∈ lw_all := lw_g (lw_at lw_m3 84 rfl) rfl
theorem q711 : (Jvm.Cond.fieldLink "ChildSays$Fault" (13 : Nat) "ChildSays$Fault" "place" "I") ∈ lw_all := lw_g (lw_at lw_m3 85 rfl) rfl
theorem q712 : (Jvm.Cond.fieldLink "ChildSays" (157 : Nat) "ChildSays$Fault" "place" "I") ∈ lw_all := lw_g (lw_at lw_m3 86 rfl) rfl
theorem q713 : (Jvm.Cond.fieldLink "java/lang/Throwable" (198 : Nat) "java/lang/Throwable" "backtrace" "Ljava/lang/Object;") ∈ lw_all := lw_g (lw_at lw_m3 87 rfl) rfl
theorem q714 : (Jvm.Cond.fieldLink "java/lang/Throwable" (7 : Nat) "java/lang/Throwable" "cause" "Ljava/lang/Throwable;") ∈ lw_all := lw_g (lw_at lw_m3 88 rfl) rfl
theorem q715 : (Jvm.Cond.fieldLink "java/lang/Throwable" (17 : Nat) "java/lang/Throwable" "stackTrace" "[Ljava/lang/StackTraceElement;") ∈ lw_all := lw_g (lw_at lw_m3 89 rfl) rfl
theorem q716 : (Jvm.Cond.fieldLink "java/lang/Throwable" (24 : Nat) "java/lang/Throwable" "suppressedExceptions" "Ljava/util/List;") ∈ lw_all := lw_g (lw_at lw_m3 90 rfl) rfl
theorem q717 : (Jvm.Cond.laysFinal "ChildSays$Fault" "ChildSays$Fault" "kind" "I") ∈ lw_all := lw_g (lw_at lw_m3 91 rfl) rfl
theorem q718 : (Jvm.Cond.soleField "ChildSays$Fault" "kind") ∈ lw_all := lw_g (lw_at lw_m3 92 rfl) rfl
theorem q719 : (Jvm.Cond.laysFinal "ChildSays$Fault" "ChildSays$Fault" "place" "I") ∈ lw_all := lw_g (lw_at lw_m3 93 rfl) rfl
theorem q720 : (Jvm.Cond.soleField "ChildSays$Fault" "place") ∈ lw_all := lw_g (lw_at lw_m3 94 rfl) rfl
theorem q721 : (Jvm.Cond.soleField "java/lang/Throwable" "backtrace") ∈ lw_all := lw_g (lw_at lw_m3 95 rfl) rfl
theorem q722 : (Jvm.Cond.soleField "java/lang/Throwable" "detailMessage") ∈ lw_all := lw_g (lw_at lw_m3 96 rfl) rfl
theorem q723 : (Jvm.Cond.soleField "java/lang/Throwable" "cause") ∈ lw_all := lw_g (lw_at lw_m3 97 rfl) rfl
theorem q724 : (Jvm.Cond.soleField "java/lang/Throwable" "stackTrace") ∈ lw_all := lw_g (lw_at lw_m3 98 rfl) rfl
theorem q725 : (Jvm.Cond.lays "ChildSays$Fault" "java/lang/Throwable" "depth" "I") ∈ lw_all := lw_g (lw_at lw_m3 99 rfl) rfl
theorem q726 : (Jvm.Cond.soleField "java/lang/Throwable" "depth") ∈ lw_all := lw_g (lw_at lw_m3 100 rfl) rfl
theorem q727 : (Jvm.Cond.soleField "java/lang/Throwable" "suppressedExceptions") ∈ lw_all := lw_g (lw_at lw_m3 101 rfl) rfl
theorem q728 : (Jvm.Cond.superclass "ChildSays$Fault" "java/lang/Exception") ∈ lw_all := lw_g (lw_at lw_m3 102 rfl) rfl
theorem q729 : (Jvm.Cond.stringRef "ChildSays$Reader" (250 : Nat) "word") ∈ lw_tbl := lw_at lw_m3 103 rfl
theorem q730 : (Jvm.Cond.methodLink "ChildSays$Reader" (97 : Nat) ({ cls := "ChildSays$Reader", name := "takes", desc := "(Ljava/lang/String;)Z" } : Jvm.MethodName)) ∈ lw_all := lw_g (lw_at lw_m3 104 rfl) rfl
theorem q731 : (Jvm.Cond.privateMethod ({ cls := "ChildSays$Reader", name := "takes", desc := "(Ljava/lang/String;)Z" } : Jvm.MethodName)) ∈ lw_tbl := lw_at lw_m3 105 rfl
theorem q732 : (Jvm.Cond.instanceMethod ({ cls := "ChildSays$Reader", name := "takes", desc := "(Ljava/lang/String;)Z" } : Jvm.MethodName)) ∈ lw_all := lw_g (lw_at lw_m3 106 rfl) rfl
theorem q733 : (Jvm.Cond.code ({ cls := "ChildSays$Reader", name := "takes", desc := "(Ljava/lang/String;)Z" } : Jvm.MethodName) prog_10_method_9_code (2 : Nat) (Option.some Jvm.ClassFile.FieldType.boolean)) ∈ lw_all := lw_g (lw_at lw_m3 107 rfl) rfl
theorem q734 : (Jvm.Cond.methodLink "ChildSays$Reader" (86 : Nat) ({ cls := "ChildSays$Reader", name := "isWord", desc := "(Ljava/lang/String;)Z" } : Jvm.MethodName)) ∈ lw_all := lw_g (lw_at lw_m3 108 rfl) rfl
theorem q735 : (Jvm.Cond.privateMethod ({ cls := "ChildSays$Reader", name := "isWord", desc := "(Ljava/lang/String;)Z" } : Jvm.MethodName)) ∈ lw_tbl := lw_at lw_m3 109 rfl
theorem q736 : (Jvm.Cond.instanceMethod ({ cls := "ChildSays$Reader", name := "isWord", desc := "(Ljava/lang/String;)Z" } : Jvm.MethodName)) ∈ lw_all := lw_g (lw_at lw_m3 110 rfl) rfl
theorem q737 : (Jvm.Cond.code ({ cls := "ChildSays$Reader", name := "isWord", desc := "(Ljava/lang/String;)Z" } : Jvm.MethodName) prog_10_method_7_code (2 : Nat) (Option.some Jvm.ClassFile.FieldType.boolean)) ∈ lw_all := lw_g (lw_at lw_m3 111 rfl) rfl
theorem q738 : (Jvm.Cond.methodLink "ChildSays$Reader" (75 : Nat) ({ cls := "ChildSays$Reader", name := "see", desc := "()I" } : Jvm.MethodName)) ∈ lw_all := lw_g (lw_at lw_m3 112 rfl) rfl
theorem q739 : (Jvm.Cond.privateMethod ({ cls := "ChildSays$Reader", name := "see", desc := "()I" } : Jvm.MethodName)) ∈ lw_tbl := lw_at lw_m3 113 rfl
theorem q740 : (Jvm.Cond.instanceMethod ({ cls := "ChildSays$Reader", name := "see", desc := "()I" } : Jvm.MethodName)) ∈ lw_all := lw_g (lw_at lw_m3 114 rfl) rfl
theorem q741 : (Jvm.Cond.code ({ cls := "ChildSays$Reader", name := "see", desc := "()I" } : Jvm.MethodName) prog_10_method_4_code (4 : Nat) (Option.some Jvm.ClassFile.FieldType.int)) ∈ lw_all := lw_g (lw_at lw_m3 115 rfl) rfl
theorem q742 : (Jvm.Cond.methodLink "ChildSays$Reader" (43 : Nat) ({ cls := "ChildSays$Reader", name := "isLetter", desc := "(C)Z" } : Jvm.MethodName)) ∈ lw_all := lw_g (lw_at lw_m3 116 rfl) rfl
theorem q743 : (Jvm.Cond.privateMethod ({ cls := "ChildSays$Reader", name := "isLetter", desc := "(C)Z" } : Jvm.MethodName)) ∈ lw_tbl := lw_at lw_m3 117 rfl
theorem q744 : (Jvm.Cond.instanceMethod ({ cls := "ChildSays$Reader", name := "isLetter", desc := "(C)Z" } : Jvm.MethodName)) ∈ lw_all := lw_g (lw_at lw_m3 118 rfl) rfl
theorem q745 : (Jvm.Cond.code ({ cls := "ChildSays$Reader", name := "isLetter", desc := "(C)Z" } : Jvm.MethodName) prog_10_method_2_code (2 : Nat) (Option.some Jvm.ClassFile.FieldType.boolean)) ∈ lw_all := lw_g (lw_at lw_m3 119 rfl) rfl
theorem q746 : (Jvm.Cond.methodLink "ChildSays$Reader" (47 : Nat) ({ cls := "ChildSays$Reader", name := "isDigit", desc := "(C)Z" } : Jvm.MethodName)) ∈ lw_all := lw_g (lw_at lw_m3 120 rfl) rfl
theorem q747 : (Jvm.Cond.privateMethod ({ cls := "ChildSays$Reader", name := "isDigit", desc := "(C)Z" } : Jvm.MethodName)) ∈ lw_tbl := lw_at lw_m3 121 rfl
theorem q748 : (Jvm.Cond.instanceMethod ({ cls := "ChildSays$Reader", name := "isDigit", desc := "(C)Z" } : Jvm.MethodName)) ∈ lw_all := lw_g (lw_at lw_m3 122 rfl) rfl
theorem q749 : (Jvm.Cond.code ({ cls := "ChildSays$Reader", name := "isDigit", desc := "(C)Z" } : Jvm.MethodName) prog_10_method_3_code (2 : Nat) (Option.some Jvm.ClassFile.FieldType.boolean)) ∈ lw_all := lw_g (lw_at lw_m3 123 rfl) rfl
theorem q750 : (Jvm.Cond.classLink "ChildSays$Reader" (59 : Nat) "java/lang/String") ∈ lw_all := lw_g (lw_at lw_m3 124 rfl) rfl
theorem q751 : (Jvm.Cond.instantiable "java/lang/String" (4 : Nat)) ∈ lw_all := lw_g (lw_at lw_m3 125 rfl) rfl
theorem q752 : (Jvm.Cond.methodLink "ChildSays$Reader" (61 : Nat) ({ cls := "java/lang/String", name := "<init>", desc := "([CII)V" } : Jvm.MethodName)) ∈ lw_all := lw_g (lw_at lw_m3 126 rfl) rfl
theorem q753 : (Jvm.Cond.instanceMethod ({ cls := "java/lang/String", name := "<init>", desc := "([CII)V" } : Jvm.MethodName)) ∈ lw_all := lw_g (lw_at lw_m3 127 rfl) rfl
theorem q754 : (Jvm.Cond.code ({ cls := "java/lang/String", name := "<init>", desc := "([CII)V" } : Jvm.MethodName) prog_31_method_4_code (4 : Nat) (Option.none : Option Jvm.ClassFile.FieldType)) ∈ lw_all := lw_g (lw_at lw_m3 128 rfl) rfl
theorem q755 : (Jvm.Cond.methodLink "java/lang/String" (30 : Nat) ({ cls := "java/lang/String", name := "rangeCheck", desc := "([CII)Ljava/lang/Void;" } : Jvm.MethodName)) ∈ lw_all := lw_g (lw_at lw_m3 129 rfl) rfl
theorem q756 : (Jvm.Cond.static ({ cls := "java/lang/String", name := "rangeCheck", desc := "([CII)Ljava/lang/Void;" } : Jvm.MethodName)) ∈ lw_all := lw_g (lw_at lw_m3 130 rfl) rfl
theorem q757 : (Jvm.Cond.code ({ cls := "java/lang/String", name := "rangeCheck", desc := "([CII)Ljava/lang/Void;" } : Jvm.MethodName) prog_31_method_5_code (3 : Nat) (Option.some (Jvm.ClassFile.FieldType.object "java/lang/Void"))) ∈ lw_all := lw_g (lw_at lw_m3 131 rfl) rfl
theorem q758 : (Jvm.Cond.methodLink "java/lang/String" (34 : Nat) ({ cls := "java/lang/String", name := "checkBoundsOffCount", desc := "(III)I" } : Jvm.MethodName)) ∈ lw_all := lw_g (lw_at lw_m3 132 rfl) rfl
theorem q759 : (Jvm.Cond.static ({ cls := "java/lang/String", name := "checkBoundsOffCount", desc := "(III)I" } : Jvm.MethodName)) ∈ lw_all := lw_g (lw_at lw_m3 133 rfl) rfl
theorem q760 : (Jvm.Cond.code ({ cls := "java/lang/String", name := "checkBoundsOffCount", desc := "(III)I" } : Jvm.MethodName) prog_31_method_157_code (3 : Nat) (Option.some Jvm.ClassFile.FieldType.int)) ∈ lw_all := lw_g (lw_at lw_m3 134 rfl) rfl
theorem q761 : (Jvm.Cond.fieldLink "java/lang/String" (1053 : Nat) "jdk/internal/util/Preconditions" "SIOOBE_FORMATTER" "Ljava/util/function/BiFunction;") ∈ lw_all := lw_g (lw_at lw_m3 135 rfl) rfl
theorem q762 : (Jvm.Cond.laysStatic "jdk/internal/util/Preconditions" "SIOOBE_FORMATTER" "Ljava/util/function/BiFunction;") ∈ lw_tbl := lw_at lw_m3 136 rfl
theorem q763 : (Jvm.Cond.methodLink "java/lang/String" (1065 : Nat) ({ cls := "jdk/internal/util/Preconditions", name := "checkFromIndexSize", desc := "(IIILjava/util/function/BiFunction;)I" } : Jvm.MethodName)) ∈ lw_all := lw_g (lw_at lw_m3 137 rfl) rfl
theorem q764 : (Jvm.Cond.static ({ cls := "jdk/internal/util/Preconditions", name := "checkFromIndexSize", desc := "(IIILjava/util/function/BiFunction;)I" } : Jvm.MethodName)) ∈ lw_all := lw_g (lw_at lw_m3 138 rfl) rfl
theorem q765 : (Jvm.Cond.code ({ cls := "jdk/internal/util/Preconditions", name := "checkFromIndexSize", desc := "(IIILjava/util/function/BiFunction;)I" } : Jvm.MethodName) prog_49_method_13_code (4 : Nat) (Option.some Jvm.ClassFile.FieldType.int)) ∈ lw_all := lw_g (lw_at lw_m3 139 rfl) rfl
theorem q766 : (Jvm.Cond.methodLink "java/lang/String" (27 : Nat) ({ cls := "java/lang/String", name := "<init>", desc := "([CIILjava/lang/Void;)V" } : Jvm.MethodName)) ∈ lw_all := lw_g (lw_at lw_m3 140 rfl) rfl
theorem q767 : (Jvm.Cond.instanceMethod ({ cls := "java/lang/String", name := "<init>", desc := "([CIILjava/lang/Void;)V" } : Jvm.MethodName)) ∈ lw_all := lw_g (lw_at lw_m3 141 rfl) rfl
theorem q768 : (Jvm.Cond.code ({ cls := "java/lang/String", name := "<init>", desc := "([CIILjava/lang/Void;)V" } : Jvm.MethodName) prog_31_method_149_code (6 : Nat) (Option.none : Option Jvm.ClassFile.FieldType)) ∈ lw_all := lw_g (lw_at lw_m3 142 rfl) rfl
theorem q769 : (Jvm.Cond.methodLink "java/lang/String" (1 : Nat) ({ cls := "java/lang/Object", name := "<init>", desc := "()V" } : Jvm.MethodName)) ∈ lw_all := lw_g (lw_at lw_m3 143 rfl) rfl
theorem q770 : (Jvm.Cond.stringRef "java/lang/String" (7 : Nat) "") ∈ lw_tbl := lw_at lw_m3 144 rfl
theorem q771 : (Jvm.Cond.fieldLink "java/lang/String" (38 : Nat) "java/lang/String" "COMPACT_STRINGS" "Z") ∈ lw_all := lw_g (lw_at lw_m3 145 rfl) rfl
theorem q772 : (Jvm.Cond.methodLink "java/lang/String" (177 : Nat) ({ cls := "java/lang/StringUTF16", name := "compress", desc := "([CII)[B" } : Jvm.MethodName)) ∈ lw_all := lw_g (lw_at lw_m3 146 rfl) rfl
theorem q773 : (Jvm.Cond.static ({ cls := "java/lang/StringUTF16", name := "compress", desc := "([CII)[B" } : Jvm.MethodName)) ∈ lw_all := lw_g (lw_at lw_m3 147 rfl) rfl
theorem q774 : (Jvm.Cond.code ({ cls := "java/lang/StringUTF16", name := "compress", desc := "([CII)[B" } : Jvm.MethodName) prog_34_method_16_code (6 : Nat) (Option.some (Jvm.ClassFile.FieldType.array Jvm.ClassFile.FieldType.byte))) ∈ lw_all := lw_g (lw_at lw_m3 148 rfl) rfl
theorem q775 : (Jvm.Cond.methodLink "java/lang/StringUTF16" (115 : Nat) ({ cls := "java/lang/StringUTF16", name := "compress", desc := "([CI[BII)I" } : Jvm.MethodName)) ∈ lw_all := lw_g (lw_at lw_m3 149 rfl) rfl
theorem q776 : (Jvm.Cond.static ({ cls := "java/lang/StringUTF16", name := "compress", desc := "([CI[BII)I" } : Jvm.MethodName)) ∈ lw_all := lw_g (lw_at lw_m3 150 rfl) rfl
theorem q777 : (Jvm.Cond.code ({ cls := "java/lang/StringUTF16", name := "compress", desc := "([CI[BII)I" } : Jvm.MethodName) prog_34_method_21_code (7 : Nat) (Option.some Jvm.ClassFile.FieldType.int)) ∈ lw_all := lw_g (lw_at lw_m3 151 rfl) rfl
theorem q778 : (Jvm.Cond.methodLink "java/lang/StringUTF16" (119 : Nat) ({ cls := "java/lang/StringUTF16", name := "toBytes", desc := "([CII)[B" } : Jvm.MethodName)) ∈ lw_all := lw_g (lw_at lw_m3 152 rfl) rfl
theorem q779 : (Jvm.Cond.static ({ cls := "java/lang/StringUTF16", name := "toBytes", desc := "([CII)[B" } : Jvm.MethodName)) ∈ lw_all := lw_g (lw_at lw_m3 153 rfl) rfl
theorem q780 : (Jvm.Cond.code ({ cls := "java/lang/StringUTF16", name := "toBytes", desc := "([CII)[B" } : Jvm.MethodName) prog_34_method_14_code (5 : Nat) (Option.some (Jvm.ClassFile.FieldType.array Jvm.ClassFile.FieldType.byte))) ∈ lw_all := lw_g (lw_at lw_m3 154 rfl) rfl
theorem q781 : (Jvm.Cond.methodLink "java/lang/StringUTF16" (107 : Nat) ({ cls := "java/lang/StringUTF16", name := "newBytesFor", desc := "(I)[B" } : Jvm.MethodName)) ∈ lw_all := lw_g (lw_at lw_m3 155 rfl) rfl
theorem q782 : (Jvm.Cond.methodLink "java/lang/StringUTF16" (111 : Nat) ({ cls := "java/lang/StringUTF16", name := "putChar", desc := "([BII)V" } : Jvm.MethodName)) ∈ lw_all := lw_g (lw_at lw_m3 156 rfl) rfl
theorem q783 : (Jvm.Cond.static ({ cls := "java/lang/StringUTF16", name := "putChar", desc := "([BII)V" } : Jvm.MethodName)) ∈ lw_all := lw_g (lw_at lw_m3 157 rfl) rfl
theorem q784 : (Jvm.Cond.code ({ cls := "java/lang/StringUTF16", name := "putChar", desc := "([BII)V" } : Jvm.MethodName) prog_34_method_4_code (3 : Nat) (Option.none : Option Jvm.ClassFile.FieldType)) ∈ lw_all := lw_g (lw_at lw_m3 158 rfl) rfl
theorem q785 : (Jvm.Cond.fieldLink "java/lang/StringUTF16" (44 : Nat) "java/lang/StringUTF16" "$assertionsDisabled" "Z") ∈ lw_all := lw_g (lw_at lw_m3 159 rfl) rfl
theorem q786 : (Jvm.Cond.laysStatic "java/lang/StringUTF16" "$assertionsDisabled" "Z") ∈ lw_tbl := lw_at lw_m3 160 rfl
theorem q787 : (Jvm.Cond.methodLink "java/lang/StringUTF16" (48 : Nat) ({ cls := "java/lang/StringUTF16", name := "length", desc := "([B)I" } : Jvm.MethodName)) ∈ lw_all := lw_g (lw_at lw_m3 161 rfl) rfl
theorem q788 : (Jvm.Cond.static ({ cls := "java/lang/StringUTF16", name := "length", desc := "([B)I" } : Jvm.MethodName)) ∈ lw_all := lw_g (lw_at lw_m3 162 rfl) rfl
theorem q789 : (Jvm.Cond.code ({ cls := "java/lang/StringUTF16", name := "length", desc := "([B)I" } : Jvm.MethodName) prog_34_method_6_code (1 : Nat) (Option.some Jvm.ClassFile.FieldType.int)) ∈ lw_all := lw_g (lw_at lw_m3 163 rfl) rfl
theorem q790 : (Jvm.Cond.fieldLink "java/lang/StringUTF16" (59 : Nat) "java/lang/StringUTF16" "HI_BYTE_SHIFT" "I") ∈ lw_all := lw_g (lw_at lw_m3 164 rfl) rfl
theorem q791 : (Jvm.Cond.laysStatic "java/lang/StringUTF16" "HI_BYTE_SHIFT" "I") ∈ lw_tbl := lw_at lw_m3 165 rfl
theorem q792 : (Jvm.Cond.fieldLink "java/lang/StringUTF16" (63 : Nat) "java/lang/StringUTF16" "LO_BYTE_SHIFT" "I") ∈ lw_all := lw_g (lw_at lw_m3 166 rfl) rfl
theorem q793 : (Jvm.Cond.laysStatic "java/lang/StringUTF16" "LO_BYTE_SHIFT" "I") ∈ lw_tbl := lw_at lw_m3 167 rfl
theorem q794 : (Jvm.Cond.methodLink "java/lang/StringUTF16" (71 : Nat) ({ cls := "java/lang/StringUTF16", name := "getChar", desc := "([BI)C" } : Jvm.MethodName)) ∈ lw_all := lw_g (lw_at lw_m3 168 rfl) rfl
theorem q795 : (Jvm.Cond.static ({ cls := "java/lang/StringUTF16", name := "getChar", desc := "([BI)C" } : Jvm.MethodName)) ∈ lw_all := lw_g (lw_at lw_m3 169 rfl) rfl
theorem q796 : (Jvm.Cond.code ({ cls := "java/lang/StringUTF16", name := "getChar", desc := "([BI)C" } : Jvm.MethodName) prog_34_method_5_code (2 : Nat) (Option.some Jvm.ClassFile.FieldType.char)) ∈ lw_all := lw_g (lw_at lw_m3 170 rfl) rfl
theorem q797 : (Jvm.Cond.methodLink "java/lang/StringUTF16" (123 : Nat) ({ cls := "java/lang/StringUTF16", name := "compress", desc := "([BI[BII)I" } : Jvm.MethodName)) ∈ lw_all := lw_g (lw_at lw_m3 171 rfl) rfl
theorem q798 : (Jvm.Cond.static ({ cls := "java/lang/StringUTF16", name := "compress", desc := "([BI[BII)I" } : Jvm.MethodName)) ∈ lw_all := lw_g (lw_at lw_m3 172 rfl) rfl
theorem q799 : (Jvm.Cond.code ({ cls := "java/lang/StringUTF16", name := "compress", desc := "([BI[BII)I" } : Jvm.MethodName) prog_34_method_22_code (7 : Nat) (Option.some Jvm.ClassFile.FieldType.int)) ∈ lw_all := lw_g (lw_at lw_m3 173 rfl) rfl
theorem q800 : (Jvm.Cond.methodLink "java/lang/StringUTF16" (173 : Nat) ({ cls := "java/lang/StringUTF16", name := "checkBoundsOffCount", desc := "(II[B)V" } : Jvm.MethodName)) ∈ lw_all := lw_g (lw_at lw_m3 174 rfl) rfl
theorem q801 : (Jvm.Cond.static ({ cls := "java/lang/StringUTF16", name := "checkBoundsOffCount", desc := "(II[B)V" } : Jvm.MethodName)) ∈ lw_all := lw_g (lw_at lw_m3 175 rfl) rfl
theorem q802 : (Jvm.Cond.code ({ cls := "java/lang/StringUTF16", name := "checkBoundsOffCount", desc := "(II[B)V" } : Jvm.MethodName) prog_34_method_94_code (3 : Nat) (Option.none : Option Jvm.ClassFile.FieldType)) ∈ lw_all := lw_g (lw_at lw_m3 176 rfl) rfl
theorem q803 : (Jvm.Cond.methodLink "java/lang/StringUTF16" (419 : Nat) ({ cls := "java/lang/String", name := "checkBoundsOffCount", desc := "(III)I" } : Jvm.MethodName)) ∈ lw_all := lw_g (lw_at lw_m3 177 rfl) rfl
theorem q804 : (Jvm.Cond.methodLink "java/lang/String" (47 : Nat) ({ cls := "java/lang/StringUTF16", name := "coderFromArrayLen", desc := "([BI)B" } : Jvm.MethodName)) ∈ lw_all := lw_g (lw_at lw_m3 178 rfl) rfl
theorem q805 : (Jvm.Cond.static ({ cls := "java/lang/StringUTF16", name := "coderFromArrayLen", desc := "([BI)B" } : Jvm.MethodName)) ∈ lw_all := lw_g (lw_at lw_m3 179 rfl) rfl
theorem q806 : (Jvm.Cond.code ({ cls := "java/lang/StringUTF16", name := "coderFromArrayLen", desc := "([BI)B" } : Jvm.MethodName) prog_34_method_15_code (2 : Nat) (Option.some Jvm.ClassFile.FieldType.byte)) ∈ lw_all := lw_g (lw_at lw_m3 180 rfl) rfl
theorem q807 : (Jvm.Cond.methodLink "java/lang/String" (180 : Nat) ({ cls := "java/lang/StringUTF16", name := "toBytes", desc := "([CII)[B" } : Jvm.MethodName)) ∈ lw_all := lw_g (lw_at lw_m3 181 rfl) rfl
theorem q808 : (Jvm.Cond.fieldLink "java/lang/String" (9 : Nat) "java/lang/String" "value" "[B") ∈ lw_all := lw_g (lw_at lw_m3 182 rfl) rfl
theorem q809 : (Jvm.Cond.fieldLink "java/lang/String" (15 : Nat) "java/lang/String" "coder" "B") ∈ lw_all := lw_g (lw_at lw_m3 183 rfl) rfl
theorem q810 : (Jvm.Cond.laysFinal "java/lang/String" "java/lang/String" "value" "[B") ∈ lw_all := lw_g (lw_at lw_m3 184 rfl) rfl
theorem q811 : (Jvm.Cond.soleField "java/lang/String" "value") ∈ lw_all := lw_g (lw_at lw_m3 185 rfl) rfl
theorem q812 : (Jvm.Cond.laysFinal "java/lang/String" "java/lang/String" "coder" "B") ∈ lw_all := lw_g (lw_at lw_m3 186 rfl) rfl
theorem q813 : (Jvm.Cond.soleField "java/lang/String" "coder") ∈ lw_all := lw_g (lw_at lw_m3 187 rfl) rfl
theorem q814 : (Jvm.Cond.lays "java/lang/String" "java/lang/String" "hash" "I") ∈ lw_all := lw_g (lw_at lw_m3 188 rfl) rfl
theorem q815 : (Jvm.Cond.soleField "java/lang/String" "hash") ∈ lw_all := lw_g (lw_at lw_m3 189 rfl) rfl
theorem q816 : (Jvm.Cond.lays "java/lang/String" "java/lang/String" "hashIsZero" "Z") ∈ lw_all := lw_g (lw_at lw_m3 190 rfl) rfl
theorem q817 : (Jvm.Cond.soleField "java/lang/String" "hashIsZero") ∈ lw_all := lw_g (lw_at lw_m3 191 rfl) rfl
theorem q818 : (Jvm.Cond.superclass "java/lang/String" "java/lang/Object") ∈ lw_all := lw_g (lw_at lw_m3 192 rfl) rfl
theorem q819 : (Jvm.Cond.methodLinkNest "ChildSays$Reader" (68 : Nat) ({ cls := "ChildSays", name := "digitsOf", desc := "(Ljava/lang/String;)I" } : Jvm.MethodName) "ChildSays") ∈ lw_tbl := lw_at lw_m3 193 rfl
theorem q820 : (Jvm.Cond.static ({ cls := "ChildSays", name := "digitsOf", desc := "(Ljava/lang/String;)I" } : Jvm.MethodName)) ∈ lw_all := lw_g (lw_at lw_m3 194 rfl) rfl
theorem q821 : (Jvm.Cond.code ({ cls := "ChildSays", name := "digitsOf", desc := "(Ljava/lang/String;)I" } : Jvm.MethodName) prog_1_method_11_code (3 : Nat) (Option.some Jvm.ClassFile.FieldType.int)) ∈ lw_all := lw_g (lw_at lw_m3 195 rfl) rfl
theorem q822 : (Jvm.Cond.methodLink "ChildSays" (142 : Nat) ({ cls := "java/lang/String", name := "length", desc := "()I" } : Jvm.MethodName)) ∈ lw_all := lw_g (lw_at lw_m3 196 rfl) rfl
theorem q823 : (Jvm.Cond.instanceMethod ({ cls := "java/lang/String", name := "length", desc := "()I" } : Jvm.MethodName)) ∈ lw_all := lw_g (lw_at lw_m3 197 rfl) rfl
theorem q824 : (Jvm.Cond.selects "java/lang/String" ({ cls := "java/lang/String", name := "length", desc := "()I" } : Jvm.MethodName) ({ cls := "java/lang/String", name := "length", desc := "()I" } : Jvm.MethodName)) ∈ lw_all := lw_g (lw_at lw_m3 198 rfl) rfl
theorem q825 : (Jvm.Cond.code ({ cls := "java/lang/String", name := "length", desc := "()I" } : Jvm.MethodName) prog_31_method_54_code (1 : Nat) (Option.some Jvm.ClassFile.FieldType.int)) ∈ lw_all := lw_g (lw_at lw_m3 199 rfl) rfl
theorem q826 : (Jvm.Cond.methodLink "java/lang/String" (335 : Nat) ({ cls := "java/lang/String", name := "coder", desc := "()B" } : Jvm.MethodName)) ∈ lw_all := lw_g (lw_at lw_m3 200 rfl) rfl
theorem q827 : (Jvm.Cond.instanceMethod ({ cls := "java/lang/String", name := "coder", desc := "()B" } : Jvm.MethodName)) ∈ lw_all := lw_g (lw_at lw_m3 201 rfl) rfl
theorem q828 : (Jvm.Cond.selects "java/lang/String" ({ cls := "java/lang/String", name := "coder", desc := "()B" } : Jvm.MethodName) ({ cls := "java/lang/String", name := "coder", desc := "()B" } : Jvm.MethodName)) ∈ lw_all := lw_g (lw_at lw_m3 202 rfl) rfl
theorem q829 : (Jvm.Cond.code ({ cls := "java/lang/String", name := "coder", desc := "()B" } : Jvm.MethodName) prog_31_method_152_code (1 : Nat) (Option.some Jvm.ClassFile.FieldType.byte)) ∈ lw_all := lw_g (lw_at lw_m3 203 rfl) rfl
theorem q830 : (Jvm.Cond.methodLink "ChildSays" (145 : Nat) ({ cls := "java/lang/String", name := "charAt", desc := "(I)C" } : Jvm.MethodName)) ∈ lw_all := lw_g (lw_at lw_m3 204 rfl) rfl
theorem q831 : (Jvm.Cond.instanceMethod ({ cls := "java/lang/String", name := "charAt", desc := "(I)C" } : Jvm.MethodName)) ∈ lw_all := lw_g (lw_at lw_m3 205 rfl) rfl
theorem q832 : (Jvm.Cond.selects "java/lang/String" ({ cls := "java/lang/String", name := "charAt", desc := "(I)C" } : Jvm.MethodName) ({ cls := "java/lang/String", name := "charAt", desc := "(I)C" } : Jvm.MethodName)) ∈ lw_all := lw_g (lw_at lw_m3 206 rfl) rfl
theorem q833 : (Jvm.Cond.code ({ cls := "java/lang/String", name := "charAt", desc := "(I)C" } : Jvm.MethodName) prog_31_method_56_code (2 : Nat) (Option.some Jvm.ClassFile.FieldType.char)) ∈ lw_all := lw_g (lw_at lw_m3 207 rfl) rfl
theorem q834 : (Jvm.Cond.methodLink "java/lang/String" (492 : Nat) ({ cls := "java/lang/String", name := "isLatin1", desc := "()Z" } : Jvm.MethodName)) ∈ lw_all := lw_g (lw_at lw_m3 208 rfl) rfl
theorem q835 : (Jvm.Cond.instanceMethod ({ cls := "java/lang/String", name := "isLatin1", desc := "()Z" } : Jvm.MethodName)) ∈ lw_all := lw_g (lw_at lw_m3 209 rfl) rfl
theorem q836 : (Jvm.Cond.selects "java/lang/String" ({ cls := "java/lang/String", name := "isLatin1", desc := "()Z" } : Jvm.MethodName) ({ cls := "java/lang/String", name := "isLatin1", desc := "()Z" } : Jvm.MethodName)) ∈ lw_all := lw_g (lw_at lw_m3 210 rfl) rfl
theorem q837 : (Jvm.Cond.code ({ cls := "java/lang/String", name := "isLatin1", desc := "()Z" } : Jvm.MethodName) prog_31_method_154_code (1 : Nat) (Option.some Jvm.ClassFile.FieldType.boolean)) ∈ lw_all := lw_g (lw_at lw_m3 211 rfl) rfl
theorem q838 : (Jvm.Cond.methodLink "java/lang/String" (495 : Nat) ({ cls := "java/lang/StringLatin1", name := "charAt", desc := "([BI)C" } : Jvm.MethodName)) ∈ lw_all := lw_g (lw_at lw_m3 212 rfl) rfl
theorem q839 : (Jvm.Cond.static ({ cls := "java/lang/StringLatin1", name := "charAt", desc := "([BI)C" } : Jvm.MethodName)) ∈ lw_all := lw_g (lw_at lw_m3 213 rfl) rfl
theorem q840 : (Jvm.Cond.code ({ cls := "java/lang/StringLatin1", name := "charAt", desc := "([BI)C" } : Jvm.MethodName) prog_33_method_2_code (2 : Nat) (Option.some Jvm.ClassFile.FieldType.char)) ∈ lw_all := lw_g (lw_at lw_m3 214 rfl) rfl
theorem q841 : (Jvm.Cond.methodLink "java/lang/StringLatin1" (9 : Nat) ({ cls := "java/lang/String", name := "checkIndex", desc := "(II)V" } : Jvm.MethodName)) ∈ lw_all := lw_g (lw_at lw_m3 215 rfl) rfl
theorem q842 : (Jvm.Cond.static ({ cls := "java/lang/String", name := "checkIndex", desc := "(II)V" } : Jvm.MethodName)) ∈ lw_all := lw_g (lw_at lw_m3 216 rfl) rfl
theorem q843 : (Jvm.Cond.code ({ cls := "java/lang/String", name := "checkIndex", desc := "(II)V" } : Jvm.MethodName) prog_31_method_155_code (2 : Nat) (Option.none : Option Jvm.ClassFile.FieldType)) ∈ lw_all := lw_g (lw_at lw_m3 217 rfl) rfl
theorem q844 : (Jvm.Cond.methodLink "java/lang/String" (1059 : Nat) ({ cls := "jdk/internal/util/Preconditions", name := "checkIndex", desc := "(IILjava/util/function/BiFunction;)I" } : Jvm.MethodName)) ∈ lw_all := lw_g (lw_at lw_m3 218 rfl) rfl
theorem q845 : (Jvm.Cond.static ({ cls := "jdk/internal/util/Preconditions", name := "checkIndex", desc := "(IILjava/util/function/BiFunction;)I" } : Jvm.MethodName)) ∈ lw_all := lw_g (lw_at lw_m3 219 rfl) rfl
theorem q846 : (Jvm.Cond.code ({ cls := "jdk/internal/util/Preconditions", name := "checkIndex", desc := "(IILjava/util/function/BiFunction;)I" } : Jvm.MethodName) prog_49_method_11_code (3 : Nat) (Option.some Jvm.ClassFile.FieldType.int)) ∈ lw_all := lw_g (lw_at lw_m3 220 rfl) rfl
theorem q847 : (Jvm.Cond.methodLink "java/lang/String" (498 : Nat) ({ cls := "java/lang/StringUTF16", name := "charAt", desc := "([BI)C" } : Jvm.MethodName)) ∈ lw_all := lw_g (lw_at lw_m3 221 rfl) rfl
theorem q848 : (Jvm.Cond.static ({ cls := "java/lang/StringUTF16", name := "charAt", desc := "([BI)C" } : Jvm.MethodName)) ∈ lw_all := lw_g (lw_at lw_m3 222 rfl) rfl
theorem q849 : (Jvm.Cond.code ({ cls := "java/lang/StringUTF16", name := "charAt", desc := "([BI)C" } : Jvm.MethodName) prog_34_method_83_code (2 : Nat) (Option.some Jvm.ClassFile.FieldType.char)) ∈ lw_all := lw_g (lw_at lw_m3 223 rfl) rfl
theorem q850 : (Jvm.Cond.methodLink "java/lang/StringUTF16" (67 : Nat) ({ cls := "java/lang/StringUTF16", name := "checkIndex", desc := "(I[B)V" } : Jvm.MethodName)) ∈ lw_all := lw_g (lw_at lw_m3 224 rfl) rfl
theorem q851 : (Jvm.Cond.static ({ cls := "java/lang/StringUTF16", name := "checkIndex", desc := "(I[B)V" } : Jvm.MethodName)) ∈ lw_all := lw_g (lw_at lw_m3 225 rfl) rfl
theorem q852 : (Jvm.Cond.code ({ cls := "java/lang/StringUTF16", name := "checkIndex", desc := "(I[B)V" } : Jvm.MethodName) prog_34_method_91_code (2 : Nat) (Option.none : Option Jvm.ClassFile.FieldType)) ∈ lw_all := lw_g (lw_at lw_m3 226 rfl) rfl
theorem q853 : (Jvm.Cond.methodLink "java/lang/StringUTF16" (414 : Nat) ({ cls := "java/lang/String", name := "checkIndex", desc := "(II)V" } : Jvm.MethodName)) ∈ lw_all := lw_g (lw_at lw_m3 227 rfl) rfl
theorem q854 : (Jvm.Cond.methodLink "ChildSays$Reader" (79 : Nat) ({ cls := "java/lang/String", name := "equals", desc := "(Ljava/lang/Object;)Z" } : Jvm.MethodName)) ∈ lw_all := lw_g (lw_at lw_m3 228 rfl) rfl
theorem q855 : (Jvm.Cond.instanceMethod ({ cls := "java/lang/String", name := "equals", desc := "(Ljava/lang/Object;)Z" } : Jvm.MethodName)) ∈ lw_all := lw_g (lw_at lw_m3 229 rfl) rfl
theorem q856 : (Jvm.Cond.selects "java/lang/String" ({ cls := "java/lang/String", name := "equals", desc := "(Ljava/lang/Object;)Z" } : Jvm.MethodName) ({ cls := "java/lang/String", name := "equals", desc := "(Ljava/lang/Object;)Z" } : Jvm.MethodName)) ∈ lw_all := lw_g (lw_at lw_m3 230 rfl) rfl
theorem q857 : (Jvm.Cond.code ({ cls := "java/lang/String", name := "equals", desc := "(Ljava/lang/Object;)Z" } : Jvm.MethodName) prog_31_method_66_code (3 : Nat) (Option.some Jvm.ClassFile.FieldType.boolean)) ∈ lw_all := lw_g (lw_at lw_m3 231 rfl) rfl
theorem q858 : (Jvm.Cond.classLink "java/lang/String" (10 : Nat) "java/lang/String") ∈ lw_all := lw_g (lw_at lw_m3 232 rfl) rfl
theorem q859 : (Jvm.Cond.methodLink "java/lang/String" (541 : Nat) ({ cls := "java/lang/StringLatin1", name := "equals", desc := "([B[B)Z" } : Jvm.MethodName)) ∈ lw_all := lw_g (lw_at lw_m3 233 rfl) rfl
theorem q860 : (Jvm.Cond.static ({ cls := "java/lang/StringLatin1", name := "equals", desc := "([B[B)Z" } : Jvm.MethodName)) ∈ lw_all := lw_g (lw_at lw_m3 234 rfl) rfl
theorem q861 : (Jvm.Cond.code ({ cls := "java/lang/StringLatin1", name := "equals", desc := "([B[B)Z" } : Jvm.MethodName) prog_33_method_13_code (3 : Nat) (Option.some Jvm.ClassFile.FieldType.boolean)) ∈ lw_all := lw_g (lw_at lw_m3 235 rfl) rfl
theorem q862 : (Jvm.Cond.methodLink "ChildSays$Reader" (251 : Nat) ({ cls := "ChildSays$Reader", name := "word", desc := "(I)V" } : Jvm.MethodName)) ∈ lw_all := lw_g (lw_at lw_m3 236 rfl) rfl
theorem q863 : (Jvm.Cond.privateMethod ({ cls := "ChildSays$Reader", name := "word", desc := "(I)V" } : Jvm.MethodName)) ∈ lw_tbl := lw_at lw_m3 237 rfl
theorem q864 : (Jvm.Cond.instanceMethod ({ cls := "ChildSays$Reader", name := "word", desc := "(I)V" } : Jvm.MethodName)) ∈ lw_all := lw_g (lw_at lw_m3 238 rfl) rfl
theorem q865 : (Jvm.Cond.code ({ cls := "ChildSays$Reader", name := "word", desc := "(I)V" } : Jvm.MethodName) prog_10_method_17_code (3 : Nat) (Option.none : Option Jvm.ClassFile.FieldType)) ∈ lw_all := lw_g (lw_at lw_m3 239 rfl) rfl
theorem q866 : (Jvm.Cond.methodLink "ChildSays$Reader" (123 : Nat) ({ cls := "java/util/ArrayList", name := "size", desc := "()I" } : Jvm.MethodName)) ∈ lw_all := lw_g (lw_at lw_m4 0 rfl) rfl
theorem q867 : (Jvm.Cond.instanceMethod ({ cls := "java/util/ArrayList", name := "size", desc := "()I" } : Jvm.MethodName)) ∈ lw_all := lw_g (lw_at lw_m4 1 rfl) rfl
theorem q868 : (Jvm.Cond.selects "java/util/ArrayList" ({ cls := "java/util/ArrayList", name := "size", desc := "()I" } : Jvm.MethodName) ({ cls := "java/util/ArrayList", name := "size", desc := "()I" } : Jvm.MethodName)) ∈ lw_all := lw_g (lw_at lw_m4 2 rfl) rfl
theorem q869 : (Jvm.Cond.code ({ cls := "java/util/ArrayList", name := "size", desc := "()I" } : Jvm.MethodName) prog_41_method_8_code (1 : Nat) (Option.some Jvm.ClassFile.FieldType.int)) ∈ lw_all := lw_g (lw_at lw_m4 3 rfl) rfl
theorem q870 : (Jvm.Cond.methodLink "ChildSays$Reader" (127 : Nat) ({ cls := "ChildSays$Reader", name := "space", desc := "(III)V" } : Jvm.MethodName)) ∈ lw_all := lw_g (lw_at lw_m4 4 rfl) rfl
theorem q871 : (Jvm.Cond.privateMethod ({ cls := "ChildSays$Reader", name := "space", desc := "(III)V" } : Jvm.MethodName)) ∈ lw_tbl := lw_at lw_m4 5 rfl
theorem q872 : (Jvm.Cond.instanceMethod ({ cls := "ChildSays$Reader", name := "space", desc := "(III)V" } : Jvm.MethodName)) ∈ lw_all := lw_g (lw_at lw_m4 6 rfl) rfl
theorem q873 : (Jvm.Cond.code ({ cls := "ChildSays$Reader", name := "space", desc := "(III)V" } : Jvm.MethodName) prog_10_method_15_code (4 : Nat) (Option.none : Option Jvm.ClassFile.FieldType)) ∈ lw_all := lw_g (lw_at lw_m4 7 rfl) rfl
theorem q874 : (Jvm.Cond.classLink "ChildSays$Reader" (131 : Nat) "ChildSays$Word") ∈ lw_all := lw_g (lw_at lw_m4 8 rfl) rfl
theorem q875 : (Jvm.Cond.instantiable "ChildSays$Word" (7 : Nat)) ∈ lw_all := lw_g (lw_at lw_m4 9 rfl) rfl
theorem q876 : (Jvm.Cond.methodLink "ChildSays$Reader" (133 : Nat) ({ cls := "ChildSays$Reader", name := "newName", desc := "()Ljava/lang/String;" } : Jvm.MethodName)) ∈ lw_all := lw_g (lw_at lw_m4 10 rfl) rfl
theorem q877 : (Jvm.Cond.privateMethod ({ cls := "ChildSays$Reader", name := "newName", desc := "()Ljava/lang/String;" } : Jvm.MethodName)) ∈ lw_tbl := lw_at lw_m4 11 rfl
theorem q878 : (Jvm.Cond.instanceMethod ({ cls := "ChildSays$Reader", name := "newName", desc := "()Ljava/lang/String;" } : Jvm.MethodName)) ∈ lw_all := lw_g (lw_at lw_m4 12 rfl) rfl
theorem q879 : (Jvm.Cond.code ({ cls := "ChildSays$Reader", name := "newName", desc := "()Ljava/lang/String;" } : Jvm.MethodName) prog_10_method_14_code (2 : Nat) (Option.some (Jvm.ClassFile.FieldType.object "java/lang/String"))) ∈ lw_all := lw_g (lw_at lw_m4 13 rfl) rfl
theorem q880 : (Jvm.Cond.methodLink "ChildSays$Reader" (106 : Nat) ({ cls := "ChildSays$Reader", name := "name", desc := "()Ljava/lang/String;" } : Jvm.MethodName)) ∈ lw_all := lw_g (lw_at lw_m4 14 rfl) rfl
theorem q881 : (Jvm.Cond.privateMethod ({ cls := "ChildSays$Reader", name := "name", desc := "()Ljava/lang/String;" } : Jvm.MethodName)) ∈ lw_tbl := lw_at lw_m4 15 rfl
theorem q882 : (Jvm.Cond.instanceMethod ({ cls := "ChildSays$Reader", name := "name", desc := "()Ljava/lang/String;" } : Jvm.MethodName)) ∈ lw_all := lw_g (lw_at lw_m4 16 rfl) rfl
theorem q883 : (Jvm.Cond.code ({ cls := "ChildSays$Reader", name := "name", desc := "()Ljava/lang/String;" } : Jvm.MethodName) prog_10_method_13_code (1 : Nat) (Option.some (Jvm.ClassFile.FieldType.object "java/lang/String"))) ∈ lw_all := lw_g (lw_at lw_m4 17 rfl) rfl
theorem q884 : (Jvm.Cond.methodLinkNest "ChildSays$Reader" (103 : Nat) ({ cls := "ChildSays", name := "isOwn", desc := "(Ljava/lang/String;)Z" } : Jvm.MethodName) "ChildSays") ∈ lw_tbl := lw_at lw_m4 18 rfl
theorem q885 : (Jvm.Cond.static ({ cls := "ChildSays", name := "isOwn", desc := "(Ljava/lang/String;)Z" } : Jvm.MethodName)) ∈ lw_all := lw_g (lw_at lw_m4 19 rfl) rfl
theorem q886 : (Jvm.Cond.code ({ cls := "ChildSays", name := "isOwn", desc := "(Ljava/lang/String;)Z" } : Jvm.MethodName) prog_1_method_3_code (2 : Nat) (Option.some Jvm.ClassFile.FieldType.boolean)) ∈ lw_all := lw_g (lw_at lw_m4 20 rfl) rfl
theorem q887 : (Jvm.Cond.fieldLink "ChildSays" (97 : Nat) "ChildSays" "OWN" "[Ljava/lang/String;") ∈ lw_all := lw_g (lw_at lw_m4 21 rfl) rfl
theorem q888 : (Jvm.Cond.laysStatic "ChildSays" "OWN" "[Ljava/lang/String;") ∈ lw_tbl := lw_at lw_m4 22 rfl
theorem q889 : (Jvm.Cond.methodLink "ChildSays" (101 : Nat) ({ cls := "java/lang/String", name := "equals", desc := "(Ljava/lang/Object;)Z" } : Jvm.MethodName)) ∈ lw_all := lw_g (lw_at lw_m4 23 rfl) rfl
theorem q890 : (Jvm.Cond.methodLink "ChildSays$Reader" (93 : Nat) ({ cls := "ChildSays$Reader", name := "wrong", desc := "()LChildSays$Fault;" } : Jvm.MethodName)) ∈ lw_all := lw_g (lw_at lw_m4 24 rfl) rfl
theorem q891 : (Jvm.Cond.privateMethod ({ cls := "ChildSays$Reader", name := "wrong", desc := "()LChildSays$Fault;" } : Jvm.MethodName)) ∈ lw_tbl := lw_at lw_m4 25 rfl
theorem q892 : (Jvm.Cond.instanceMethod ({ cls := "ChildSays$Reader", name := "wrong", desc := "()LChildSays$Fault;" } : Jvm.MethodName)) ∈ lw_all := lw_g (lw_at lw_m4 26 rfl) rfl
theorem q893 : (Jvm.Cond.code ({ cls := "ChildSays$Reader", name := "wrong", desc := "()LChildSays$Fault;" } : Jvm.MethodName) prog_10_method_5_code (1 : Nat) (Option.some (Jvm.ClassFile.FieldType.object "ChildSays$Fault"))) ∈ lw_all := lw_g (lw_at lw_m4 27 rfl) rfl
theorem q894 : (Jvm.Cond.methodLink "ChildSays$Reader" (110 : Nat) ({ cls := "ChildSays$Town", name := "knows", desc := "(Ljava/lang/String;)Z" } : Jvm.MethodName)) ∈ lw_all := lw_g (lw_at lw_m4 28 rfl) rfl
theorem q895 : (Jvm.Cond.instanceMethod ({ cls := "ChildSays$Town", name := "knows", desc := "(Ljava/lang/String;)Z" } : Jvm.MethodName)) ∈ lw_all := lw_g (lw_at lw_m4 29 rfl) rfl
theorem q896 : (Jvm.Cond.selects "ChildSays$Town" ({ cls := "ChildSays$Town", name := "knows", desc := "(Ljava/lang/String;)Z" } : Jvm.MethodName) ({ cls := "ChildSays$Town", name := "knows", desc := "(Ljava/lang/String;)Z" } : Jvm.MethodName)) ∈ lw_all := lw_g (lw_at lw_m4 30 rfl) rfl
theorem q897 : (Jvm.Cond.code ({ cls := "ChildSays$Town", name := "knows", desc := "(Ljava/lang/String;)Z" } : Jvm.MethodName) prog_16_method_2_code (2 : Nat) (Option.some Jvm.ClassFile.FieldType.boolean)) ∈ lw_all := lw_g (lw_at lw_m4 31 rfl) rfl
theorem q898 : (Jvm.Cond.methodLinkNest "ChildSays$Town" (40 : Nat) ({ cls := "ChildSays", name := "named", desc := "(Ljava/util/ArrayList;Ljava/lang/String;)LChildSays$Named;" } : Jvm.MethodName) "ChildSays") ∈ lw_tbl := lw_at lw_m4 32 rfl
theorem q899 : (Jvm.Cond.static ({ cls := "ChildSays", name := "named", desc := "(Ljava/util/ArrayList;Ljava/lang/String;)LChildSays$Named;" } : Jvm.MethodName)) ∈ lw_all := lw_g (lw_at lw_m4 33 rfl) rfl
theorem q900 : (Jvm.Cond.code ({ cls := "ChildSays", name := "named", desc := "(Ljava/util/ArrayList;Ljava/lang/String;)LChildSays$Named;" } : Jvm.MethodName) prog_1_method_10_code (3 : Nat) (Option.some (Jvm.ClassFile.FieldType.object "ChildSays$Named"))) ∈ lw_all := lw_g (lw_at lw_m4 34 rfl) rfl
theorem q901 : (Jvm.Cond.methodLink "ChildSays" (128 : Nat) ({ cls := "java/util/ArrayList", name := "size", desc := "()I" } : Jvm.MethodName)) ∈ lw_all := lw_g (lw_at lw_m4 35 rfl) rfl
theorem q902 : (Jvm.Cond.methodLink "ChildSays" (132 : Nat) ({ cls := "java/util/ArrayList", name := "get", desc := "(I)Ljava/lang/Object;" } : Jvm.MethodName)) ∈ lw_all := lw_g (lw_at lw_m4 36 rfl) rfl
theorem q903 : (Jvm.Cond.instanceMethod ({ cls := "java/util/ArrayList", name := "get", desc := "(I)Ljava/lang/Object;" } : Jvm.MethodName)) ∈ lw_all := lw_g (lw_at lw_m4 37 rfl) rfl
theorem q904 : (Jvm.Cond.selects "java/util/ArrayList" ({ cls := "java/util/ArrayList", name := "get", desc := "(I)Ljava/lang/Object;" } : Jvm.MethodName) ({ cls := "java/util/ArrayList", name := "get", desc := "(I)Ljava/lang/Object;" } : Jvm.MethodName)) ∈ lw_all := lw_g (lw_at lw_m4 38 rfl) rfl
theorem q905 : (Jvm.Cond.code ({ cls := "java/util/ArrayList", name := "get", desc := "(I)Ljava/lang/Object;" } : Jvm.MethodName) prog_41_method_20_code (2 : Nat) (Option.some (Jvm.ClassFile.FieldType.object "java/lang/Object"))) ∈ lw_all := lw_g (lw_at lw_m4 39 rfl) rfl
theorem q906 : (Jvm.Cond.methodLink "java/util/ArrayList" (118 : Nat) ({ cls := "java/util/Objects", name := "checkIndex", desc := "(II)I" } : Jvm.MethodName)) ∈ lw_all := lw_g (lw_at lw_m4 40 rfl) rfl
theorem q907 : (Jvm.Cond.static ({ cls := "java/util/Objects", name := "checkIndex", desc := "(II)I" } : Jvm.MethodName)) ∈ lw_all := lw_g (lw_at lw_m4 41 rfl) rfl
theorem q908 : (Jvm.Cond.code ({ cls := "java/util/Objects", name := "checkIndex", desc := "(II)I" } : Jvm.MethodName) prog_45_method_17_code (2 : Nat) (Option.some Jvm.ClassFile.FieldType.int)) ∈ lw_all := lw_g (lw_at lw_m4 42 rfl) rfl
theorem q909 : (Jvm.Cond.methodLink "java/util/Objects" (105 : Nat) ({ cls := "jdk/internal/util/Preconditions", name := "checkIndex", desc := "(IILjava/util/function/BiFunction;)I" } : Jvm.MethodName)) ∈ lw_all := lw_g (lw_at lw_m4 43 rfl) rfl
theorem q910 : (Jvm.Cond.methodLink "java/util/ArrayList" (123 : Nat) ({ cls := "java/util/ArrayList", name := "elementData", desc := "(I)Ljava/lang/Object;" } : Jvm.MethodName)) ∈ lw_all := lw_g (lw_at lw_m4 44 rfl) rfl
theorem q911 : (Jvm.Cond.instanceMethod ({ cls := "java/util/ArrayList", name := "elementData", desc := "(I)Ljava/lang/Object;" } : Jvm.MethodName)) ∈ lw_all := lw_g (lw_at lw_m4 45 rfl) rfl
theorem q912 : (Jvm.Cond.selects "java/util/ArrayList" ({ cls := "java/util/ArrayList", name := "elementData", desc := "(I)Ljava/lang/Object;" } : Jvm.MethodName) ({ cls := "java/util/ArrayList", name := "elementData", desc := "(I)Ljava/lang/Object;" } : Jvm.MethodName)) ∈ lw_all := lw_g (lw_at lw_m4 46 rfl) rfl
theorem q913 : (Jvm.Cond.code ({ cls := "java/util/ArrayList", name := "elementData", desc := "(I)Ljava/lang/Object;" } : Jvm.MethodName) prog_41_method_18_code (2 : Nat) (Option.some (Jvm.ClassFile.FieldType.object "java/lang/Object"))) ∈ lw_all := lw_g (lw_at lw_m4 47 rfl) rfl
theorem q914 : (Jvm.Cond.classLink "ChildSays" (136 : Nat) "ChildSays$Named") ∈ lw_all := lw_g (lw_at lw_m4 48 rfl) rfl
theorem q915 : (Jvm.Cond.methodLink "ChildSays$Reader" (136 : Nat) ({ cls := "ChildSays$Word", name := "<init>", desc := "(Ljava/lang/String;I)V" } : Jvm.MethodName)) ∈ lw_all := lw_g (lw_at lw_m4 49 rfl) rfl
theorem q916 : (Jvm.Cond.instanceMethod ({ cls := "ChildSays$Word", name := "<init>", desc := "(Ljava/lang/String;I)V" } : Jvm.MethodName)) ∈ lw_all := lw_g (lw_at lw_m4 50 rfl) rfl
theorem q917 : (Jvm.Cond.code ({ cls := "ChildSays$Word", name := "<init>", desc := "(Ljava/lang/String;I)V" } : Jvm.MethodName) prog_19_method_1_code (3 : Nat) (Option.none : Option Jvm.ClassFile.FieldType)) ∈ lw_all := lw_g (lw_at lw_m4 51 rfl) rfl
theorem q918 : (Jvm.Cond.methodLink "ChildSays$Word" (1 : Nat) ({ cls := "ChildSays$Named", name := "<init>", desc := "(Ljava/lang/String;I)V" } : Jvm.MethodName)) ∈ lw_all := lw_g (lw_at lw_m4 52 rfl) rfl
theorem q919 : (Jvm.Cond.instanceMethod ({ cls := "ChildSays$Named", name := "<init>", desc := "(Ljava/lang/String;I)V" } : Jvm.MethodName)) ∈ lw_all := lw_g (lw_at lw_m4 53 rfl) rfl
theorem q920 : (Jvm.Cond.code ({ cls := "ChildSays$Named", name := "<init>", desc := "(Ljava/lang/String;I)V" } : Jvm.MethodName) prog_7_method_1_code (3 : Nat) (Option.none : Option Jvm.ClassFile.FieldType)) ∈ lw_all := lw_g (lw_at lw_m4 54 rfl) rfl
theorem q921 : (Jvm.Cond.methodLink "ChildSays$Named" (1 : Nat) ({ cls := "java/lang/Object", name := "<init>", desc := "()V" } : Jvm.MethodName)) ∈ lw_all := lw_g (lw_at lw_m4 55 rfl) rfl
theorem q922 : (Jvm.Cond.fieldLink "ChildSays$Word" (16 : Nat) "ChildSays$Word" "beats" "I") ∈ lw_all := lw_g (lw_at lw_m4 56 rfl) rfl
theorem q923 : (Jvm.Cond.fieldLink "ChildSays$Row" (28 : Nat) "ChildSays$Word" "beats" "I") ∈ lw_all := lw_g (lw_at lw_m4 57 rfl) rfl
theorem q924 : (Jvm.Cond.fieldLink "ChildSays$Reader" (148 : Nat) "ChildSays$Word" "beats" "I") ∈ lw_all := lw_g (lw_at lw_m4 58 rfl) rfl
theorem q925 : (Jvm.Cond.fieldLink "ChildSays" (257 : Nat) "ChildSays$Word" "beats" "I") ∈ lw_all := lw_g (lw_at lw_m4 59 rfl) rfl
theorem q926 : (Jvm.Cond.fieldLink "ChildSays$Word" (13 : Nat) "ChildSays$Word" "begins" "I") ∈ lw_all := lw_g (lw_at lw_m4 60 rfl) rfl
theorem q927 : (Jvm.Cond.fieldLink "ChildSays$Reader" (152 : Nat) "ChildSays$Word" "begins" "I") ∈ lw_all := lw_g (lw_at lw_m4 61 rfl) rfl
theorem q928 : (Jvm.Cond.fieldLink "ChildSays" (260 : Nat) "ChildSays$Word" "begins" "I") ∈ lw_all := lw_g (lw_at lw_m4 62 rfl) rfl
theorem q929 : (Jvm.Cond.fieldLink "ChildSays$Word" (7 : Nat) "ChildSays$Word" "ends" "I") ∈ lw_all := lw_g (lw_at lw_m4 63 rfl) rfl
theorem q930 : (Jvm.Cond.fieldLink "ChildSays$Reader" (155 : Nat) "ChildSays$Word" "ends" "I") ∈ lw_all := lw_g (lw_at lw_m4 64 rfl) rfl
theorem q931 : (Jvm.Cond.fieldLink "ChildSays" (263 : Nat) "ChildSays$Word" "ends" "I") ∈ lw_all := lw_g (lw_at lw_m4 65 rfl) rfl
theorem q932 : (Jvm.Cond.fieldLink "ChildSays$Row" (42 : Nat) "ChildSays$Word" "worth" "I") ∈ lw_all := lw_g (lw_at lw_m4 66 rfl) rfl
theorem q933 : (Jvm.Cond.fieldLink "ChildSays$Reader" (160 : Nat) "ChildSays$Word" "worth" "I") ∈ lw_all := lw_g (lw_at lw_m4 67 rfl) rfl
theorem q934 : (Jvm.Cond.fieldLink "ChildSays" (266 : Nat) "ChildSays$Word" "worth" "I") ∈ lw_all := lw_g (lw_at lw_m4 68 rfl) rfl
theorem q935 : (Jvm.Cond.fieldLink "ChildSays$Row" (31 : Nat) "ChildSays$Word" "never" "Z") ∈ lw_all := lw_g (lw_at lw_m4 69 rfl) rfl
theorem q936 : (Jvm.Cond.fieldLink "ChildSays$Reader" (164 : Nat) "ChildSays$Word" "never" "Z") ∈ lw_all := lw_g (lw_at lw_m4 70 rfl) rfl
theorem q937 : (Jvm.Cond.fieldLink "ChildSays" (269 : Nat) "ChildSays$Word" "never" "Z") ∈ lw_all := lw_g (lw_at lw_m4 71 rfl) rfl
theorem q938 : (Jvm.Cond.fieldLink "ChildSays$Named" (7 : Nat) "ChildSays$Named" "name" "Ljava/lang/String;") ∈ lw_all := lw_g (lw_at lw_m4 72 rfl) rfl
theorem q939 : (Jvm.Cond.fieldLink "ChildSays" (138 : Nat) "ChildSays$Named" "name" "Ljava/lang/String;") ∈ lw_all := lw_g (lw_at lw_m4 73 rfl) rfl
theorem q940 : (Jvm.Cond.fieldLink "ChildSays$Named" (13 : Nat) "ChildSays$Named" "number" "I") ∈ lw_all := lw_g (lw_at lw_m4 74 rfl) rfl
theorem q941 : (Jvm.Cond.fieldLink "ChildSays$Street" (17 : Nat) "ChildSays$Word" "number" "I") ∈ lw_all := lw_g (lw_at lw_m4 75 rfl) rfl
theorem q942 : (Jvm.Cond.sameField "ChildSays$Word" "ChildSays$Named" "number" "I") ∈ lw_all := lw_g (lw_at lw_m4 76 rfl) rfl
theorem q943 : (Jvm.Cond.fieldLink "ChildSays$Sitting" (30 : Nat) "ChildSays$Law" "number" "I") ∈ lw_all := lw_g (lw_at lw_m4 77 rfl) rfl
theorem q944 : (Jvm.Cond.sameField "ChildSays$Law" "ChildSays$Named" "number" "I") ∈ lw_all := lw_g (lw_at lw_m4 78 rfl) rfl
theorem q945 : (Jvm.Cond.fieldLink "ChildSays$Saying" (31 : Nat) "ChildSays$Word" "number" "I") ∈ lw_all := lw_g (lw_at lw_m4 79 rfl) rfl
theorem q946 : (Jvm.Cond.fieldLink "ChildSays$Child" (51 : Nat) "ChildSays$Word" "number" "I") ∈ lw_all := lw_g (lw_at lw_m4 80 rfl) rfl
theorem q947 : (Jvm.Cond.fieldLink "ChildSays$Order" (114 : Nat) "ChildSays$Law" "number" "I") ∈ lw_all := lw_g (lw_at lw_m4 81 rfl) rfl
theorem q948 : (Jvm.Cond.fieldLink "ChildSays$Reader" (183 : Nat) "ChildSays$Word" "number" "I") ∈ lw_all := lw_g (lw_at lw_m4 82 rfl) rfl
theorem q949 : (Jvm.Cond.fieldLink "ChildSays" (285 : Nat) "ChildSays$Street" "number" "I") ∈ lw_all := lw_g (lw_at lw_m4 83 rfl) rfl
theorem q950 : (Jvm.Cond.sameField "ChildSays$Street" "ChildSays$Named" "number" "I") ∈ lw_all := lw_g (lw_at lw_m4 84 rfl) rfl
theorem q951 : (Jvm.Cond.fieldLink "ChildSays" (323 : Nat) "ChildSays$Word" "number" "I") ∈ lw_all := lw_g (lw_at lw_m4 85 rfl) rfl
theorem q952 : (Jvm.Cond.fieldLink "ChildSays" (327 : Nat) "ChildSays$Law" "number" "I") ∈ lw_all := lw_g (lw_at lw_m4 86 rfl) rfl
theorem q953 : (Jvm.Cond.fieldLink "ChildSays" (383 : Nat) "ChildSays$Child" "number" "I") ∈ lw_all := lw_g (lw_at lw_m4 87 rfl) rfl
theorem q954 : (Jvm.Cond.sameField "ChildSays$Child" "ChildSays$Named" "number" "I") ∈ lw_all := lw_g (lw_at lw_m4 88 rfl) rfl
theorem q955 : (Jvm.Cond.lays "ChildSays$Word" "ChildSays$Word" "beats" "I") ∈ lw_all := lw_g (lw_at lw_m4 89 rfl) rfl
theorem q956 : (Jvm.Cond.soleField "ChildSays$Word" "beats") ∈ lw_all := lw_g (lw_at lw_m4 90 rfl) rfl
theorem q957 : (Jvm.Cond.lays "ChildSays$Word" "ChildSays$Word" "begins" "I") ∈ lw_all := lw_g (lw_at lw_m4 91 rfl) rfl
theorem q958 : (Jvm.Cond.soleField "ChildSays$Word" "begins") ∈ lw_all := lw_g (lw_at lw_m4 92 rfl) rfl
theorem q959 : (Jvm.Cond.lays "ChildSays$Word" "ChildSays$Word" "ends" "I") ∈ lw_all := lw_g (lw_at lw_m4 93 rfl) rfl
theorem q960 : (Jvm.Cond.soleField "ChildSays$Word" "ends") ∈ lw_all := lw_g (lw_at lw_m4 94 rfl) rfl
theorem q961 : (Jvm.Cond.lays "ChildSays$Word" "ChildSays$Word" "worth" "I") ∈ lw_all := lw_g (lw_at lw_m4 95 rfl) rfl
theorem q962 : (Jvm.Cond.soleField "ChildSays$Word" "worth") ∈ lw_all := lw_g (lw_at lw_m4 96 rfl) rfl
theorem q963 : (Jvm.Cond.lays "ChildSays$Word" "ChildSays$Word" "never" "Z") ∈ lw_all := lw_g (lw_at lw_m4 97 rfl) rfl
theorem q964 : (Jvm.Cond.soleField "ChildSays$Word" "never") ∈ lw_all := lw_g (lw_at lw_m4 98 rfl) rfl
theorem q965 : (Jvm.Cond.laysFinal "ChildSays$Word" "ChildSays$Named" "name" "Ljava/lang/String;") ∈ lw_all := lw_g (lw_at lw_m4 99 rfl) rfl
theorem q966 : (Jvm.Cond.soleField "ChildSays$Named" "name") ∈ lw_all := lw_g (lw_at lw_m4 100 rfl) rfl
theorem q967 : (Jvm.Cond.laysFinal "ChildSays$Word" "ChildSays$Named" "number" "I") ∈ lw_all := lw_g (lw_at lw_m4 101 rfl) rfl
theorem q968 : (Jvm.Cond.soleField "ChildSays$Named" "number") ∈ lw_all := lw_g (lw_at lw_m4 102 rfl) rfl
theorem q969 : (Jvm.Cond.superclass "ChildSays$Word" "ChildSays$Named") ∈ lw_all := lw_g (lw_at lw_m4 103 rfl) rfl
theorem q970 : (Jvm.Cond.stringRef "ChildSays$Reader" (139 : Nat) "beats") ∈ lw_tbl := lw_at lw_m4 104 rfl
theorem q971 : (Jvm.Cond.methodLink "ChildSays$Reader" (141 : Nat) ({ cls := "ChildSays$Reader", name := "asks", desc := "(Ljava/lang/String;)V" } : Jvm.MethodName)) ∈ lw_all := lw_g (lw_at lw_m4 105 rfl) rfl
theorem q972 : (Jvm.Cond.privateMethod ({ cls := "ChildSays$Reader", name := "asks", desc := "(Ljava/lang/String;)V" } : Jvm.MethodName)) ∈ lw_tbl := lw_at lw_m4 106 rfl
theorem q973 : (Jvm.Cond.instanceMethod ({ cls := "ChildSays$Reader", name := "asks", desc := "(Ljava/lang/String;)V" } : Jvm.MethodName)) ∈ lw_all := lw_g (lw_at lw_m4 107 rfl) rfl
theorem q974 : (Jvm.Cond.code ({ cls := "ChildSays$Reader", name := "asks", desc := "(Ljava/lang/String;)V" } : Jvm.MethodName) prog_10_method_11_code (2 : Nat) (Option.none : Option Jvm.ClassFile.FieldType)) ∈ lw_all := lw_g (lw_at lw_m4 108 rfl) rfl
theorem q975 : (Jvm.Cond.methodLink "ChildSays$Reader" (145 : Nat) ({ cls := "ChildSays$Reader", name := "number", desc := "(II)I" } : Jvm.MethodName)) ∈ lw_all := lw_g (lw_at lw_m4 109 rfl) rfl
theorem q976 : (Jvm.Cond.privateMethod ({ cls := "ChildSays$Reader", name := "number", desc := "(II)I" } : Jvm.MethodName)) ∈ lw_tbl := lw_at lw_m4 110 rfl
theorem q977 : (Jvm.Cond.instanceMethod ({ cls := "ChildSays$Reader", name := "number", desc := "(II)I" } : Jvm.MethodName)) ∈ lw_all := lw_g (lw_at lw_m4 111 rfl) rfl
theorem q978 : (Jvm.Cond.code ({ cls := "ChildSays$Reader", name := "number", desc := "(II)I" } : Jvm.MethodName) prog_10_method_12_code (3 : Nat) (Option.some Jvm.ClassFile.FieldType.int)) ∈ lw_all := lw_g (lw_at lw_m4 112 rfl) rfl
theorem q979 : (Jvm.Cond.methodLinkNest "ChildSays$Reader" (99 : Nat) ({ cls := "ChildSays", name := "isIn", desc := "(JJJ)Z" } : Jvm.MethodName) "ChildSays") ∈ lw_tbl := lw_at lw_m4 113 rfl
theorem q980 : (Jvm.Cond.stringRef "ChildSays$Reader" (150 : Nat) "sounds") ∈ lw_tbl := lw_at lw_m4 114 rfl
theorem q981 : (Jvm.Cond.stringRef "ChildSays$Reader" (158 : Nat) "worth") ∈ lw_tbl := lw_at lw_m4 115 rfl
theorem q982 : (Jvm.Cond.stringRef "ChildSays$Reader" (162 : Nat) "never") ∈ lw_tbl := lw_at lw_m4 116 rfl
theorem q983 : (Jvm.Cond.methodLink "ChildSays$Reader" (166 : Nat) ({ cls := "java/util/ArrayList", name := "add", desc := "(Ljava/lang/Object;)Z" } : Jvm.MethodName)) ∈ lw_all := lw_g (lw_at lw_m4 117 rfl) rfl
theorem q984 : (Jvm.Cond.instanceMethod ({ cls := "java/util/ArrayList", name := "add", desc := "(Ljava/lang/Object;)Z" } : Jvm.MethodName)) ∈ lw_all := lw_g (lw_at lw_m4 118 rfl) rfl
theorem q985 : (Jvm.Cond.selects "java/util/ArrayList" ({ cls := "java/util/ArrayList", name := "add", desc := "(Ljava/lang/Object;)Z" } : Jvm.MethodName) ({ cls := "java/util/ArrayList", name := "add", desc := "(Ljava/lang/Object;)Z" } : Jvm.MethodName)) ∈ lw_all := lw_g (lw_at lw_m4 119 rfl) rfl
theorem q986 : (Jvm.Cond.code ({ cls := "java/util/ArrayList", name := "add", desc := "(Ljava/lang/Object;)Z" } : Jvm.MethodName) prog_41_method_25_code (2 : Nat) (Option.some Jvm.ClassFile.FieldType.boolean)) ∈ lw_all := lw_g (lw_at lw_m4 120 rfl) rfl
theorem q987 : (Jvm.Cond.methodLink "java/util/ArrayList" (131 : Nat) ({ cls := "java/util/ArrayList", name := "add", desc := "(Ljava/lang/Object;[Ljava/lang/Object;I)V" } : Jvm.MethodName)) ∈ lw_all := lw_g (lw_at lw_m4 121 rfl) rfl
theorem q988 : (Jvm.Cond.privateMethod ({ cls := "java/util/ArrayList", name := "add", desc := "(Ljava/lang/Object;[Ljava/lang/Object;I)V" } : Jvm.MethodName)) ∈ lw_tbl := lw_at lw_m4 122 rfl
theorem q989 : (Jvm.Cond.instanceMethod ({ cls := "java/util/ArrayList", name := "add", desc := "(Ljava/lang/Object;[Ljava/lang/Object;I)V" } : Jvm.MethodName)) ∈ lw_all := lw_g (lw_at lw_m4 123 rfl) rfl
theorem q990 : (Jvm.Cond.code ({ cls := "java/util/ArrayList", name := "add", desc := "(Ljava/lang/Object;[Ljava/lang/Object;I)V" } : Jvm.MethodName) prog_41_method_24_code (4 : Nat) (Option.none : Option Jvm.ClassFile.FieldType)) ∈ lw_all := lw_g (lw_at lw_m4 124 rfl) rfl
theorem q991 : (Jvm.Cond.methodLink "java/util/ArrayList" (129 : Nat) ({ cls := "java/util/ArrayList", name := "grow", desc := "()[Ljava/lang/Object;" } : Jvm.MethodName)) ∈ lw_all := lw_g (lw_at lw_m4 125 rfl) rfl
theorem q992 : (Jvm.Cond.privateMethod ({ cls := "java/util/ArrayList", name := "grow", desc := "()[Ljava/lang/Object;" } : Jvm.MethodName)) ∈ lw_tbl := lw_at lw_m4 126 rfl
theorem q993 : (Jvm.Cond.instanceMethod ({ cls := "java/util/ArrayList", name := "grow", desc := "()[Ljava/lang/Object;" } : Jvm.MethodName)) ∈ lw_all := lw_g (lw_at lw_m4 127 rfl) rfl
theorem q994 : (Jvm.Cond.code ({ cls := "java/util/ArrayList", name := "grow", desc := "()[Ljava/lang/Object;" } : Jvm.MethodName) prog_41_method_7_code (1 : Nat) (Option.some (Jvm.ClassFile.FieldType.array (Jvm.ClassFile.FieldType.object "java/lang/Object")))) ∈ lw_all := lw_g (lw_at lw_m4 128 rfl) rfl
theorem q995 : (Jvm.Cond.methodLink "java/util/ArrayList" (69 : Nat) ({ cls := "java/util/ArrayList", name := "grow", desc := "(I)[Ljava/lang/Object;" } : Jvm.MethodName)) ∈ lw_all := lw_g (lw_at lw_m4 129 rfl) rfl
theorem q996 : (Jvm.Cond.privateMethod ({ cls := "java/util/ArrayList", name := "grow", desc := "(I)[Ljava/lang/Object;" } : Jvm.MethodName)) ∈ lw_tbl := lw_at lw_m4 130 rfl
theorem q997 : (Jvm.Cond.instanceMethod ({ cls := "java/util/ArrayList", name := "grow", desc := "(I)[Ljava/lang/Object;" } : Jvm.MethodName)) ∈ lw_all := lw_g (lw_at lw_m4 131 rfl) rfl
theorem q998 : (Jvm.Cond.code ({ cls := "java/util/ArrayList", name := "grow", desc := "(I)[Ljava/lang/Object;" } : Jvm.MethodName) prog_41_method_6_code (4 : Nat) (Option.some (Jvm.ClassFile.FieldType.array (Jvm.ClassFile.FieldType.object "java/lang/Object")))) ∈ lw_all := lw_g (lw_at lw_m4 132 rfl) rfl
theorem q999 : (Jvm.Cond.methodLink "java/util/ArrayList" (73 : Nat) ({ cls := "jdk/internal/util/ArraysSupport", name := "newLength", desc := "(III)I" } : Jvm.MethodName)) ∈ lw_all := lw_g (lw_at lw_m4 133 rfl) rfl
theorem q1000 : (Jvm.Cond.static ({ cls := "jdk/internal/util/ArraysSupport", name := "newLength", desc := "(III)I" } : Jvm.MethodName)) ∈ lw_all := lw_g (lw_at lw_m4 134 rfl) rfl
theorem q1001 : (Jvm.Cond.code ({ cls := "jdk/internal/util/ArraysSupport", name := "newLength", desc := "(III)I" } : Jvm.MethodName) prog_48_method_27_code (4 : Nat) (Option.some Jvm.ClassFile.FieldType.int)) ∈ lw_all := lw_g (lw_at lw_m4 135 rfl) rfl
theorem q1002 : (Jvm.Cond.methodLink "jdk/internal/util/ArraysSupport" (194 : Nat) ({ cls := "java/lang/Math", name := "max", desc := "(II)I" } : Jvm.MethodName)) ∈ lw_all := lw_g (lw_at lw_m4 136 rfl) rfl
theorem q1003 : (Jvm.Cond.static ({ cls := "java/lang/Math", name := "max", desc := "(II)I" } : Jvm.MethodName)) ∈ lw_all := lw_g (lw_at lw_m4 137 rfl) rfl
theorem q1004 : (Jvm.Cond.code ({ cls := "java/lang/Math", name := "max", desc := "(II)I" } : Jvm.MethodName) prog_30_method_65_code (2 : Nat) (Option.some Jvm.ClassFile.FieldType.int)) ∈ lw_all := lw_g (lw_at lw_m4 138 rfl) rfl
theorem q1005 : (Jvm.Cond.constant "jdk/internal/util/ArraysSupport" (200 : Nat) (2147483639 : Int32)) ∈ lw_all := lw_g (lw_at lw_m4 139 rfl) rfl
theorem q1006 : (Jvm.Cond.methodLink "jdk/internal/util/ArraysSupport" (201 : Nat) ({ cls := "jdk/internal/util/ArraysSupport", name := "hugeLength", desc := "(II)I" } : Jvm.MethodName)) ∈ lw_all := lw_g (lw_at lw_m4 140 rfl) rfl
theorem q1007 : (Jvm.Cond.static ({ cls := "jdk/internal/util/ArraysSupport", name := "hugeLength", desc := "(II)I" } : Jvm.MethodName)) ∈ lw_all := lw_g (lw_at lw_m4 141 rfl) rfl
theorem q1008 : (Jvm.Cond.code ({ cls := "jdk/internal/util/ArraysSupport", name := "hugeLength", desc := "(II)I" } : Jvm.MethodName) prog_48_method_28_code (3 : Nat) (Option.some Jvm.ClassFile.FieldType.int)) ∈ lw_all := lw_g (lw_at lw_m4 142 rfl) rfl
theorem q1009 : (Jvm.Cond.methodLink "java/util/ArrayList" (66 : Nat) ({ cls := "java/util/Arrays", name := "copyOf", desc := "([Ljava/lang/Object;I)[Ljava/lang/Object;" } : Jvm.MethodName)) ∈ lw_all := lw_g (lw_at lw_m4 143 rfl) rfl
theorem q1010 : (Jvm.Cond.static ({ cls := "java/util/Arrays", name := "copyOf", desc := "([Ljava/lang/Object;I)[Ljava/lang/Object;" } : Jvm.MethodName)) ∈ lw_all := lw_g (lw_at lw_m4 144 rfl) rfl
theorem q1011 : (Jvm.Cond.code ({ cls := "java/util/Arrays", name := "copyOf", desc := "([Ljava/lang/Object;I)[Ljava/lang/Object;" } : Jvm.MethodName) prog_42_method_119_code (2 : Nat) (Option.some (Jvm.ClassFile.FieldType.array (Jvm.ClassFile.FieldType.object "java/lang/Object")))) ∈ lw_all := lw_g (lw_at lw_m4 145 rfl) rfl
theorem q1012 : (Jvm.Cond.methodLink "java/util/Arrays" (86 : Nat) ({ cls := "java/lang/Object", name := "getClass", desc := "()Ljava/lang/Class;" } : Jvm.MethodName)) ∈ lw_all := lw_g (lw_at lw_m4 146 rfl) rfl
theorem q1013 : (Jvm.Cond.instanceMethod ({ cls := "java/lang/Object", name := "getClass", desc := "()Ljava/lang/Class;" } : Jvm.MethodName)) ∈ lw_all := lw_g (lw_at lw_m4 147 rfl) rfl
theorem q1014 : (Jvm.Cond.sameMethod "java/lang/Object" "java/lang/Object" "getClass" "()Ljava/lang/Class;") ∈ lw_all := lw_g (lw_at lw_m4 148 rfl) rfl
theorem q1015 : (Jvm.Cond.selects "ChildSays" ({ cls := "java/lang/Object", name := "getClass", desc := "()Ljava/lang/Class;" } : Jvm.MethodName) ({ cls := "java/lang/Object", name := "getClass", desc := "()Ljava/lang/Class;" } : Jvm.MethodName)) ∈ lw_all := lw_g (lw_at lw_m4 149 rfl) rfl
theorem q1016 : (Jvm.Cond.selects "ChildSays$Child" ({ cls := "java/lang/Object", name := "getClass", desc := "()Ljava/lang/Class;" } : Jvm.MethodName) ({ cls := "java/lang/Object", name := "getClass", desc := "()Ljava/lang/Class;" } : Jvm.MethodName)) ∈ lw_all := lw_g (lw_at lw_m4 150 rfl) rfl
theorem q1017 : (Jvm.Cond.selects "ChildSays$Fault" ({ cls := "java/lang/Object", name := "getClass", desc := "()Ljava/lang/Class;" } : Jvm.MethodName) ({ cls := "java/lang/Object", name := "getClass", desc := "()Ljava/lang/Class;" } : Jvm.MethodName)) ∈ lw_all := lw_g (lw_at lw_m4 151 rfl) rfl
theorem q1018 : (Jvm.Cond.selects "ChildSays$Law" ({ cls := "java/lang/Object", name := "getClass", desc := "()Ljava/lang/Class;" } : Jvm.MethodName) ({ cls := "java/lang/Object", name := "getClass", desc := "()Ljava/lang/Class;" } : Jvm.MethodName)) ∈ lw_all := lw_g (lw_at lw_m4 152 rfl) rfl
theorem q1019 : (Jvm.Cond.selects "ChildSays$Line" ({ cls := "java/lang/Object", name := "getClass", desc := "()Ljava/lang/Class;" } : Jvm.MethodName) ({ cls := "java/lang/Object", name := "getClass", desc := "()Ljava/lang/Class;" } : Jvm.MethodName)) ∈ lw_all := lw_g (lw_at lw_m4 153 rfl) rfl
theorem q1020 : (Jvm.Cond.selects "ChildSays$Order" ({ cls := "java/lang/Object", name := "getClass", desc := "()Ljava/lang/Class;" } : Jvm.MethodName) ({ cls := "java/lang/Object", name := "getClass", desc := "()Ljava/lang/Class;" } : Jvm.MethodName)) ∈ lw_all := lw_g (lw_at lw_m4 154 rfl) rfl
theorem q1021 : (Jvm.Cond.selects "ChildSays$Put" ({ cls := "java/lang/Object", name := "getClass", desc := "()Ljava/lang/Class;" } : Jvm.MethodName) ({ cls := "java/lang/Object", name := "getClass", desc := "()Ljava/lang/Class;" } : Jvm.MethodName)) ∈ lw_all := lw_g (lw_at lw_m4 155 rfl) rfl
theorem q1022 : (Jvm.Cond.selects "ChildSays$Reader" ({ cls := "java/lang/Object", name := "getClass", desc := "()Ljava/lang/Class;" } : Jvm.MethodName) ({ cls := "java/lang/Object", name := "getClass", desc := "()Ljava/lang/Class;" } : Jvm.MethodName)) ∈ lw_all := lw_g (lw_at lw_m4 156 rfl) rfl
theorem q1023 : (Jvm.Cond.selects "ChildSays$Round" ({ cls := "java/lang/Object", name := "getClass", desc := "()Ljava/lang/Class;" } : Jvm.MethodName) ({ cls := "java/lang/Object", name := "getClass", desc := "()Ljava/lang/Class;" } : Jvm.MethodName)) ∈ lw_all := lw_g (lw_at lw_m4 157 rfl) rfl
theorem q1024 : (Jvm.Cond.selects "ChildSays$Row" ({ cls := "java/lang/Object", name := "getClass", desc := "()Ljava/lang/Class;" } : Jvm.MethodName) ({ cls := "java/lang/Object", name := "getClass", desc := "()Ljava/lang/Class;" } : Jvm.MethodName)) ∈ lw_all := lw_g (lw_at lw_m4 158 rfl) rfl
theorem q1025 : (Jvm.Cond.selects "ChildSays$Saying" ({ cls := "java/lang/Object", name := "getClass", desc := "()Ljava/lang/Class;" } : Jvm.MethodName) ({ cls := "java/lang/Object", name := "getClass", desc := "()Ljava/lang/Class;" } : Jvm.MethodName)) ∈ lw_all := lw_g (lw_at lw_m4 159 rfl) rfl
theorem q1026 : (Jvm.Cond.selects "ChildSays$Sitting" ({ cls := "java/lang/Object", name := "getClass", desc := "()Ljava/lang/Class;" } : Jvm.MethodName) ({ cls := "java/lang/Object", name := "getClass", desc := "()Ljava/lang/Class;" } : Jvm.MethodName)) ∈ lw_all := lw_g (lw_at lw_m4 160 rfl) rfl
theorem q1027 : (Jvm.Cond.selects "ChildSays$Street" ({ cls := "java/lang/Object", name := "getClass", desc := "()Ljava/lang/Class;" } : Jvm.MethodName) ({ cls := "java/lang/Object", name := "getClass", desc := "()Ljava/lang/Class;" } : Jvm.MethodName)) ∈ lw_all := lw_g (lw_at lw_m4 161 rfl) rfl
theorem q1028 : (Jvm.Cond.selects "ChildSays$Town" ({ cls := "java/lang/Object", name := "getClass", desc := "()Ljava/lang/Class;" } : Jvm.MethodName) ({ cls := "java/lang/Object", name := "getClass", desc := "()Ljava/lang/Class;" } : Jvm.MethodName)) ∈ lw_all := lw_g (lw_at lw_m4 162 rfl) rfl
theorem q1029 : (Jvm.Cond.selects "ChildSays$Unlike" ({ cls := "java/lang/Object", name := "getClass", desc := "()Ljava/lang/Class;" } : Jvm.MethodName) ({ cls := "java/lang/Object", name := "getClass", desc := "()Ljava/lang/Class;" } : Jvm.MethodName)) ∈ lw_all := lw_g (lw_at lw_m4 163 rfl) rfl
theorem q1030 : (Jvm.Cond.selects "ChildSays$Was" ({ cls := "java/lang/Object", name := "getClass", desc := "()Ljava/lang/Class;" } : Jvm.MethodName) ({ cls := "java/lang/Object", name := "getClass", desc := "()Ljava/lang/Class;" } : Jvm.MethodName)) ∈ lw_all := lw_g (lw_at lw_m4 164 rfl) rfl
theorem q1031 : (Jvm.Cond.selects "ChildSays$Word" ({ cls := "java/lang/Object", name := "getClass", desc := "()Ljava/lang/Class;" } : Jvm.MethodName) ({ cls := "java/lang/Object", name := "getClass", desc := "()Ljava/lang/Class;" } : Jvm.MethodName)) ∈ lw_all := lw_g (lw_at lw_m4 165 rfl) rfl
theorem q1032 : (Jvm.Cond.selects "ChildSaysModel" ({ cls := "java/lang/Object", name := "getClass", desc := "()Ljava/lang/Class;" } : Jvm.MethodName) ({ cls := "java/lang/Object", name := "getClass", desc := "()Ljava/lang/Class;" } : Jvm.MethodName)) ∈ lw_all := lw_g (lw_at lw_m4 166 rfl) rfl
theorem q1033 : (Jvm.Cond.selects "java/lang/String" ({ cls := "java/lang/Object", name := "getClass", desc := "()Ljava/lang/Class;" } : Jvm.MethodName) ({ cls := "java/lang/Object", name := "getClass", desc := "()Ljava/lang/Class;" } : Jvm.MethodName)) ∈ lw_all := lw_g (lw_at lw_m4 167 rfl) rfl
theorem q1034 : (Jvm.Cond.selects "java/lang/StringBuilder" ({ cls := "java/lang/Object", name := "getClass", desc := "()Ljava/lang/Class;" } : Jvm.MethodName) ({ cls := "java/lang/Object", name := "getClass", desc := "()Ljava/lang/Class;" } : Jvm.MethodName)) ∈ lw_all := lw_g (lw_at lw_m4 168 rfl) rfl
theorem q1035 : (Jvm.Cond.selects "java/util/ArrayList" ({ cls := "java/lang/Object", name := "getClass", desc := "()Ljava/lang/Class;" } : Jvm.MethodName) ({ cls := "java/lang/Object", name := "getClass", desc := "()Ljava/lang/Class;" } : Jvm.MethodName)) ∈ lw_all := lw_g (lw_at lw_m4 169 rfl) rfl
theorem q1036 : (Jvm.Cond.native ({ cls := "java/lang/Object", name := "getClass", desc := "()Ljava/lang/Class;" } : Jvm.MethodName)) ∈ lw_all := lw_g (lw_at lw_m4 170 rfl) rfl
theorem q1037 : (Jvm.Cond.methodLink "java/util/Arrays" (300 : Nat) ({ cls := "java/util/Arrays", name := "copyOf", desc := "([Ljava/lang/Object;ILjava/lang/Class;)[Ljava/lang/Object;" } : Jvm.MethodName)) ∈ lw_all := lw_g (lw_at lw_m4 171 rfl) rfl
theorem q1038 : (Jvm.Cond.static ({ cls := "java/util/Arrays", name := "copyOf", desc := "([Ljava/lang/Object;ILjava/lang/Class;)[Ljava/lang/Object;" } : Jvm.MethodName)) ∈ lw_all := lw_g (lw_at lw_m4 172 rfl) rfl
theorem q1039 : (Jvm.Cond.code ({ cls := "java/util/Arrays", name := "copyOf", desc := "([Ljava/lang/Object;ILjava/lang/Class;)[Ljava/lang/Object;" } : Jvm.MethodName) prog_42_method_120_code (4 : Nat) (Option.some (Jvm.ClassFile.FieldType.array (Jvm.ClassFile.FieldType.object "java/lang/Object")))) ∈ lw_all := lw_g (lw_at lw_m4 173 rfl) rfl
theorem q1040 : (Jvm.Cond.classLink "java/util/Arrays" (110 : Nat) "[Ljava/lang/Object;") ∈ lw_all := lw_g (lw_at lw_m4 174 rfl) rfl
theorem q1041 : (Jvm.Cond.arrayOver (Jvm.ClassFile.FieldType.object "java/lang/Object")) ∈ lw_tbl := lw_at lw_m4 175 rfl
theorem q1042 : (Jvm.Cond.classLink "java/util/Arrays" (2 : Nat) "java/lang/Object") ∈ lw_all := lw_g (lw_at lw_m4 176 rfl) rfl
theorem q1043 : (Jvm.Cond.methodLink "java/util/Arrays" (304 : Nat) ({ cls := "java/lang/Math", name := "min", desc := "(II)I" } : Jvm.MethodName)) ∈ lw_all := lw_g (lw_at lw_m4 177 rfl) rfl
theorem q1044 : (Jvm.Cond.static ({ cls := "java/lang/Math", name := "min", desc := "(II)I" } : Jvm.MethodName)) ∈ lw_all := lw_g (lw_at lw_m4 178 rfl) rfl
theorem q1045 : (Jvm.Cond.code ({ cls := "java/lang/Math", name := "min", desc := "(II)I" } : Jvm.MethodName) prog_30_method_69_code (2 : Nat) (Option.some Jvm.ClassFile.FieldType.int)) ∈ lw_all := lw_g (lw_at lw_m4 179 rfl) rfl
theorem q1046 : (Jvm.Cond.methodLink "java/util/Arrays" (150 : Nat) ({ cls := "java/lang/System", name := "arraycopy", desc := "(Ljava/lang/Object;ILjava/lang/Object;II)V" } : Jvm.MethodName)) ∈ lw_all := lw_g (lw_at lw_m4 180 rfl) rfl
theorem q1047 : (Jvm.Cond.static ({ cls := "java/lang/System", name := "arraycopy", desc := "(Ljava/lang/Object;ILjava/lang/Object;II)V" } : Jvm.MethodName)) ∈ lw_all := lw_g (lw_at lw_m4 181 rfl) rfl
theorem q1048 : (Jvm.Cond.native ({ cls := "java/lang/System", name := "arraycopy", desc := "(Ljava/lang/Object;ILjava/lang/Object;II)V" } : Jvm.MethodName)) ∈ lw_all := lw_g (lw_at lw_m4 182 rfl) rfl
theorem q1049 : (Jvm.Cond.methodLink "java/util/ArrayList" (79 : Nat) ({ cls := "java/lang/Math", name := "max", desc := "(II)I" } : Jvm.MethodName)) ∈ lw_all := lw_g (lw_at lw_m4 183 rfl) rfl
theorem q1050 : (Jvm.Cond.classLink "java/util/ArrayList" (7 : Nat) "java/lang/Object") ∈ lw_all := lw_g (lw_at lw_m4 184 rfl) rfl
theorem q1051 : (Jvm.Cond.stringRef "ChildSays$Reader" (254 : Nat) "street") ∈ lw_tbl := lw_at lw_m4 185 rfl
theorem q1052 : (Jvm.Cond.methodLink "ChildSays$Reader" (256 : Nat) ({ cls := "ChildSays$Reader", name := "street", desc := "(I)V" } : Jvm.MethodName)) ∈ lw_all := lw_g (lw_at lw_m4 186 rfl) rfl
theorem q1053 : (Jvm.Cond.privateMethod ({ cls := "ChildSays$Reader", name := "street", desc := "(I)V" } : Jvm.MethodName)) ∈ lw_tbl := lw_at lw_m4 187 rfl
theorem q1054 : (Jvm.Cond.instanceMethod ({ cls := "ChildSays$Reader", name := "street", desc := "(I)V" } : Jvm.MethodName)) ∈ lw_all := lw_g (lw_at lw_m4 188 rfl) rfl
theorem q1055 : (Jvm.Cond.code ({ cls := "ChildSays$Reader", name := "street", desc := "(I)V" } : Jvm.MethodName) prog_10_method_18_code (4 : Nat) (Option.none : Option Jvm.ClassFile.FieldType)) ∈ lw_all := lw_g (lw_at lw_m4 189 rfl) rfl
theorem q1056 : (Jvm.Cond.classLink "ChildSays$Reader" (172 : Nat) "ChildSays$Street") ∈ lw_all := lw_g (lw_at lw_m4 190 rfl) rfl
theorem q1057 : (Jvm.Cond.instantiable "ChildSays$Street" (3 : Nat)) ∈ lw_all := lw_g (lw_at lw_m4 191 rfl) rfl
theorem q1058 : (Jvm.Cond.methodLink "ChildSays$Reader" (174 : Nat) ({ cls := "ChildSays$Street", name := "<init>", desc := "(Ljava/lang/String;I)V" } : Jvm.MethodName)) ∈ lw_all := lw_g (lw_at lw_m4 192 rfl) rfl
theorem q1059 : (Jvm.Cond.instanceMethod ({ cls := "ChildSays$Street", name := "<init>", desc := "(Ljava/lang/String;I)V" } : Jvm.MethodName)) ∈ lw_all := lw_g (lw_at lw_m4 193 rfl) rfl
theorem q1060 : (Jvm.Cond.code ({ cls := "ChildSays$Street", name := "<init>", desc := "(Ljava/lang/String;I)V" } : Jvm.MethodName) prog_15_method_1_code (3 : Nat) (Option.none : Option Jvm.ClassFile.FieldType)) ∈ lw_all := lw_g (lw_at lw_m4 194 rfl) rfl
theorem q1061 : (Jvm.Cond.methodLink "ChildSays$Street" (3 : Nat) ({ cls := "ChildSays$Named", name := "<init>", desc := "(Ljava/lang/String;I)V" } : Jvm.MethodName)) ∈ lw_all := lw_g (lw_at lw_m4 195 rfl) rfl
theorem q1062 : (Jvm.Cond.classLink "ChildSays$Street" (9 : Nat) "ChildSays$Word") ∈ lw_all := lw_g (lw_at lw_m4 196 rfl) rfl
theorem q1063 : (Jvm.Cond.fieldLink "ChildSays$Street" (11 : Nat) "ChildSays$Street" "says" "[LChildSays$Word;") ∈ lw_all := lw_g (lw_at lw_m4 197 rfl) rfl
theorem q1064 : (Jvm.Cond.fieldLink "ChildSays$Reader" (179 : Nat) "ChildSays$Street" "says" "[LChildSays$Word;") ∈ lw_all := lw_g (lw_at lw_m4 198 rfl) rfl
theorem q1065 : (Jvm.Cond.laysFinal "ChildSays$Street" "ChildSays$Street" "says" "[LChildSays$Word;") ∈ lw_all := lw_g (lw_at lw_m4 199 rfl) rfl
theorem q1066 : (Jvm.Cond.soleField "ChildSays$Street" "says") ∈ lw_all := lw_g (lw_at lw_m4 200 rfl) rfl
theorem q1067 : (Jvm.Cond.laysFinal "ChildSays$Street" "ChildSays$Named" "name" "Ljava/lang/String;") ∈ lw_all := lw_g (lw_at lw_m4 201 rfl) rfl
theorem q1068 : (Jvm.Cond.laysFinal "ChildSays$Street" "ChildSays$Named" "number" "I") ∈ lw_all := lw_g (lw_at lw_m4 202 rfl) rfl
theorem q1069 : (Jvm.Cond.superclass "ChildSays$Street" "ChildSays$Named") ∈ lw_all := lw_g (lw_at lw_m4 203 rfl) rfl
theorem q1070 : (Jvm.Cond.methodLink "ChildSays$Reader" (175 : Nat) ({ cls := "ChildSays$Reader", name := "known", desc := "(Ljava/util/ArrayList;)LChildSays$Named;" } : Jvm.MethodName)) ∈ lw_all := lw_g (lw_at lw_m4 204 rfl) rfl
theorem q1071 : (Jvm.Cond.privateMethod ({ cls := "ChildSays$Reader", name := "known", desc := "(Ljava/util/ArrayList;)LChildSays$Named;" } : Jvm.MethodName)) ∈ lw_tbl := lw_at lw_m4 205 rfl
theorem q1072 : (Jvm.Cond.instanceMethod ({ cls := "ChildSays$Reader", name := "known", desc := "(Ljava/util/ArrayList;)LChildSays$Named;" } : Jvm.MethodName)) ∈ lw_all := lw_g (lw_at lw_m4 206 rfl) rfl
theorem q1073 : (Jvm.Cond.code ({ cls := "ChildSays$Reader", name := "known", desc := "(Ljava/util/ArrayList;)LChildSays$Named;" } : Jvm.MethodName) prog_10_method_16_code (3 : Nat) (Option.some (Jvm.ClassFile.FieldType.object "ChildSays$Named"))) ∈ lw_all := lw_g (lw_at lw_m4 207 rfl) rfl
theorem q1074 : (Jvm.Cond.methodLinkNest "ChildSays$Reader" (115 : Nat) ({ cls := "ChildSays", name := "named", desc := "(Ljava/util/ArrayList;Ljava/lang/String;)LChildSays$Named;" } : Jvm.MethodName) "ChildSays") ∈ lw_tbl := lw_at lw_m4 208 rfl
theorem q1075 : (Jvm.Cond.stringRef "ChildSays$Reader" (184 : Nat) "as") ∈ lw_tbl := lw_at lw_m4 209 rfl
theorem q1076 : (Jvm.Cond.stringRef "ChildSays$Reader" (258 : Nat) "child") ∈ lw_tbl := lw_at lw_m4 210 rfl
theorem q1077 : (Jvm.Cond.methodLink "ChildSays$Reader" (260 : Nat) ({ cls := "ChildSays$Reader", name := "child", desc := "(I)V" } : Jvm.MethodName)) ∈ lw_all := lw_g (lw_at lw_m4 211 rfl) rfl
theorem q1078 : (Jvm.Cond.privateMethod ({ cls := "ChildSays$Reader", name := "child", desc := "(I)V" } : Jvm.MethodName)) ∈ lw_tbl := lw_at lw_m4 212 rfl
theorem q1079 : (Jvm.Cond.instanceMethod ({ cls := "ChildSays$Reader", name := "child", desc := "(I)V" } : Jvm.MethodName)) ∈ lw_all := lw_g (lw_at lw_m4 213 rfl) rfl
theorem q1080 : (Jvm.Cond.code ({ cls := "ChildSays$Reader", name := "child", desc := "(I)V" } : Jvm.MethodName) prog_10_method_19_code (5 : Nat) (Option.none : Option Jvm.ClassFile.FieldType)) ∈ lw_all := lw_g (lw_at lw_m4 214 rfl) rfl
theorem q1081 : (Jvm.Cond.stringRef "ChildSays$Reader" (189 : Nat) "of") ∈ lw_tbl := lw_at lw_m4 215 rfl
theorem q1082 : (Jvm.Cond.classLink "ChildSays$Reader" (191 : Nat) "ChildSays$Child") ∈ lw_all := lw_g (lw_at lw_m4 216 rfl) rfl
theorem q1083 : (Jvm.Cond.instantiable "ChildSays$Child" (7 : Nat)) ∈ lw_all := lw_g (lw_at lw_m4 217 rfl) rfl
theorem q1084 : (Jvm.Cond.methodLink "ChildSays$Reader" (193 : Nat) ({ cls := "ChildSays$Child", name := "<init>", desc := "(Ljava/lang/String;ILChildSays$Street;)V" } : Jvm.MethodName)) ∈ lw_all := lw_g (lw_at lw_m4 218 rfl) rfl
theorem q1085 : (Jvm.Cond.instanceMethod ({ cls := "ChildSays$Child", name := "<init>", desc := "(Ljava/lang/String;ILChildSays$Street;)V" } : Jvm.MethodName)) ∈ lw_all := lw_g (lw_at lw_m4 219 rfl) rfl
theorem q1086 : (Jvm.Cond.code ({ cls := "ChildSays$Child", name := "<init>", desc := "(Ljava/lang/String;ILChildSays$Street;)V" } : Jvm.MethodName) prog_3_method_1_code (4 : Nat) (Option.none : Option Jvm.ClassFile.FieldType)) ∈ lw_all := lw_g (lw_at lw_m4 220 rfl) rfl
theorem q1087 : (Jvm.Cond.methodLink "ChildSays$Child" (3 : Nat) ({ cls := "ChildSays$Named", name := "<init>", desc := "(Ljava/lang/String;I)V" } : Jvm.MethodName)) ∈ lw_all := lw_g (lw_at lw_m4 221 rfl) rfl
theorem q1088 : (Jvm.Cond.classLink "ChildSays$Child" (15 : Nat) "ChildSays$Word") ∈ lw_all := lw_g (lw_at lw_m4 222 rfl) rfl
theorem q1089 : (Jvm.Cond.fieldLink "ChildSays$Child" (21 : Nat) "ChildSays$Child" "street" "LChildSays$Street;") ∈ lw_all := lw_g (lw_at lw_m4 223 rfl) rfl
theorem q1090 : (Jvm.Cond.fieldLink "ChildSays" (281 : Nat) "ChildSays$Child" "street" "LChildSays$Street;") ∈ lw_all := lw_g (lw_at lw_m4 224 rfl) rfl
theorem q1091 : (Jvm.Cond.fieldLink "ChildSays$Round" (35 : Nat) "ChildSays$Child" "holds" "I") ∈ lw_all := lw_g (lw_at lw_m4 225 rfl) rfl
theorem q1092 : (Jvm.Cond.fieldLink "ChildSays$Saying" (89 : Nat) "ChildSays$Child" "holds" "I") ∈ lw_all := lw_g (lw_at lw_m4 226 rfl) rfl
theorem q1093 : (Jvm.Cond.fieldLink "ChildSays$Reader" (198 : Nat) "ChildSays$Child" "holds" "I") ∈ lw_all := lw_g (lw_at lw_m4 227 rfl) rfl
theorem q1094 : (Jvm.Cond.fieldLink "ChildSays" (290 : Nat) "ChildSays$Child" "holds" "I") ∈ lw_all := lw_g (lw_at lw_m4 228 rfl) rfl
theorem q1095 : (Jvm.Cond.fieldLink "ChildSays$Reader" (203 : Nat) "ChildSays$Child" "known" "I") ∈ lw_all := lw_g (lw_at lw_m4 229 rfl) rfl
theorem q1096 : (Jvm.Cond.fieldLink "ChildSays" (293 : Nat) "ChildSays$Child" "known" "I") ∈ lw_all := lw_g (lw_at lw_m4 230 rfl) rfl
theorem q1097 : (Jvm.Cond.fieldLink "ChildSays$Child" (9 : Nat) "ChildSays$Child" "knows" "[Z") ∈ lw_all := lw_g (lw_at lw_m4 231 rfl) rfl
theorem q1098 : (Jvm.Cond.fieldLink "ChildSays$Reader" (200 : Nat) "ChildSays$Child" "knows" "[Z") ∈ lw_all := lw_g (lw_at lw_m4 232 rfl) rfl
theorem q1099 : (Jvm.Cond.fieldLink "ChildSays$Child" (17 : Nat) "ChildSays$Child" "says" "[LChildSays$Word;") ∈ lw_all := lw_g (lw_at lw_m4 233 rfl) rfl
theorem q1100 : (Jvm.Cond.fieldLink "ChildSays$Saying" (22 : Nat) "ChildSays$Child" "says" "[LChildSays$Word;") ∈ lw_all := lw_g (lw_at lw_m4 234 rfl) rfl
theorem q1101 : (Jvm.Cond.fieldLink "ChildSays" (332 : Nat) "ChildSays$Child" "says" "[LChildSays$Word;") ∈ lw_all := lw_g (lw_at lw_m4 235 rfl) rfl
theorem q1102 : (Jvm.Cond.laysFinal "ChildSays$Child" "ChildSays$Child" "street" "LChildSays$Street;") ∈ lw_all := lw_g (lw_at lw_m4 236 rfl) rfl
theorem q1103 : (Jvm.Cond.soleField "ChildSays$Child" "street") ∈ lw_all := lw_g (lw_at lw_m4 237 rfl) rfl
theorem q1104 : (Jvm.Cond.lays "ChildSays$Child" "ChildSays$Child" "holds" "I") ∈ lw_all := lw_g (lw_at lw_m4 238 rfl) rfl
theorem q1105 : (Jvm.Cond.soleField "ChildSays$Child" "holds") ∈ lw_all := lw_g (lw_at lw_m4 239 rfl) rfl
theorem q1106 : (Jvm.Cond.lays "ChildSays$Child" "ChildSays$Child" "known" "I") ∈ lw_all := lw_g (lw_at lw_m5 0 rfl) rfl
theorem q1107 : (Jvm.Cond.soleField "ChildSays$Child" "known") ∈ lw_all := lw_g (lw_at lw_m5 1 rfl) rfl
theorem q1108 : (Jvm.Cond.laysFinal "ChildSays$Child" "ChildSays$Child" "knows" "[Z") ∈ lw_all := lw_g (lw_at lw_m5 2 rfl) rfl
theorem q1109 : (Jvm.Cond.soleField "ChildSays$Child" "knows") ∈ lw_all := lw_g (lw_at lw_m5 3 rfl) rfl
theorem q1110 : (Jvm.Cond.laysFinal "ChildSays$Child" "ChildSays$Child" "says" "[LChildSays$Word;") ∈ lw_all := lw_g (lw_at lw_m5 4 rfl) rfl
theorem q1111 : (Jvm.Cond.soleField "ChildSays$Child" "says") ∈ lw_all := lw_g (lw_at lw_m5 5 rfl) rfl
theorem q1112 : (Jvm.Cond.laysFinal "ChildSays$Child" "ChildSays$Named" "name" "Ljava/lang/String;") ∈ lw_all := lw_g (lw_at lw_m5 6 rfl) rfl
theorem q1113 : (Jvm.Cond.laysFinal "ChildSays$Child" "ChildSays$Named" "number" "I") ∈ lw_all := lw_g (lw_at lw_m5 7 rfl) rfl
theorem q1114 : (Jvm.Cond.superclass "ChildSays$Child" "ChildSays$Named") ∈ lw_all := lw_g (lw_at lw_m5 8 rfl) rfl
theorem q1115 : (Jvm.Cond.arrayClass Jvm.ClassFile.FieldType.boolean) ∈ lw_all := lw_g (lw_at lw_m5 9 rfl) rfl
theorem q1116 : (Jvm.Cond.stringRef "ChildSays$Reader" (196 : Nat) "holds") ∈ lw_tbl := lw_at lw_m5 10 rfl
theorem q1117 : (Jvm.Cond.stringRef "ChildSays$Reader" (262 : Nat) "law") ∈ lw_tbl := lw_at lw_m5 11 rfl
theorem q1118 : (Jvm.Cond.methodLink "ChildSays$Reader" (264 : Nat) ({ cls := "ChildSays$Reader", name := "law", desc := "(I)V" } : Jvm.MethodName)) ∈ lw_all := lw_g (lw_at lw_m5 12 rfl) rfl
theorem q1119 : (Jvm.Cond.privateMethod ({ cls := "ChildSays$Reader", name := "law", desc := "(I)V" } : Jvm.MethodName)) ∈ lw_tbl := lw_at lw_m5 13 rfl
theorem q1120 : (Jvm.Cond.instanceMethod ({ cls := "ChildSays$Reader", name := "law", desc := "(I)V" } : Jvm.MethodName)) ∈ lw_all := lw_g (lw_at lw_m5 14 rfl) rfl
theorem q1121 : (Jvm.Cond.code ({ cls := "ChildSays$Reader", name := "law", desc := "(I)V" } : Jvm.MethodName) prog_10_method_24_code (3 : Nat) (Option.none : Option Jvm.ClassFile.FieldType)) ∈ lw_all := lw_g (lw_at lw_m5 15 rfl) rfl
theorem q1122 : (Jvm.Cond.classLink "ChildSays$Reader" (233 : Nat) "ChildSays$Law") ∈ lw_all := lw_g (lw_at lw_m5 16 rfl) rfl
theorem q1123 : (Jvm.Cond.instantiable "ChildSays$Law" (4 : Nat)) ∈ lw_all := lw_g (lw_at lw_m5 17 rfl) rfl
theorem q1124 : (Jvm.Cond.methodLink "ChildSays$Reader" (235 : Nat) ({ cls := "ChildSays$Law", name := "<init>", desc := "(Ljava/lang/String;I)V" } : Jvm.MethodName)) ∈ lw_all := lw_g (lw_at lw_m5 18 rfl) rfl
theorem q1125 : (Jvm.Cond.instanceMethod ({ cls := "ChildSays$Law", name := "<init>", desc := "(Ljava/lang/String;I)V" } : Jvm.MethodName)) ∈ lw_all := lw_g (lw_at lw_m5 19 rfl) rfl
theorem q1126 : (Jvm.Cond.code ({ cls := "ChildSays$Law", name := "<init>", desc := "(Ljava/lang/String;I)V" } : Jvm.MethodName) prog_5_method_1_code (3 : Nat) (Option.none : Option Jvm.ClassFile.FieldType)) ∈ lw_all := lw_g (lw_at lw_m5 20 rfl) rfl
theorem q1127 : (Jvm.Cond.methodLink "ChildSays$Law" (1 : Nat) ({ cls := "ChildSays$Named", name := "<init>", desc := "(Ljava/lang/String;I)V" } : Jvm.MethodName)) ∈ lw_all := lw_g (lw_at lw_m5 21 rfl) rfl
theorem q1128 : (Jvm.Cond.classLink "ChildSays$Law" (7 : Nat) "ChildSays$Row") ∈ lw_all := lw_g (lw_at lw_m5 22 rfl) rfl
theorem q1129 : (Jvm.Cond.methodLinkNest "ChildSays$Law" (9 : Nat) ({ cls := "ChildSays$Row", name := "<init>", desc := "()V" } : Jvm.MethodName) "ChildSays") ∈ lw_tbl := lw_at lw_m5 23 rfl
theorem q1130 : (Jvm.Cond.fieldLink "ChildSays$Law" (12 : Nat) "ChildSays$Law" "row" "LChildSays$Row;") ∈ lw_all := lw_g (lw_at lw_m5 24 rfl) rfl
theorem q1131 : (Jvm.Cond.fieldLink "ChildSays$Was" (64 : Nat) "ChildSays$Law" "row" "LChildSays$Row;") ∈ lw_all := lw_g (lw_at lw_m5 25 rfl) rfl
theorem q1132 : (Jvm.Cond.fieldLink "ChildSays$Put" (40 : Nat) "ChildSays$Law" "row" "LChildSays$Row;") ∈ lw_all := lw_g (lw_at lw_m5 26 rfl) rfl
theorem q1133 : (Jvm.Cond.fieldLink "ChildSays$Round" (58 : Nat) "ChildSays$Law" "row" "LChildSays$Row;") ∈ lw_all := lw_g (lw_at lw_m5 27 rfl) rfl
theorem q1134 : (Jvm.Cond.fieldLink "ChildSays$Town" (54 : Nat) "ChildSays$Law" "row" "LChildSays$Row;") ∈ lw_all := lw_g (lw_at lw_m5 28 rfl) rfl
theorem q1135 : (Jvm.Cond.fieldLink "ChildSays$Saying" (82 : Nat) "ChildSays$Law" "row" "LChildSays$Row;") ∈ lw_all := lw_g (lw_at lw_m5 29 rfl) rfl
theorem q1136 : (Jvm.Cond.fieldLink "ChildSays$Sitting" (57 : Nat) "ChildSays$Law" "row" "LChildSays$Row;") ∈ lw_all := lw_g (lw_at lw_m5 30 rfl) rfl
theorem q1137 : (Jvm.Cond.fieldLink "ChildSays$Order" (75 : Nat) "ChildSays$Law" "row" "LChildSays$Row;") ∈ lw_all := lw_g (lw_at lw_m5 31 rfl) rfl
theorem q1138 : (Jvm.Cond.fieldLink "ChildSays" (243 : Nat) "ChildSays$Law" "row" "LChildSays$Row;") ∈ lw_all := lw_g (lw_at lw_m5 32 rfl) rfl
theorem q1139 : (Jvm.Cond.fieldLink "ChildSays$Reader" (241 : Nat) "ChildSays$Law" "row" "LChildSays$Row;") ∈ lw_all := lw_g (lw_at lw_m5 33 rfl) rfl
theorem q1140 : (Jvm.Cond.fieldLink "ChildSays$Was" (74 : Nat) "ChildSays$Law" "sung" "Z") ∈ lw_all := lw_g (lw_at lw_m5 34 rfl) rfl
theorem q1141 : (Jvm.Cond.fieldLink "ChildSays$Round" (29 : Nat) "ChildSays$Law" "sung" "Z") ∈ lw_all := lw_g (lw_at lw_m5 35 rfl) rfl
theorem q1142 : (Jvm.Cond.fieldLink "ChildSays$Put" (50 : Nat) "ChildSays$Law" "sung" "Z") ∈ lw_all := lw_g (lw_at lw_m5 36 rfl) rfl
theorem q1143 : (Jvm.Cond.fieldLink "ChildSays$Saying" (85 : Nat) "ChildSays$Law" "sung" "Z") ∈ lw_all := lw_g (lw_at lw_m5 37 rfl) rfl
theorem q1144 : (Jvm.Cond.fieldLink "ChildSays$Reader" (238 : Nat) "ChildSays$Law" "sung" "Z") ∈ lw_all := lw_g (lw_at lw_m5 38 rfl) rfl
theorem q1145 : (Jvm.Cond.fieldLink "ChildSays" (302 : Nat) "ChildSays$Law" "sung" "Z") ∈ lw_all := lw_g (lw_at lw_m5 39 rfl) rfl
theorem q1146 : (Jvm.Cond.laysFinal "ChildSays$Law" "ChildSays$Law" "row" "LChildSays$Row;") ∈ lw_all := lw_g (lw_at lw_m5 40 rfl) rfl
theorem q1147 : (Jvm.Cond.soleField "ChildSays$Law" "row") ∈ lw_all := lw_g (lw_at lw_m5 41 rfl) rfl
theorem q1148 : (Jvm.Cond.lays "ChildSays$Law" "ChildSays$Law" "sung" "Z") ∈ lw_all := lw_g (lw_at lw_m5 42 rfl) rfl
theorem q1149 : (Jvm.Cond.soleField "ChildSays$Law" "sung") ∈ lw_all := lw_g (lw_at lw_m5 43 rfl) rfl
theorem q1150 : (Jvm.Cond.laysFinal "ChildSays$Law" "ChildSays$Named" "name" "Ljava/lang/String;") ∈ lw_all := lw_g (lw_at lw_m5 44 rfl) rfl
theorem q1151 : (Jvm.Cond.laysFinal "ChildSays$Law" "ChildSays$Named" "number" "I") ∈ lw_all := lw_g (lw_at lw_m5 45 rfl) rfl
theorem q1152 : (Jvm.Cond.superclass "ChildSays$Law" "ChildSays$Named") ∈ lw_all := lw_g (lw_at lw_m5 46 rfl) rfl
theorem q1153 : (Jvm.Cond.stringRef "ChildSays$Reader" (236 : Nat) "sung") ∈ lw_tbl := lw_at lw_m5 47 rfl
theorem q1154 : (Jvm.Cond.stringRef "ChildSays$Reader" (240 : Nat) "says") ∈ lw_tbl := lw_at lw_m5 48 rfl
theorem q1155 : (Jvm.Cond.methodLink "ChildSays$Reader" (226 : Nat) ({ cls := "ChildSays$Reader", name := "row", desc := "(LChildSays$Row;)LChildSays$Row;" } : Jvm.MethodName)) ∈ lw_all := lw_g (lw_at lw_m5 49 rfl) rfl
theorem q1156 : (Jvm.Cond.instanceMethod ({ cls := "ChildSays$Reader", name := "row", desc := "(LChildSays$Row;)LChildSays$Row;" } : Jvm.MethodName)) ∈ lw_all := lw_g (lw_at lw_m5 50 rfl) rfl
theorem q1157 : (Jvm.Cond.selects "ChildSays$Reader" ({ cls := "ChildSays$Reader", name := "row", desc := "(LChildSays$Row;)LChildSays$Row;" } : Jvm.MethodName) ({ cls := "ChildSays$Reader", name := "row", desc := "(LChildSays$Row;)LChildSays$Row;" } : Jvm.MethodName)) ∈ lw_all := lw_g (lw_at lw_m5 51 rfl) rfl
theorem q1158 : (Jvm.Cond.code ({ cls := "ChildSays$Reader", name := "row", desc := "(LChildSays$Row;)LChildSays$Row;" } : Jvm.MethodName) prog_10_method_22_code (2 : Nat) (Option.some (Jvm.ClassFile.FieldType.object "ChildSays$Row"))) ∈ lw_all := lw_g (lw_at lw_m5 52 rfl) rfl
theorem q1159 : (Jvm.Cond.methodLink "ChildSays$Reader" (216 : Nat) ({ cls := "ChildSays$Reader", name := "words", desc := "(LChildSays$Row;II)I" } : Jvm.MethodName)) ∈ lw_all := lw_g (lw_at lw_m5 53 rfl) rfl
theorem q1160 : (Jvm.Cond.privateMethod ({ cls := "ChildSays$Reader", name := "words", desc := "(LChildSays$Row;II)I" } : Jvm.MethodName)) ∈ lw_tbl := lw_at lw_m5 54 rfl
theorem q1161 : (Jvm.Cond.instanceMethod ({ cls := "ChildSays$Reader", name := "words", desc := "(LChildSays$Row;II)I" } : Jvm.MethodName)) ∈ lw_all := lw_g (lw_at lw_m5 55 rfl) rfl
theorem q1162 : (Jvm.Cond.code ({ cls := "ChildSays$Reader", name := "words", desc := "(LChildSays$Row;II)I" } : Jvm.MethodName) prog_10_method_21_code (6 : Nat) (Option.some Jvm.ClassFile.FieldType.int)) ∈ lw_all := lw_g (lw_at lw_m5 56 rfl) rfl
theorem q1163 : (Jvm.Cond.methodLink "ChildSays$Reader" (209 : Nat) ({ cls := "ChildSays$Reader", name := "ahead", desc := "()Ljava/lang/String;" } : Jvm.MethodName)) ∈ lw_all := lw_g (lw_at lw_m5 57 rfl) rfl
theorem q1164 : (Jvm.Cond.privateMethod ({ cls := "ChildSays$Reader", name := "ahead", desc := "()Ljava/lang/String;" } : Jvm.MethodName)) ∈ lw_tbl := lw_at lw_m5 58 rfl
theorem q1165 : (Jvm.Cond.instanceMethod ({ cls := "ChildSays$Reader", name := "ahead", desc := "()Ljava/lang/String;" } : Jvm.MethodName)) ∈ lw_all := lw_g (lw_at lw_m5 59 rfl) rfl
theorem q1166 : (Jvm.Cond.code ({ cls := "ChildSays$Reader", name := "ahead", desc := "()Ljava/lang/String;" } : Jvm.MethodName) prog_10_method_20_code (3 : Nat) (Option.some (Jvm.ClassFile.FieldType.object "java/lang/String"))) ∈ lw_all := lw_g (lw_at lw_m5 60 rfl) rfl
theorem q1167 : (Jvm.Cond.methodLink "ChildSays$Reader" (212 : Nat) ({ cls := "java/lang/String", name := "isEmpty", desc := "()Z" } : Jvm.MethodName)) ∈ lw_all := lw_g (lw_at lw_m5 61 rfl) rfl
theorem q1168 : (Jvm.Cond.instanceMethod ({ cls := "java/lang/String", name := "isEmpty", desc := "()Z" } : Jvm.MethodName)) ∈ lw_all := lw_g (lw_at lw_m5 62 rfl) rfl
theorem q1169 : (Jvm.Cond.selects "java/lang/String" ({ cls := "java/lang/String", name := "isEmpty", desc := "()Z" } : Jvm.MethodName) ({ cls := "java/lang/String", name := "isEmpty", desc := "()Z" } : Jvm.MethodName)) ∈ lw_all := lw_g (lw_at lw_m5 63 rfl) rfl
theorem q1170 : (Jvm.Cond.code ({ cls := "java/lang/String", name := "isEmpty", desc := "()Z" } : Jvm.MethodName) prog_31_method_55_code (1 : Nat) (Option.some Jvm.ClassFile.FieldType.boolean)) ∈ lw_all := lw_g (lw_at lw_m5 64 rfl) rfl
theorem q1171 : (Jvm.Cond.stringRef "ChildSays$Reader" (222 : Nat) "but") ∈ lw_tbl := lw_at lw_m5 65 rfl
theorem q1172 : (Jvm.Cond.stringRef "ChildSays$Reader" (266 : Nat) "head") ∈ lw_tbl := lw_at lw_m5 66 rfl
theorem q1173 : (Jvm.Cond.stringRef "ChildSays$Reader" (270 : Nat) "mend") ∈ lw_tbl := lw_at lw_m5 67 rfl
theorem q1174 : (Jvm.Cond.stringRef "ChildSays$Reader" (274 : Nat) "tune") ∈ lw_tbl := lw_at lw_m5 68 rfl
theorem q1175 : (Jvm.Cond.methodLink "ChildSays$Reader" (278 : Nat) ({ cls := "ChildSays$Reader", name := "asks", desc := "(C)V" } : Jvm.MethodName)) ∈ lw_all := lw_g (lw_at lw_m5 69 rfl) rfl
theorem q1176 : (Jvm.Cond.privateMethod ({ cls := "ChildSays$Reader", name := "asks", desc := "(C)V" } : Jvm.MethodName)) ∈ lw_tbl := lw_at lw_m5 70 rfl
theorem q1177 : (Jvm.Cond.instanceMethod ({ cls := "ChildSays$Reader", name := "asks", desc := "(C)V" } : Jvm.MethodName)) ∈ lw_all := lw_g (lw_at lw_m5 71 rfl) rfl
theorem q1178 : (Jvm.Cond.code ({ cls := "ChildSays$Reader", name := "asks", desc := "(C)V" } : Jvm.MethodName) prog_10_method_10_code (2 : Nat) (Option.none : Option Jvm.ClassFile.FieldType)) ∈ lw_all := lw_g (lw_at lw_m5 72 rfl) rfl
theorem q1179 : (Jvm.Cond.methodLink "ChildSays$Reader" (90 : Nat) ({ cls := "ChildSays$Reader", name := "takes", desc := "(C)Z" } : Jvm.MethodName)) ∈ lw_all := lw_g (lw_at lw_m5 73 rfl) rfl
theorem q1180 : (Jvm.Cond.privateMethod ({ cls := "ChildSays$Reader", name := "takes", desc := "(C)Z" } : Jvm.MethodName)) ∈ lw_tbl := lw_at lw_m5 74 rfl
theorem q1181 : (Jvm.Cond.instanceMethod ({ cls := "ChildSays$Reader", name := "takes", desc := "(C)Z" } : Jvm.MethodName)) ∈ lw_all := lw_g (lw_at lw_m5 75 rfl) rfl
theorem q1182 : (Jvm.Cond.code ({ cls := "ChildSays$Reader", name := "takes", desc := "(C)Z" } : Jvm.MethodName) prog_10_method_8_code (2 : Nat) (Option.some Jvm.ClassFile.FieldType.boolean)) ∈ lw_all := lw_g (lw_at lw_m5 76 rfl) rfl
theorem q1183 : (Jvm.Cond.methodLink "ChildSays$Reader" (83 : Nat) ({ cls := "ChildSays$Reader", name := "isSign", desc := "(C)Z" } : Jvm.MethodName)) ∈ lw_all := lw_g (lw_at lw_m5 77 rfl) rfl
theorem q1184 : (Jvm.Cond.privateMethod ({ cls := "ChildSays$Reader", name := "isSign", desc := "(C)Z" } : Jvm.MethodName)) ∈ lw_tbl := lw_at lw_m5 78 rfl
theorem q1185 : (Jvm.Cond.instanceMethod ({ cls := "ChildSays$Reader", name := "isSign", desc := "(C)Z" } : Jvm.MethodName)) ∈ lw_all := lw_g (lw_at lw_m5 79 rfl) rfl
theorem q1186 : (Jvm.Cond.code ({ cls := "ChildSays$Reader", name := "isSign", desc := "(C)Z" } : Jvm.MethodName) prog_10_method_6_code (2 : Nat) (Option.some Jvm.ClassFile.FieldType.boolean)) ∈ lw_all := lw_g (lw_at lw_m5 80 rfl) rfl
theorem q1187 : (Jvm.Cond.methodLink "ChildSays$Reader" (287 : Nat) ({ cls := "java/util/ArrayList", name := "get", desc := "(I)Ljava/lang/Object;" } : Jvm.MethodName)) ∈ lw_all := lw_g (lw_at lw_m5 81 rfl) rfl
theorem q1188 : (Jvm.Cond.methodLink "ChildSays$Reader" (291 : Nat) ({ cls := "ChildSays$Child", name := "learns", desc := "(LChildSays$Town;)V" } : Jvm.MethodName)) ∈ lw_all := lw_g (lw_at lw_m5 82 rfl) rfl
theorem q1189 : (Jvm.Cond.instanceMethod ({ cls := "ChildSays$Child", name := "learns", desc := "(LChildSays$Town;)V" } : Jvm.MethodName)) ∈ lw_all := lw_g (lw_at lw_m5 83 rfl) rfl
theorem q1190 : (Jvm.Cond.selects "ChildSays$Child" ({ cls := "ChildSays$Child", name := "learns", desc := "(LChildSays$Town;)V" } : Jvm.MethodName) ({ cls := "ChildSays$Child", name := "learns", desc := "(LChildSays$Town;)V" } : Jvm.MethodName)) ∈ lw_all := lw_g (lw_at lw_m5 84 rfl) rfl
theorem q1191 : (Jvm.Cond.code ({ cls := "ChildSays$Child", name := "learns", desc := "(LChildSays$Town;)V" } : Jvm.MethodName) prog_3_method_2_code (3 : Nat) (Option.none : Option Jvm.ClassFile.FieldType)) ∈ lw_all := lw_g (lw_at lw_m5 85 rfl) rfl
theorem q1192 : (Jvm.Cond.methodLink "ChildSays$Child" (31 : Nat) ({ cls := "java/util/ArrayList", name := "size", desc := "()I" } : Jvm.MethodName)) ∈ lw_all := lw_g (lw_at lw_m5 86 rfl) rfl
theorem q1193 : (Jvm.Cond.methodLink "ChildSays$Child" (37 : Nat) ({ cls := "java/util/ArrayList", name := "get", desc := "(I)Ljava/lang/Object;" } : Jvm.MethodName)) ∈ lw_all := lw_g (lw_at lw_m5 87 rfl) rfl
theorem q1194 : (Jvm.Cond.methodLink "ChildSays$Child" (41 : Nat) ({ cls := "ChildSays$Street", name := "heard", desc := "(LChildSays$Word;)LChildSays$Word;" } : Jvm.MethodName)) ∈ lw_all := lw_g (lw_at lw_m5 88 rfl) rfl
theorem q1195 : (Jvm.Cond.instanceMethod ({ cls := "ChildSays$Street", name := "heard", desc := "(LChildSays$Word;)LChildSays$Word;" } : Jvm.MethodName)) ∈ lw_all := lw_g (lw_at lw_m5 89 rfl) rfl
theorem q1196 : (Jvm.Cond.selects "ChildSays$Street" ({ cls := "ChildSays$Street", name := "heard", desc := "(LChildSays$Word;)LChildSays$Word;" } : Jvm.MethodName) ({ cls := "ChildSays$Street", name := "heard", desc := "(LChildSays$Word;)LChildSays$Word;" } : Jvm.MethodName)) ∈ lw_all := lw_g (lw_at lw_m5 90 rfl) rfl
theorem q1197 : (Jvm.Cond.code ({ cls := "ChildSays$Street", name := "heard", desc := "(LChildSays$Word;)LChildSays$Word;" } : Jvm.MethodName) prog_15_method_2_code (2 : Nat) (Option.some (Jvm.ClassFile.FieldType.object "ChildSays$Word"))) ∈ lw_all := lw_g (lw_at lw_m5 91 rfl) rfl
theorem q1198 : (Jvm.Cond.methodLink "ChildSays$Child" (47 : Nat) ({ cls := "ChildSays$Child", name := "nearest", desc := "(LChildSays$Word;LChildSays$Town;)LChildSays$Word;" } : Jvm.MethodName)) ∈ lw_all := lw_g (lw_at lw_m5 92 rfl) rfl
theorem q1199 : (Jvm.Cond.privateMethod ({ cls := "ChildSays$Child", name := "nearest", desc := "(LChildSays$Word;LChildSays$Town;)LChildSays$Word;" } : Jvm.MethodName)) ∈ lw_tbl := lw_at lw_m5 93 rfl
theorem q1200 : (Jvm.Cond.instanceMethod ({ cls := "ChildSays$Child", name := "nearest", desc := "(LChildSays$Word;LChildSays$Town;)LChildSays$Word;" } : Jvm.MethodName)) ∈ lw_all := lw_g (lw_at lw_m5 94 rfl) rfl
theorem q1201 : (Jvm.Cond.code ({ cls := "ChildSays$Child", name := "nearest", desc := "(LChildSays$Word;LChildSays$Town;)LChildSays$Word;" } : Jvm.MethodName) prog_3_method_3_code (7 : Nat) (Option.some (Jvm.ClassFile.FieldType.object "ChildSays$Word"))) ∈ lw_all := lw_g (lw_at lw_m5 95 rfl) rfl
theorem q1202 : (Jvm.Cond.methodLink "ChildSays$Child" (58 : Nat) ({ cls := "ChildSays$Word", name := "alike", desc := "(LChildSays$Word;)I" } : Jvm.MethodName)) ∈ lw_all := lw_g (lw_at lw_m5 96 rfl) rfl
theorem q1203 : (Jvm.Cond.instanceMethod ({ cls := "ChildSays$Word", name := "alike", desc := "(LChildSays$Word;)I" } : Jvm.MethodName)) ∈ lw_all := lw_g (lw_at lw_m5 97 rfl) rfl
theorem q1204 : (Jvm.Cond.selects "ChildSays$Word" ({ cls := "ChildSays$Word", name := "alike", desc := "(LChildSays$Word;)I" } : Jvm.MethodName) ({ cls := "ChildSays$Word", name := "alike", desc := "(LChildSays$Word;)I" } : Jvm.MethodName)) ∈ lw_all := lw_g (lw_at lw_m5 98 rfl) rfl
theorem q1205 : (Jvm.Cond.code ({ cls := "ChildSays$Word", name := "alike", desc := "(LChildSays$Word;)I" } : Jvm.MethodName) prog_19_method_2_code (2 : Nat) (Option.some Jvm.ClassFile.FieldType.int)) ∈ lw_all := lw_g (lw_at lw_m5 99 rfl) rfl
theorem q1206 : (Jvm.Cond.methodLink "ChildSays" (168 : Nat) ({ cls := "ChildSays", name := "wrong", desc := "(LChildSays$Fault;I)I" } : Jvm.MethodName)) ∈ lw_all := lw_g (lw_at lw_m5 100 rfl) rfl
theorem q1207 : (Jvm.Cond.privateMethod ({ cls := "ChildSays", name := "wrong", desc := "(LChildSays$Fault;I)I" } : Jvm.MethodName)) ∈ lw_tbl := lw_at lw_m5 101 rfl
theorem q1208 : (Jvm.Cond.instanceMethod ({ cls := "ChildSays", name := "wrong", desc := "(LChildSays$Fault;I)I" } : Jvm.MethodName)) ∈ lw_all := lw_g (lw_at lw_m5 102 rfl) rfl
theorem q1209 : (Jvm.Cond.code ({ cls := "ChildSays", name := "wrong", desc := "(LChildSays$Fault;I)I" } : Jvm.MethodName) prog_1_method_12_code (3 : Nat) (Option.some Jvm.ClassFile.FieldType.int)) ∈ lw_all := lw_g (lw_at lw_m5 103 rfl) rfl
theorem q1210 : (Jvm.Cond.methodLink "ChildSays" (172 : Nat) ({ cls := "ChildSays", name := "isRight", desc := "()V" } : Jvm.MethodName)) ∈ lw_all := lw_g (lw_at lw_m5 104 rfl) rfl
theorem q1211 : (Jvm.Cond.privateMethod ({ cls := "ChildSays", name := "isRight", desc := "()V" } : Jvm.MethodName)) ∈ lw_tbl := lw_at lw_m5 105 rfl
theorem q1212 : (Jvm.Cond.instanceMethod ({ cls := "ChildSays", name := "isRight", desc := "()V" } : Jvm.MethodName)) ∈ lw_all := lw_g (lw_at lw_m5 106 rfl) rfl
theorem q1213 : (Jvm.Cond.code ({ cls := "ChildSays", name := "isRight", desc := "()V" } : Jvm.MethodName) prog_1_method_13_code (1 : Nat) (Option.none : Option Jvm.ClassFile.FieldType)) ∈ lw_all := lw_g (lw_at lw_m5 107 rfl) rfl
theorem q1214 : (Jvm.Cond.methodLink "ChildSays" (175 : Nat) ({ cls := "java/util/ArrayList", name := "clear", desc := "()V" } : Jvm.MethodName)) ∈ lw_all := lw_g (lw_at lw_m5 108 rfl) rfl
theorem q1215 : (Jvm.Cond.instanceMethod ({ cls := "java/util/ArrayList", name := "clear", desc := "()V" } : Jvm.MethodName)) ∈ lw_all := lw_g (lw_at lw_m5 109 rfl) rfl
theorem q1216 : (Jvm.Cond.selects "java/util/ArrayList" ({ cls := "java/util/ArrayList", name := "clear", desc := "()V" } : Jvm.MethodName) ({ cls := "java/util/ArrayList", name := "clear", desc := "()V" } : Jvm.MethodName)) ∈ lw_all := lw_g (lw_at lw_m5 110 rfl) rfl
theorem q1217 : (Jvm.Cond.code ({ cls := "java/util/ArrayList", name := "clear", desc := "()V" } : Jvm.MethodName) prog_41_method_40_code (4 : Nat) (Option.none : Option Jvm.ClassFile.FieldType)) ∈ lw_all := lw_g (lw_at lw_m5 111 rfl) rfl
theorem q1218 : (Jvm.Cond.methodLink "ChildSaysLaw" (28 : Nat) ({ cls := "ChildSays", name := "fault", desc := "(I)I" } : Jvm.MethodName)) ∈ lw_all := lw_g (lw_at lw_m5 112 rfl) rfl
theorem q1219 : (Jvm.Cond.instanceMethod ({ cls := "ChildSays", name := "fault", desc := "(I)I" } : Jvm.MethodName)) ∈ lw_all := lw_g (lw_at lw_m5 113 rfl) rfl
theorem q1220 : (Jvm.Cond.selects "ChildSays" ({ cls := "ChildSays", name := "fault", desc := "(I)I" } : Jvm.MethodName) ({ cls := "ChildSays", name := "fault", desc := "(I)I" } : Jvm.MethodName)) ∈ lw_all := lw_g (lw_at lw_m5 114 rfl) rfl
theorem q1221 : (Jvm.Cond.code ({ cls := "ChildSays", name := "fault", desc := "(I)I" } : Jvm.MethodName) prog_1_method_15_code (2 : Nat) (Option.some Jvm.ClassFile.FieldType.int)) ∈ lw_all := lw_g (lw_at lw_m5 115 rfl) rfl
theorem q1222 : (Jvm.Cond.methodLink "ChildSaysLaw" (106 : Nat) ({ cls := "ChildSays", name := "undo", desc := "()Z" } : Jvm.MethodName)) ∈ lw_all := lw_g (lw_at lw_m5 116 rfl) rfl
theorem q1223 : (Jvm.Cond.instanceMethod ({ cls := "ChildSays", name := "undo", desc := "()Z" } : Jvm.MethodName)) ∈ lw_all := lw_g (lw_at lw_m5 117 rfl) rfl
theorem q1224 : (Jvm.Cond.selects "ChildSays" ({ cls := "ChildSays", name := "undo", desc := "()Z" } : Jvm.MethodName) ({ cls := "ChildSays", name := "undo", desc := "()Z" } : Jvm.MethodName)) ∈ lw_all := lw_g (lw_at lw_m5 118 rfl) rfl
theorem q1225 : (Jvm.Cond.code ({ cls := "ChildSays", name := "undo", desc := "()Z" } : Jvm.MethodName) prog_1_method_17_code (1 : Nat) (Option.some Jvm.ClassFile.FieldType.boolean)) ∈ lw_all := lw_g (lw_at lw_m5 119 rfl) rfl
theorem q1226 : (Jvm.Cond.methodLink "ChildSays" (190 : Nat) ({ cls := "java/util/ArrayList", name := "isEmpty", desc := "()Z" } : Jvm.MethodName)) ∈ lw_all := lw_g (lw_at lw_m5 120 rfl) rfl
theorem q1227 : (Jvm.Cond.instanceMethod ({ cls := "java/util/ArrayList", name := "isEmpty", desc := "()Z" } : Jvm.MethodName)) ∈ lw_all := lw_g (lw_at lw_m5 121 rfl) rfl
theorem q1228 : (Jvm.Cond.selects "java/util/ArrayList" ({ cls := "java/util/ArrayList", name := "isEmpty", desc := "()Z" } : Jvm.MethodName) ({ cls := "java/util/ArrayList", name := "isEmpty", desc := "()Z" } : Jvm.MethodName)) ∈ lw_all := lw_g (lw_at lw_m5 122 rfl) rfl
theorem q1229 : (Jvm.Cond.code ({ cls := "java/util/ArrayList", name := "isEmpty", desc := "()Z" } : Jvm.MethodName) prog_41_method_9_code (1 : Nat) (Option.some Jvm.ClassFile.FieldType.boolean)) ∈ lw_all := lw_g (lw_at lw_m5 123 rfl) rfl
theorem q1230 : (Jvm.Cond.methodLink "ChildSays" (181 : Nat) ({ cls := "java/util/ArrayList", name := "remove", desc := "(I)Ljava/lang/Object;" } : Jvm.MethodName)) ∈ lw_all := lw_g (lw_at lw_m5 124 rfl) rfl
theorem q1231 : (Jvm.Cond.instanceMethod ({ cls := "java/util/ArrayList", name := "remove", desc := "(I)Ljava/lang/Object;" } : Jvm.MethodName)) ∈ lw_all := lw_g (lw_at lw_m5 125 rfl) rfl
theorem q1232 : (Jvm.Cond.selects "java/util/ArrayList" ({ cls := "java/util/ArrayList", name := "remove", desc := "(I)Ljava/lang/Object;" } : Jvm.MethodName) ({ cls := "java/util/ArrayList", name := "remove", desc := "(I)Ljava/lang/Object;" } : Jvm.MethodName)) ∈ lw_all := lw_g (lw_at lw_m5 126 rfl) rfl
theorem q1233 : (Jvm.Cond.code ({ cls := "java/util/ArrayList", name := "remove", desc := "(I)Ljava/lang/Object;" } : Jvm.MethodName) prog_41_method_29_code (4 : Nat) (Option.some (Jvm.ClassFile.FieldType.object "java/lang/Object"))) ∈ lw_all := lw_g (lw_at lw_m5 127 rfl) rfl
theorem q1234 : (Jvm.Cond.methodLink "java/util/ArrayList" (144 : Nat) ({ cls := "java/util/ArrayList", name := "fastRemove", desc := "([Ljava/lang/Object;I)V" } : Jvm.MethodName)) ∈ lw_all := lw_g (lw_at lw_m5 128 rfl) rfl
theorem q1235 : (Jvm.Cond.privateMethod ({ cls := "java/util/ArrayList", name := "fastRemove", desc := "([Ljava/lang/Object;I)V" } : Jvm.MethodName)) ∈ lw_tbl := lw_at lw_m5 129 rfl
theorem q1236 : (Jvm.Cond.instanceMethod ({ cls := "java/util/ArrayList", name := "fastRemove", desc := "([Ljava/lang/Object;I)V" } : Jvm.MethodName)) ∈ lw_all := lw_g (lw_at lw_m5 130 rfl) rfl
theorem q1237 : (Jvm.Cond.code ({ cls := "java/util/ArrayList", name := "fastRemove", desc := "([Ljava/lang/Object;I)V" } : Jvm.MethodName) prog_41_method_39_code (4 : Nat) (Option.none : Option Jvm.ClassFile.FieldType)) ∈ lw_all := lw_g (lw_at lw_m5 131 rfl) rfl
theorem q1238 : (Jvm.Cond.methodLink "java/util/ArrayList" (112 : Nat) ({ cls := "java/lang/System", name := "arraycopy", desc := "(Ljava/lang/Object;ILjava/lang/Object;II)V" } : Jvm.MethodName)) ∈ lw_all := lw_g (lw_at lw_m5 132 rfl) rfl
theorem q1239 : (Jvm.Cond.classLink "ChildSays" (184 : Nat) "ChildSays$Was") ∈ lw_all := lw_g (lw_at lw_m5 133 rfl) rfl
theorem q1240 : (Jvm.Cond.methodLink "ChildSays" (194 : Nat) ({ cls := "ChildSays$Was", name := "comesBack", desc := "()V" } : Jvm.MethodName)) ∈ lw_all := lw_g (lw_at lw_m5 134 rfl) rfl
theorem q1241 : (Jvm.Cond.instanceMethod ({ cls := "ChildSays$Was", name := "comesBack", desc := "()V" } : Jvm.MethodName)) ∈ lw_all := lw_g (lw_at lw_m5 135 rfl) rfl
theorem q1242 : (Jvm.Cond.selects "ChildSays$Was" ({ cls := "ChildSays$Was", name := "comesBack", desc := "()V" } : Jvm.MethodName) ({ cls := "ChildSays$Was", name := "comesBack", desc := "()V" } : Jvm.MethodName)) ∈ lw_all := lw_g (lw_at lw_m5 136 rfl) rfl
theorem q1243 : (Jvm.Cond.code ({ cls := "ChildSays$Was", name := "comesBack", desc := "()V" } : Jvm.MethodName) prog_18_method_2_code (2 : Nat) (Option.none : Option Jvm.ClassFile.FieldType)) ∈ lw_all := lw_g (lw_at lw_m5 137 rfl) rfl
theorem q1244 : (Jvm.Cond.methodLink "ChildSays$Was" (60 : Nat) ({ cls := "java/util/ArrayList", name := "get", desc := "(I)Ljava/lang/Object;" } : Jvm.MethodName)) ∈ lw_all := lw_g (lw_at lw_m5 138 rfl) rfl
theorem q1245 : (Jvm.Cond.classLink "ChildSays$Was" (45 : Nat) "ChildSays$Law") ∈ lw_all := lw_g (lw_at lw_m5 139 rfl) rfl
theorem q1246 : (Jvm.Cond.methodLink "ChildSays$Was" (68 : Nat) ({ cls := "ChildSays$Row", name := "like", desc := "(LChildSays$Row;)LChildSays$Row;" } : Jvm.MethodName)) ∈ lw_all := lw_g (lw_at lw_m5 140 rfl) rfl
theorem q1247 : (Jvm.Cond.instanceMethod ({ cls := "ChildSays$Row", name := "like", desc := "(LChildSays$Row;)LChildSays$Row;" } : Jvm.MethodName)) ∈ lw_all := lw_g (lw_at lw_m5 141 rfl) rfl
theorem q1248 : (Jvm.Cond.selects "ChildSays$Row" ({ cls := "ChildSays$Row", name := "like", desc := "(LChildSays$Row;)LChildSays$Row;" } : Jvm.MethodName) ({ cls := "ChildSays$Row", name := "like", desc := "(LChildSays$Row;)LChildSays$Row;" } : Jvm.MethodName)) ∈ lw_all := lw_g (lw_at lw_m5 142 rfl) rfl
theorem q1249 : (Jvm.Cond.code ({ cls := "ChildSays$Row", name := "like", desc := "(LChildSays$Row;)LChildSays$Row;" } : Jvm.MethodName) prog_12_method_5_code (3 : Nat) (Option.some (Jvm.ClassFile.FieldType.object "ChildSays$Row"))) ∈ lw_all := lw_g (lw_at lw_m5 143 rfl) rfl
theorem q1250 : (Jvm.Cond.methodLink "ChildSays$Row" (24 : Nat) ({ cls := "ChildSays$Row", name := "size", desc := "()I" } : Jvm.MethodName)) ∈ lw_all := lw_g (lw_at lw_m5 144 rfl) rfl
theorem q1251 : (Jvm.Cond.instanceMethod ({ cls := "ChildSays$Row", name := "size", desc := "()I" } : Jvm.MethodName)) ∈ lw_all := lw_g (lw_at lw_m5 145 rfl) rfl
theorem q1252 : (Jvm.Cond.selects "ChildSays$Row" ({ cls := "ChildSays$Row", name := "size", desc := "()I" } : Jvm.MethodName) ({ cls := "ChildSays$Row", name := "size", desc := "()I" } : Jvm.MethodName)) ∈ lw_all := lw_g (lw_at lw_m5 146 rfl) rfl
theorem q1253 : (Jvm.Cond.code ({ cls := "ChildSays$Row", name := "size", desc := "()I" } : Jvm.MethodName) prog_12_method_2_code (1 : Nat) (Option.some Jvm.ClassFile.FieldType.int)) ∈ lw_all := lw_g (lw_at lw_m5 147 rfl) rfl
theorem q1254 : (Jvm.Cond.methodLink "ChildSays$Was" (84 : Nat) ({ cls := "java/util/ArrayList", name := "set", desc := "(ILjava/lang/Object;)Ljava/lang/Object;" } : Jvm.MethodName)) ∈ lw_all := lw_g (lw_at lw_m5 148 rfl) rfl
theorem q1255 : (Jvm.Cond.instanceMethod ({ cls := "java/util/ArrayList", name := "set", desc := "(ILjava/lang/Object;)Ljava/lang/Object;" } : Jvm.MethodName)) ∈ lw_all := lw_g (lw_at lw_m5 149 rfl) rfl
theorem q1256 : (Jvm.Cond.selects "java/util/ArrayList" ({ cls := "java/util/ArrayList", name := "set", desc := "(ILjava/lang/Object;)Ljava/lang/Object;" } : Jvm.MethodName) ({ cls := "java/util/ArrayList", name := "set", desc := "(ILjava/lang/Object;)Ljava/lang/Object;" } : Jvm.MethodName)) ∈ lw_all := lw_g (lw_at lw_m5 150 rfl) rfl
theorem q1257 : (Jvm.Cond.code ({ cls := "java/util/ArrayList", name := "set", desc := "(ILjava/lang/Object;)Ljava/lang/Object;" } : Jvm.MethodName) prog_41_method_23_code (4 : Nat) (Option.some (Jvm.ClassFile.FieldType.object "java/lang/Object"))) ∈ lw_all := lw_g (lw_at lw_m5 151 rfl) rfl
theorem q1258 : (Jvm.Cond.methodLink "ChildSays$Was" (88 : Nat) ({ cls := "java/util/ArrayList", name := "clear", desc := "()V" } : Jvm.MethodName)) ∈ lw_all := lw_g (lw_at lw_m5 152 rfl) rfl
theorem q1259 : (Jvm.Cond.methodLink "ChildSays$Was" (30 : Nat) ({ cls := "java/util/ArrayList", name := "size", desc := "()I" } : Jvm.MethodName)) ∈ lw_all := lw_g (lw_at lw_m5 153 rfl) rfl
theorem q1260 : (Jvm.Cond.classLink "ChildSays$Was" (78 : Nat) "ChildSays$Line") ∈ lw_all := lw_g (lw_at lw_m5 154 rfl) rfl
theorem q1261 : (Jvm.Cond.methodLink "ChildSays$Was" (80 : Nat) ({ cls := "java/util/ArrayList", name := "add", desc := "(Ljava/lang/Object;)Z" } : Jvm.MethodName)) ∈ lw_all := lw_g (lw_at lw_m5 155 rfl) rfl
theorem q1262 : (Jvm.Cond.methodLink "ChildSaysLaw" (33 : Nat) ({ cls := "ChildSays", name := "has", desc := "(I)I" } : Jvm.MethodName)) ∈ lw_all := lw_g (lw_at lw_m5 156 rfl) rfl
theorem q1263 : (Jvm.Cond.instanceMethod ({ cls := "ChildSays", name := "has", desc := "(I)I" } : Jvm.MethodName)) ∈ lw_all := lw_g (lw_at lw_m5 157 rfl) rfl
theorem q1264 : (Jvm.Cond.selects "ChildSays" ({ cls := "ChildSays", name := "has", desc := "(I)I" } : Jvm.MethodName) ({ cls := "ChildSays", name := "has", desc := "(I)I" } : Jvm.MethodName)) ∈ lw_all := lw_g (lw_at lw_m5 158 rfl) rfl
theorem q1265 : (Jvm.Cond.code ({ cls := "ChildSays", name := "has", desc := "(I)I" } : Jvm.MethodName) prog_1_method_18_code (2 : Nat) (Option.some Jvm.ClassFile.FieldType.int)) ∈ lw_all := lw_g (lw_at lw_m5 159 rfl) rfl
theorem q1266 : (Jvm.Cond.methodLink "ChildSays" (209 : Nat) ({ cls := "ChildSays$Town", name := "standing", desc := "()I" } : Jvm.MethodName)) ∈ lw_all := lw_g (lw_at lw_m5 160 rfl) rfl
theorem q1267 : (Jvm.Cond.instanceMethod ({ cls := "ChildSays$Town", name := "standing", desc := "()I" } : Jvm.MethodName)) ∈ lw_all := lw_g (lw_at lw_m5 161 rfl) rfl
theorem q1268 : (Jvm.Cond.selects "ChildSays$Town" ({ cls := "ChildSays$Town", name := "standing", desc := "()I" } : Jvm.MethodName) ({ cls := "ChildSays$Town", name := "standing", desc := "()I" } : Jvm.MethodName)) ∈ lw_all := lw_g (lw_at lw_m5 162 rfl) rfl
theorem q1269 : (Jvm.Cond.code ({ cls := "ChildSays$Town", name := "standing", desc := "()I" } : Jvm.MethodName) prog_16_method_3_code (3 : Nat) (Option.some Jvm.ClassFile.FieldType.int)) ∈ lw_all := lw_g (lw_at lw_m5 163 rfl) rfl
theorem q1270 : (Jvm.Cond.methodLink "ChildSays$Town" (44 : Nat) ({ cls := "java/util/ArrayList", name := "size", desc := "()I" } : Jvm.MethodName)) ∈ lw_all := lw_g (lw_at lw_m5 164 rfl) rfl
theorem q1271 : (Jvm.Cond.methodLink "ChildSays$Town" (48 : Nat) ({ cls := "java/util/ArrayList", name := "get", desc := "(I)Ljava/lang/Object;" } : Jvm.MethodName)) ∈ lw_all := lw_g (lw_at lw_m5 165 rfl) rfl
theorem q1272 : (Jvm.Cond.classLink "ChildSays$Town" (52 : Nat) "ChildSays$Law") ∈ lw_all := lw_g (lw_at lw_m5 166 rfl) rfl
theorem q1273 : (Jvm.Cond.methodLink "ChildSays$Town" (58 : Nat) ({ cls := "ChildSays$Row", name := "isOne", desc := "()Z" } : Jvm.MethodName)) ∈ lw_all := lw_g (lw_at lw_m5 167 rfl) rfl
theorem q1274 : (Jvm.Cond.instanceMethod ({ cls := "ChildSays$Row", name := "isOne", desc := "()Z" } : Jvm.MethodName)) ∈ lw_all := lw_g (lw_at lw_m5 168 rfl) rfl
theorem q1275 : (Jvm.Cond.selects "ChildSays$Row" ({ cls := "ChildSays$Row", name := "isOne", desc := "()Z" } : Jvm.MethodName) ({ cls := "ChildSays$Row", name := "isOne", desc := "()Z" } : Jvm.MethodName)) ∈ lw_all := lw_g (lw_at lw_m5 169 rfl) rfl
theorem q1276 : (Jvm.Cond.code ({ cls := "ChildSays$Row", name := "isOne", desc := "()Z" } : Jvm.MethodName) prog_12_method_3_code (1 : Nat) (Option.some Jvm.ClassFile.FieldType.boolean)) ∈ lw_all := lw_g (lw_at lw_m5 170 rfl) rfl
theorem q1277 : (Jvm.Cond.methodLink "ChildSaysLaw" (37 : Nat) ({ cls := "ChildSays", name := "letter", desc := "(III)I" } : Jvm.MethodName)) ∈ lw_all := lw_g (lw_at lw_m5 171 rfl) rfl
theorem q1278 : (Jvm.Cond.instanceMethod ({ cls := "ChildSays", name := "letter", desc := "(III)I" } : Jvm.MethodName)) ∈ lw_all := lw_g (lw_at lw_m5 172 rfl) rfl
theorem q1279 : (Jvm.Cond.selects "ChildSays" ({ cls := "ChildSays", name := "letter", desc := "(III)I" } : Jvm.MethodName) ({ cls := "ChildSays", name := "letter", desc := "(III)I" } : Jvm.MethodName)) ∈ lw_all := lw_g (lw_at lw_m5 173 rfl) rfl
theorem q1280 : (Jvm.Cond.code ({ cls := "ChildSays", name := "letter", desc := "(III)I" } : Jvm.MethodName) prog_1_method_20_code (5 : Nat) (Option.some Jvm.ClassFile.FieldType.int)) ∈ lw_all := lw_g (lw_at lw_m5 174 rfl) rfl
theorem q1281 : (Jvm.Cond.constantLong "ChildSays" (227 : Nat) (3 : Int64)) ∈ lw_all := lw_g (lw_at lw_m5 175 rfl) rfl
theorem q1282 : (Jvm.Cond.methodLink "ChildSays" (229 : Nat) ({ cls := "ChildSays", name := "names", desc := "(I)Ljava/util/ArrayList;" } : Jvm.MethodName)) ∈ lw_all := lw_g (lw_at lw_m5 176 rfl) rfl
theorem q1283 : (Jvm.Cond.privateMethod ({ cls := "ChildSays", name := "names", desc := "(I)Ljava/util/ArrayList;" } : Jvm.MethodName)) ∈ lw_tbl := lw_at lw_m5 177 rfl
theorem q1284 : (Jvm.Cond.instanceMethod ({ cls := "ChildSays", name := "names", desc := "(I)Ljava/util/ArrayList;" } : Jvm.MethodName)) ∈ lw_all := lw_g (lw_at lw_m5 178 rfl) rfl
theorem q1285 : (Jvm.Cond.code ({ cls := "ChildSays", name := "names", desc := "(I)Ljava/util/ArrayList;" } : Jvm.MethodName) prog_1_method_19_code (2 : Nat) (Option.some (Jvm.ClassFile.FieldType.object "java/util/ArrayList"))) ∈ lw_all := lw_g (lw_at lw_m5 179 rfl) rfl
theorem q1286 : (Jvm.Cond.methodLink "ChildSaysLaw" (42 : Nat) ({ cls := "ChildSays", name := "word", desc := "(II)I" } : Jvm.MethodName)) ∈ lw_all := lw_g (lw_at lw_m5 180 rfl) rfl
theorem q1287 : (Jvm.Cond.instanceMethod ({ cls := "ChildSays", name := "word", desc := "(II)I" } : Jvm.MethodName)) ∈ lw_all := lw_g (lw_at lw_m5 181 rfl) rfl
theorem q1288 : (Jvm.Cond.selects "ChildSays" ({ cls := "ChildSays", name := "word", desc := "(II)I" } : Jvm.MethodName) ({ cls := "ChildSays", name := "word", desc := "(II)I" } : Jvm.MethodName)) ∈ lw_all := lw_g (lw_at lw_m5 182 rfl) rfl
theorem q1289 : (Jvm.Cond.code ({ cls := "ChildSays", name := "word", desc := "(II)I" } : Jvm.MethodName) prog_1_method_25_code (6 : Nat) (Option.some Jvm.ClassFile.FieldType.int)) ∈ lw_all := lw_g (lw_at lw_m5 183 rfl) rfl
theorem q1290 : (Jvm.Cond.methodLink "ChildSays" (249 : Nat) ({ cls := "ChildSays", name := "wordOf", desc := "(I)LChildSays$Word;" } : Jvm.MethodName)) ∈ lw_all := lw_g (lw_at lw_m5 184 rfl) rfl
theorem q1291 : (Jvm.Cond.privateMethod ({ cls := "ChildSays", name := "wordOf", desc := "(I)LChildSays$Word;" } : Jvm.MethodName)) ∈ lw_tbl := lw_at lw_m5 185 rfl
theorem q1292 : (Jvm.Cond.instanceMethod ({ cls := "ChildSays", name := "wordOf", desc := "(I)LChildSays$Word;" } : Jvm.MethodName)) ∈ lw_all := lw_g (lw_at lw_m5 186 rfl) rfl
theorem q1293 : (Jvm.Cond.code ({ cls := "ChildSays", name := "wordOf", desc := "(I)LChildSays$Word;" } : Jvm.MethodName) prog_1_method_21_code (2 : Nat) (Option.some (Jvm.ClassFile.FieldType.object "ChildSays$Word"))) ∈ lw_all := lw_g (lw_at lw_m5 187 rfl) rfl
theorem q1294 : (Jvm.Cond.classLink "ChildSays" (233 : Nat) "ChildSays$Word") ∈ lw_all := lw_g (lw_at lw_m5 188 rfl) rfl
theorem q1295 : (Jvm.Cond.classLink "ChildSays" (237 : Nat) "ChildSays$Law") ∈ lw_all := lw_g (lw_at lw_m5 189 rfl) rfl
theorem q1296 : (Jvm.Cond.methodLink "ChildSays" (253 : Nat) ({ cls := "ChildSays$Row", name := "has", desc := "(LChildSays$Word;)Z" } : Jvm.MethodName)) ∈ lw_all := lw_g (lw_at lw_m5 190 rfl) rfl
theorem q1297 : (Jvm.Cond.instanceMethod ({ cls := "ChildSays$Row", name := "has", desc := "(LChildSays$Word;)Z" } : Jvm.MethodName)) ∈ lw_all := lw_g (lw_at lw_m5 191 rfl) rfl
theorem q1298 : (Jvm.Cond.selects "ChildSays$Row" ({ cls := "ChildSays$Row", name := "has", desc := "(LChildSays$Word;)Z" } : Jvm.MethodName) ({ cls := "ChildSays$Row", name := "has", desc := "(LChildSays$Word;)Z" } : Jvm.MethodName)) ∈ lw_all := lw_g (lw_at lw_m5 192 rfl) rfl
theorem q1299 : (Jvm.Cond.code ({ cls := "ChildSays$Row", name := "has", desc := "(LChildSays$Word;)Z" } : Jvm.MethodName) prog_12_method_8_code (3 : Nat) (Option.some Jvm.ClassFile.FieldType.boolean)) ∈ lw_all := lw_g (lw_at lw_m5 193 rfl) rfl
theorem q1300 : (Jvm.Cond.methodLink "ChildSaysLaw" (47 : Nat) ({ cls := "ChildSays", name := "child", desc := "(II)I" } : Jvm.MethodName)) ∈ lw_all := lw_g (lw_at lw_m5 194 rfl) rfl
theorem q1301 : (Jvm.Cond.instanceMethod ({ cls := "ChildSays", name := "child", desc := "(II)I" } : Jvm.MethodName)) ∈ lw_all := lw_g (lw_at lw_m5 195 rfl) rfl
theorem q1302 : (Jvm.Cond.selects "ChildSays" ({ cls := "ChildSays", name := "child", desc := "(II)I" } : Jvm.MethodName) ({ cls := "ChildSays", name := "child", desc := "(II)I" } : Jvm.MethodName)) ∈ lw_all := lw_g (lw_at lw_m5 196 rfl) rfl
theorem q1303 : (Jvm.Cond.code ({ cls := "ChildSays", name := "child", desc := "(II)I" } : Jvm.MethodName) prog_1_method_26_code (6 : Nat) (Option.some Jvm.ClassFile.FieldType.int)) ∈ lw_all := lw_g (lw_at lw_m5 197 rfl) rfl
theorem q1304 : (Jvm.Cond.methodLink "ChildSays" (273 : Nat) ({ cls := "ChildSays", name := "childOf", desc := "(I)LChildSays$Child;" } : Jvm.MethodName)) ∈ lw_all := lw_g (lw_at lw_m5 198 rfl) rfl
theorem q1305 : (Jvm.Cond.privateMethod ({ cls := "ChildSays", name := "childOf", desc := "(I)LChildSays$Child;" } : Jvm.MethodName)) ∈ lw_tbl := lw_at lw_m5 199 rfl
theorem q1306 : (Jvm.Cond.instanceMethod ({ cls := "ChildSays", name := "childOf", desc := "(I)LChildSays$Child;" } : Jvm.MethodName)) ∈ lw_all := lw_g (lw_at lw_m5 200 rfl) rfl
theorem q1307 : (Jvm.Cond.code ({ cls := "ChildSays", name := "childOf", desc := "(I)LChildSays$Child;" } : Jvm.MethodName) prog_1_method_22_code (2 : Nat) (Option.some (Jvm.ClassFile.FieldType.object "ChildSays$Child"))) ∈ lw_all := lw_g (lw_at lw_m5 201 rfl) rfl
theorem q1308 : (Jvm.Cond.classLink "ChildSays" (235 : Nat) "ChildSays$Child") ∈ lw_all := lw_g (lw_at lw_m5 202 rfl) rfl
theorem q1309 : (Jvm.Cond.methodLink "ChildSays" (277 : Nat) ({ cls := "ChildSays", name := "stands", desc := "(LChildSays$Law;LChildSays$Child;)Z" } : Jvm.MethodName)) ∈ lw_all := lw_g (lw_at lw_m5 203 rfl) rfl
theorem q1310 : (Jvm.Cond.privateMethod ({ cls := "ChildSays", name := "stands", desc := "(LChildSays$Law;LChildSays$Child;)Z" } : Jvm.MethodName)) ∈ lw_tbl := lw_at lw_m5 204 rfl
theorem q1311 : (Jvm.Cond.instanceMethod ({ cls := "ChildSays", name := "stands", desc := "(LChildSays$Law;LChildSays$Child;)Z" } : Jvm.MethodName)) ∈ lw_all := lw_g (lw_at lw_m5 205 rfl) rfl
theorem q1312 : (Jvm.Cond.code ({ cls := "ChildSays", name := "stands", desc := "(LChildSays$Law;LChildSays$Child;)Z" } : Jvm.MethodName) prog_1_method_32_code (3 : Nat) (Option.some Jvm.ClassFile.FieldType.boolean)) ∈ lw_all := lw_g (lw_at lw_m5 206 rfl) rfl
theorem q1313 : (Jvm.Cond.methodLink "ChildSays" (246 : Nat) ({ cls := "ChildSays$Row", name := "isOne", desc := "()Z" } : Jvm.MethodName)) ∈ lw_all := lw_g (lw_at lw_m5 207 rfl) rfl
theorem q1314 : (Jvm.Cond.methodLink "ChildSays" (339 : Nat) ({ cls := "ChildSays$Saying", name := "of", desc := "(LChildSays$Child;LChildSays$Law;)LChildSays$Saying;" } : Jvm.MethodName)) ∈ lw_all := lw_g (lw_at lw_m5 208 rfl) rfl
theorem q1315 : (Jvm.Cond.instanceMethod ({ cls := "ChildSays$Saying", name := "of", desc := "(LChildSays$Child;LChildSays$Law;)LChildSays$Saying;" } : Jvm.MethodName)) ∈ lw_all := lw_g (lw_at lw_m5 209 rfl) rfl
theorem q1316 : (Jvm.Cond.selects "ChildSays$Saying" ({ cls := "ChildSays$Saying", name := "of", desc := "(LChildSays$Child;LChildSays$Law;)LChildSays$Saying;" } : Jvm.MethodName) ({ cls := "ChildSays$Saying", name := "of", desc := "(LChildSays$Child;LChildSays$Law;)LChildSays$Saying;" } : Jvm.MethodName)) ∈ lw_all := lw_g (lw_at lw_m5 210 rfl) rfl
theorem q1317 : (Jvm.Cond.code ({ cls := "ChildSays$Saying", name := "of", desc := "(LChildSays$Child;LChildSays$Law;)LChildSays$Saying;" } : Jvm.MethodName) prog_13_method_4_code (3 : Nat) (Option.some (Jvm.ClassFile.FieldType.object "ChildSays$Saying"))) ∈ lw_all := lw_g (lw_at lw_m5 211 rfl) rfl
theorem q1318 : (Jvm.Cond.methodLink "ChildSays$Saying" (92 : Nat) ({ cls := "ChildSays$Saying", name := "of", desc := "(LChildSays$Child;LChildSays$Row;ZI)LChildSays$Saying;" } : Jvm.MethodName)) ∈ lw_all := lw_g (lw_at lw_m5 212 rfl) rfl
theorem q1319 : (Jvm.Cond.instanceMethod ({ cls := "ChildSays$Saying", name := "of", desc := "(LChildSays$Child;LChildSays$Row;ZI)LChildSays$Saying;" } : Jvm.MethodName)) ∈ lw_all := lw_g (lw_at lw_m5 213 rfl) rfl
theorem q1320 : (Jvm.Cond.selects "ChildSays$Saying" ({ cls := "ChildSays$Saying", name := "of", desc := "(LChildSays$Child;LChildSays$Row;ZI)LChildSays$Saying;" } : Jvm.MethodName) ({ cls := "ChildSays$Saying", name := "of", desc := "(LChildSays$Child;LChildSays$Row;ZI)LChildSays$Saying;" } : Jvm.MethodName)) ∈ lw_all := lw_g (lw_at lw_m5 214 rfl) rfl
theorem q1321 : (Jvm.Cond.code ({ cls := "ChildSays$Saying", name := "of", desc := "(LChildSays$Child;LChildSays$Row;ZI)LChildSays$Saying;" } : Jvm.MethodName) prog_13_method_3_code (5 : Nat) (Option.some (Jvm.ClassFile.FieldType.object "ChildSays$Saying"))) ∈ lw_all := lw_g (lw_at lw_m5 215 rfl) rfl
theorem q1322 : (Jvm.Cond.methodLink "ChildSays$Saying" (48 : Nat) ({ cls := "ChildSays$Row", name := "empty", desc := "()LChildSays$Row;" } : Jvm.MethodName)) ∈ lw_all := lw_g (lw_at lw_m5 216 rfl) rfl
theorem q1323 : (Jvm.Cond.instanceMethod ({ cls := "ChildSays$Row", name := "empty", desc := "()LChildSays$Row;" } : Jvm.MethodName)) ∈ lw_all := lw_g (lw_at lw_m5 217 rfl) rfl
theorem q1324 : (Jvm.Cond.selects "ChildSays$Row" ({ cls := "ChildSays$Row", name := "empty", desc := "()LChildSays$Row;" } : Jvm.MethodName) ({ cls := "ChildSays$Row", name := "empty", desc := "()LChildSays$Row;" } : Jvm.MethodName)) ∈ lw_all := lw_g (lw_at lw_m5 218 rfl) rfl
theorem q1325 : (Jvm.Cond.code ({ cls := "ChildSays$Row", name := "empty", desc := "()LChildSays$Row;" } : Jvm.MethodName) prog_12_method_4_code (1 : Nat) (Option.some (Jvm.ClassFile.FieldType.object "ChildSays$Row"))) ∈ lw_all := lw_g (lw_at lw_m5 219 rfl) rfl
theorem q1326 : (Jvm.Cond.methodLink "ChildSays$Saying" (64 : Nat) ({ cls := "ChildSays$Saying", name := "says", desc := "(LChildSays$Child;LChildSays$Row;II)Z" } : Jvm.MethodName)) ∈ lw_all := lw_g (lw_at lw_m5 220 rfl) rfl
theorem q1327 : (Jvm.Cond.privateMethod ({ cls := "ChildSays$Saying", name := "says", desc := "(LChildSays$Child;LChildSays$Row;II)Z" } : Jvm.MethodName)) ∈ lw_tbl := lw_at lw_m5 221 rfl
theorem q1328 : (Jvm.Cond.instanceMethod ({ cls := "ChildSays$Saying", name := "says", desc := "(LChildSays$Child;LChildSays$Row;II)Z" } : Jvm.MethodName)) ∈ lw_all := lw_g (lw_at lw_m5 222 rfl) rfl
theorem q1329 : (Jvm.Cond.code ({ cls := "ChildSays$Saying", name := "says", desc := "(LChildSays$Child;LChildSays$Row;II)Z" } : Jvm.MethodName) prog_13_method_2_code (7 : Nat) (Option.some Jvm.ClassFile.FieldType.boolean)) ∈ lw_all := lw_g (lw_at lw_m5 223 rfl) rfl
theorem q1330 : (Jvm.Cond.methodLink "ChildSays$Saying" (44 : Nat) ({ cls := "ChildSays$Word", name := "takes", desc := "(LChildSays$Word;)I" } : Jvm.MethodName)) ∈ lw_all := lw_g (lw_at lw_m5 224 rfl) rfl
theorem q1331 : (Jvm.Cond.instanceMethod ({ cls := "ChildSays$Word", name := "takes", desc := "(LChildSays$Word;)I" } : Jvm.MethodName)) ∈ lw_all := lw_g (lw_at lw_m5 225 rfl) rfl
theorem q1332 : (Jvm.Cond.selects "ChildSays$Word" ({ cls := "ChildSays$Word", name := "takes", desc := "(LChildSays$Word;)I" } : Jvm.MethodName) ({ cls := "ChildSays$Word", name := "takes", desc := "(LChildSays$Word;)I" } : Jvm.MethodName)) ∈ lw_all := lw_g (lw_at lw_m5 226 rfl) rfl
theorem q1333 : (Jvm.Cond.code ({ cls := "ChildSays$Word", name := "takes", desc := "(LChildSays$Word;)I" } : Jvm.MethodName) prog_19_method_3_code (2 : Nat) (Option.some Jvm.ClassFile.FieldType.int)) ∈ lw_all := lw_g (lw_at lw_m5 227 rfl) rfl
theorem q1334 : (Jvm.Cond.methodLink "ChildSays$Saying" (67 : Nat) ({ cls := "ChildSays$Saying", name := "is", desc := "(I)LChildSays$Saying;" } : Jvm.MethodName)) ∈ lw_all := lw_g (lw_at lw_m5 228 rfl) rfl
theorem q1335 : (Jvm.Cond.instanceMethod ({ cls := "ChildSays$Saying", name := "is", desc := "(I)LChildSays$Saying;" } : Jvm.MethodName)) ∈ lw_all := lw_g (lw_at lw_m5 229 rfl) rfl
theorem q1336 : (Jvm.Cond.selects "ChildSays$Saying" ({ cls := "ChildSays$Saying", name := "is", desc := "(I)LChildSays$Saying;" } : Jvm.MethodName) ({ cls := "ChildSays$Saying", name := "is", desc := "(I)LChildSays$Saying;" } : Jvm.MethodName)) ∈ lw_all := lw_g (lw_at lw_m5 230 rfl) rfl
theorem q1337 : (Jvm.Cond.code ({ cls := "ChildSays$Saying", name := "is", desc := "(I)LChildSays$Saying;" } : Jvm.MethodName) prog_13_method_5_code (2 : Nat) (Option.some (Jvm.ClassFile.FieldType.object "ChildSays$Saying"))) ∈ lw_all := lw_g (lw_at lw_m5 231 rfl) rfl
theorem q1338 : (Jvm.Cond.methodLink "ChildSays$Saying" (74 : Nat) ({ cls := "ChildSays$Row", name := "isLike", desc := "(LChildSays$Row;)Z" } : Jvm.MethodName)) ∈ lw_all := lw_g (lw_at lw_m5 232 rfl) rfl
theorem q1339 : (Jvm.Cond.instanceMethod ({ cls := "ChildSays$Row", name := "isLike", desc := "(LChildSays$Row;)Z" } : Jvm.MethodName)) ∈ lw_all := lw_g (lw_at lw_m5 233 rfl) rfl
theorem q1340 : (Jvm.Cond.selects "ChildSays$Row" ({ cls := "ChildSays$Row", name := "isLike", desc := "(LChildSays$Row;)Z" } : Jvm.MethodName) ({ cls := "ChildSays$Row", name := "isLike", desc := "(LChildSays$Row;)Z" } : Jvm.MethodName)) ∈ lw_all := lw_g (lw_at lw_m5 234 rfl) rfl
theorem q1341 : (Jvm.Cond.code ({ cls := "ChildSays$Row", name := "isLike", desc := "(LChildSays$Row;)Z" } : Jvm.MethodName) prog_12_method_6_code (3 : Nat) (Option.some Jvm.ClassFile.FieldType.boolean)) ∈ lw_all := lw_g (lw_at lw_m5 235 rfl) rfl
theorem q1342 : (Jvm.Cond.methodLink "ChildSays$Saying" (78 : Nat) ({ cls := "ChildSays$Row", name := "size", desc := "()I" } : Jvm.MethodName)) ∈ lw_all := lw_g (lw_at lw_m5 236 rfl) rfl
theorem q1343 : (Jvm.Cond.methodLink "ChildSaysLaw" (51 : Nat) ({ cls := "ChildSays", name := "law", desc := "(II)I" } : Jvm.MethodName)) ∈ lw_all := lw_g (lw_at lw_m5 237 rfl) rfl
theorem q1344 : (Jvm.Cond.instanceMethod ({ cls := "ChildSays", name := "law", desc := "(II)I" } : Jvm.MethodName)) ∈ lw_all := lw_g (lw_at lw_m5 238 rfl) rfl
theorem q1345 : (Jvm.Cond.selects "ChildSays" ({ cls := "ChildSays", name := "law", desc := "(II)I" } : Jvm.MethodName) ({ cls := "ChildSays", name := "law", desc := "(II)I" } : Jvm.MethodName)) ∈ lw_all := lw_g (lw_at lw_m5 239 rfl) rfl
theorem q1346 : (Jvm.Cond.code ({ cls := "ChildSays", name := "law", desc := "(II)I" } : Jvm.MethodName) prog_1_method_27_code (4 : Nat) (Option.some Jvm.ClassFile.FieldType.int)) ∈ lw_all := lw_g (lw_at lw_m6 0 rfl) rfl
theorem q1347 : (Jvm.Cond.methodLink "ChildSays" (239 : Nat) ({ cls := "ChildSays", name := "lawOf", desc := "(I)LChildSays$Law;" } : Jvm.MethodName)) ∈ lw_all := lw_g (lw_at lw_m6 1 rfl) rfl
theorem q1348 : (Jvm.Cond.privateMethod ({ cls := "ChildSays", name := "lawOf", desc := "(I)LChildSays$Law;" } : Jvm.MethodName)) ∈ lw_tbl := lw_at lw_m6 2 rfl
theorem q1349 : (Jvm.Cond.instanceMethod ({ cls := "ChildSays", name := "lawOf", desc := "(I)LChildSays$Law;" } : Jvm.MethodName)) ∈ lw_all := lw_g (lw_at lw_m6 3 rfl) rfl
theorem q1350 : (Jvm.Cond.code ({ cls := "ChildSays", name := "lawOf", desc := "(I)LChildSays$Law;" } : Jvm.MethodName) prog_1_method_23_code (2 : Nat) (Option.some (Jvm.ClassFile.FieldType.object "ChildSays$Law"))) ∈ lw_all := lw_g (lw_at lw_m6 4 rfl) rfl
theorem q1351 : (Jvm.Cond.methodLink "ChildSays" (308 : Nat) ({ cls := "java/util/ArrayList", name := "indexOf", desc := "(Ljava/lang/Object;)I" } : Jvm.MethodName)) ∈ lw_all := lw_g (lw_at lw_m6 5 rfl) rfl
theorem q1352 : (Jvm.Cond.instanceMethod ({ cls := "java/util/ArrayList", name := "indexOf", desc := "(Ljava/lang/Object;)I" } : Jvm.MethodName)) ∈ lw_all := lw_g (lw_at lw_m6 6 rfl) rfl
theorem q1353 : (Jvm.Cond.selects "java/util/ArrayList" ({ cls := "java/util/ArrayList", name := "indexOf", desc := "(Ljava/lang/Object;)I" } : Jvm.MethodName) ({ cls := "java/util/ArrayList", name := "indexOf", desc := "(Ljava/lang/Object;)I" } : Jvm.MethodName)) ∈ lw_all := lw_g (lw_at lw_m6 7 rfl) rfl
theorem q1354 : (Jvm.Cond.code ({ cls := "java/util/ArrayList", name := "indexOf", desc := "(Ljava/lang/Object;)I" } : Jvm.MethodName) prog_41_method_11_code (2 : Nat) (Option.some Jvm.ClassFile.FieldType.int)) ∈ lw_all := lw_g (lw_at lw_m6 8 rfl) rfl
theorem q1355 : (Jvm.Cond.methodLink "java/util/ArrayList" (89 : Nat) ({ cls := "java/util/ArrayList", name := "indexOfRange", desc := "(Ljava/lang/Object;II)I" } : Jvm.MethodName)) ∈ lw_all := lw_g (lw_at lw_m6 9 rfl) rfl
theorem q1356 : (Jvm.Cond.instanceMethod ({ cls := "java/util/ArrayList", name := "indexOfRange", desc := "(Ljava/lang/Object;II)I" } : Jvm.MethodName)) ∈ lw_all := lw_g (lw_at lw_m6 10 rfl) rfl
theorem q1357 : (Jvm.Cond.selects "java/util/ArrayList" ({ cls := "java/util/ArrayList", name := "indexOfRange", desc := "(Ljava/lang/Object;II)I" } : Jvm.MethodName) ({ cls := "java/util/ArrayList", name := "indexOfRange", desc := "(Ljava/lang/Object;II)I" } : Jvm.MethodName)) ∈ lw_all := lw_g (lw_at lw_m6 11 rfl) rfl
theorem q1358 : (Jvm.Cond.code ({ cls := "java/util/ArrayList", name := "indexOfRange", desc := "(Ljava/lang/Object;II)I" } : Jvm.MethodName) prog_41_method_12_code (6 : Nat) (Option.some Jvm.ClassFile.FieldType.int)) ∈ lw_all := lw_g (lw_at lw_m6 12 rfl) rfl
theorem q1359 : (Jvm.Cond.declares ({ cls := "java/lang/Object", name := "equals", desc := "(Ljava/lang/Object;)Z" } : Jvm.MethodName)) ∈ lw_tbl := lw_at lw_m6 13 rfl
theorem q1360 : (Jvm.Cond.methodLink "java/util/ArrayList" (93 : Nat) ({ cls := "java/lang/Object", name := "equals", desc := "(Ljava/lang/Object;)Z" } : Jvm.MethodName)) ∈ lw_all := lw_g (lw_at lw_m6 14 rfl) rfl
theorem q1361 : (Jvm.Cond.instanceMethod ({ cls := "java/lang/Object", name := "equals", desc := "(Ljava/lang/Object;)Z" } : Jvm.MethodName)) ∈ lw_all := lw_g (lw_at lw_m6 15 rfl) rfl
theorem q1362 : (Jvm.Cond.sameMethod "java/lang/Object" "java/lang/Object" "equals" "(Ljava/lang/Object;)Z") ∈ lw_all := lw_g (lw_at lw_m6 16 rfl) rfl
theorem q1363 : (Jvm.Cond.selects "ChildSays" ({ cls := "java/lang/Object", name := "equals", desc := "(Ljava/lang/Object;)Z" } : Jvm.MethodName) ({ cls := "java/lang/Object", name := "equals", desc := "(Ljava/lang/Object;)Z" } : Jvm.MethodName)) ∈ lw_all := lw_g (lw_at lw_m6 17 rfl) rfl
theorem q1364 : (Jvm.Cond.selects "ChildSays$Child" ({ cls := "java/lang/Object", name := "equals", desc := "(Ljava/lang/Object;)Z" } : Jvm.MethodName) ({ cls := "java/lang/Object", name := "equals", desc := "(Ljava/lang/Object;)Z" } : Jvm.MethodName)) ∈ lw_all := lw_g (lw_at lw_m6 18 rfl) rfl
theorem q1365 : (Jvm.Cond.selects "ChildSays$Fault" ({ cls := "java/lang/Object", name := "equals", desc := "(Ljava/lang/Object;)Z" } : Jvm.MethodName) ({ cls := "java/lang/Object", name := "equals", desc := "(Ljava/lang/Object;)Z" } : Jvm.MethodName)) ∈ lw_all := lw_g (lw_at lw_m6 19 rfl) rfl
theorem q1366 : (Jvm.Cond.selects "ChildSays$Law" ({ cls := "java/lang/Object", name := "equals", desc := "(Ljava/lang/Object;)Z" } : Jvm.MethodName) ({ cls := "java/lang/Object", name := "equals", desc := "(Ljava/lang/Object;)Z" } : Jvm.MethodName)) ∈ lw_all := lw_g (lw_at lw_m6 20 rfl) rfl
theorem q1367 : (Jvm.Cond.selects "ChildSays$Line" ({ cls := "java/lang/Object", name := "equals", desc := "(Ljava/lang/Object;)Z" } : Jvm.MethodName) ({ cls := "java/lang/Object", name := "equals", desc := "(Ljava/lang/Object;)Z" } : Jvm.MethodName)) ∈ lw_all := lw_g (lw_at lw_m6 21 rfl) rfl
theorem q1368 : (Jvm.Cond.selects "ChildSays$Order" ({ cls := "java/lang/Object", name := "equals", desc := "(Ljava/lang/Object;)Z" } : Jvm.MethodName) ({ cls := "java/lang/Object", name := "equals", desc := "(Ljava/lang/Object;)Z" } : Jvm.MethodName)) ∈ lw_all := lw_g (lw_at lw_m6 22 rfl) rfl
theorem q1369 : (Jvm.Cond.selects "ChildSays$Put" ({ cls := "java/lang/Object", name := "equals", desc := "(Ljava/lang/Object;)Z" } : Jvm.MethodName) ({ cls := "java/lang/Object", name := "equals", desc := "(Ljava/lang/Object;)Z" } : Jvm.MethodName)) ∈ lw_all := lw_g (lw_at lw_m6 23 rfl) rfl
theorem q1370 : (Jvm.Cond.selects "ChildSays$Reader" ({ cls := "java/lang/Object", name := "equals", desc := "(Ljava/lang/Object;)Z" } : Jvm.MethodName) ({ cls := "java/lang/Object", name := "equals", desc := "(Ljava/lang/Object;)Z" } : Jvm.MethodName)) ∈ lw_all := lw_g (lw_at lw_m6 24 rfl) rfl
theorem q1371 : (Jvm.Cond.selects "ChildSays$Round" ({ cls := "java/lang/Object", name := "equals", desc := "(Ljava/lang/Object;)Z" } : Jvm.MethodName) ({ cls := "java/lang/Object", name := "equals", desc := "(Ljava/lang/Object;)Z" } : Jvm.MethodName)) ∈ lw_all := lw_g (lw_at lw_m6 25 rfl) rfl
theorem q1372 : (Jvm.Cond.selects "ChildSays$Row" ({ cls := "java/lang/Object", name := "equals", desc := "(Ljava/lang/Object;)Z" } : Jvm.MethodName) ({ cls := "java/lang/Object", name := "equals", desc := "(Ljava/lang/Object;)Z" } : Jvm.MethodName)) ∈ lw_all := lw_g (lw_at lw_m6 26 rfl) rfl
theorem q1373 : (Jvm.Cond.selects "ChildSays$Saying" ({ cls := "java/lang/Object", name := "equals", desc := "(Ljava/lang/Object;)Z" } : Jvm.MethodName) ({ cls := "java/lang/Object", name := "equals", desc := "(Ljava/lang/Object;)Z" } : Jvm.MethodName)) ∈ lw_all := lw_g (lw_at lw_m6 27 rfl) rfl
theorem q1374 : (Jvm.Cond.selects "ChildSays$Sitting" ({ cls := "java/lang/Object", name := "equals", desc := "(Ljava/lang/Object;)Z" } : Jvm.MethodName) ({ cls := "java/lang/Object", name := "equals", desc := "(Ljava/lang/Object;)Z" } : Jvm.MethodName)) ∈ lw_all := lw_g (lw_at lw_m6 28 rfl) rfl
theorem q1375 : (Jvm.Cond.selects "ChildSays$Street" ({ cls := "java/lang/Object", name := "equals", desc := "(Ljava/lang/Object;)Z" } : Jvm.MethodName) ({ cls := "java/lang/Object", name := "equals", desc := "(Ljava/lang/Object;)Z" } : Jvm.MethodName)) ∈ lw_all := lw_g (lw_at lw_m6 29 rfl) rfl
theorem q1376 : (Jvm.Cond.selects "ChildSays$Town" ({ cls := "java/lang/Object", name := "equals", desc := "(Ljava/lang/Object;)Z" } : Jvm.MethodName) ({ cls := "java/lang/Object", name := "equals", desc := "(Ljava/lang/Object;)Z" } : Jvm.MethodName)) ∈ lw_all := lw_g (lw_at lw_m6 30 rfl) rfl
theorem q1377 : (Jvm.Cond.selects "ChildSays$Unlike" ({ cls := "java/lang/Object", name := "equals", desc := "(Ljava/lang/Object;)Z" } : Jvm.MethodName) ({ cls := "java/lang/Object", name := "equals", desc := "(Ljava/lang/Object;)Z" } : Jvm.MethodName)) ∈ lw_all := lw_g (lw_at lw_m6 31 rfl) rfl
theorem q1378 : (Jvm.Cond.selects "ChildSays$Was" ({ cls := "java/lang/Object", name := "equals", desc := "(Ljava/lang/Object;)Z" } : Jvm.MethodName) ({ cls := "java/lang/Object", name := "equals", desc := "(Ljava/lang/Object;)Z" } : Jvm.MethodName)) ∈ lw_all := lw_g (lw_at lw_m6 32 rfl) rfl
theorem q1379 : (Jvm.Cond.selects "ChildSays$Word" ({ cls := "java/lang/Object", name := "equals", desc := "(Ljava/lang/Object;)Z" } : Jvm.MethodName) ({ cls := "java/lang/Object", name := "equals", desc := "(Ljava/lang/Object;)Z" } : Jvm.MethodName)) ∈ lw_all := lw_g (lw_at lw_m6 33 rfl) rfl
theorem q1380 : (Jvm.Cond.selects "ChildSaysModel" ({ cls := "java/lang/Object", name := "equals", desc := "(Ljava/lang/Object;)Z" } : Jvm.MethodName) ({ cls := "java/lang/Object", name := "equals", desc := "(Ljava/lang/Object;)Z" } : Jvm.MethodName)) ∈ lw_all := lw_g (lw_at lw_m6 34 rfl) rfl
theorem q1381 : (Jvm.Cond.selects "java/lang/String" ({ cls := "java/lang/Object", name := "equals", desc := "(Ljava/lang/Object;)Z" } : Jvm.MethodName) ({ cls := "java/lang/String", name := "equals", desc := "(Ljava/lang/Object;)Z" } : Jvm.MethodName)) ∈ lw_all := lw_g (lw_at lw_m6 35 rfl) rfl
theorem q1382 : (Jvm.Cond.selects "java/lang/StringBuilder" ({ cls := "java/lang/Object", name := "equals", desc := "(Ljava/lang/Object;)Z" } : Jvm.MethodName) ({ cls := "java/lang/Object", name := "equals", desc := "(Ljava/lang/Object;)Z" } : Jvm.MethodName)) ∈ lw_all := lw_g (lw_at lw_m6 36 rfl) rfl
theorem q1383 : (Jvm.Cond.code ({ cls := "java/lang/Object", name := "equals", desc := "(Ljava/lang/Object;)Z" } : Jvm.MethodName) object_method_4_code (2 : Nat) (Option.some Jvm.ClassFile.FieldType.boolean)) ∈ lw_all := lw_g (lw_at lw_m6 37 rfl) rfl
theorem q1384 : (Jvm.Cond.methodLink "ChildSays" (312 : Nat) ({ cls := "ChildSays$Row", name := "beats", desc := "()I" } : Jvm.MethodName)) ∈ lw_all := lw_g (lw_at lw_m6 38 rfl) rfl
theorem q1385 : (Jvm.Cond.instanceMethod ({ cls := "ChildSays$Row", name := "beats", desc := "()I" } : Jvm.MethodName)) ∈ lw_all := lw_g (lw_at lw_m6 39 rfl) rfl
theorem q1386 : (Jvm.Cond.selects "ChildSays$Row" ({ cls := "ChildSays$Row", name := "beats", desc := "()I" } : Jvm.MethodName) ({ cls := "ChildSays$Row", name := "beats", desc := "()I" } : Jvm.MethodName)) ∈ lw_all := lw_g (lw_at lw_m6 40 rfl) rfl
theorem q1387 : (Jvm.Cond.code ({ cls := "ChildSays$Row", name := "beats", desc := "()I" } : Jvm.MethodName) prog_12_method_9_code (3 : Nat) (Option.some Jvm.ClassFile.FieldType.int)) ∈ lw_all := lw_g (lw_at lw_m6 41 rfl) rfl
theorem q1388 : (Jvm.Cond.methodLink "ChildSays" (314 : Nat) ({ cls := "ChildSays", name := "byMany", desc := "(LChildSays$Row;Z)I" } : Jvm.MethodName)) ∈ lw_all := lw_g (lw_at lw_m6 42 rfl) rfl
theorem q1389 : (Jvm.Cond.privateMethod ({ cls := "ChildSays", name := "byMany", desc := "(LChildSays$Row;Z)I" } : Jvm.MethodName)) ∈ lw_tbl := lw_at lw_m6 43 rfl
theorem q1390 : (Jvm.Cond.instanceMethod ({ cls := "ChildSays", name := "byMany", desc := "(LChildSays$Row;Z)I" } : Jvm.MethodName)) ∈ lw_all := lw_g (lw_at lw_m6 44 rfl) rfl
theorem q1391 : (Jvm.Cond.code ({ cls := "ChildSays", name := "byMany", desc := "(LChildSays$Row;Z)I" } : Jvm.MethodName) prog_1_method_33_code (6 : Nat) (Option.some Jvm.ClassFile.FieldType.int)) ∈ lw_all := lw_g (lw_at lw_m6 45 rfl) rfl
theorem q1392 : (Jvm.Cond.methodLink "ChildSays" (344 : Nat) ({ cls := "ChildSays$Saying", name := "of", desc := "(LChildSays$Child;LChildSays$Row;ZI)LChildSays$Saying;" } : Jvm.MethodName)) ∈ lw_all := lw_g (lw_at lw_m6 46 rfl) rfl
theorem q1393 : (Jvm.Cond.methodLink "ChildSays" (318 : Nat) ({ cls := "ChildSays$Row", name := "size", desc := "()I" } : Jvm.MethodName)) ∈ lw_all := lw_g (lw_at lw_m6 47 rfl) rfl
theorem q1394 : (Jvm.Cond.methodLink "ChildSaysLaw" (55 : Nat) ({ cls := "ChildSays", name := "order", desc := "(I)I" } : Jvm.MethodName)) ∈ lw_all := lw_g (lw_at lw_m6 48 rfl) rfl
theorem q1395 : (Jvm.Cond.instanceMethod ({ cls := "ChildSays", name := "order", desc := "(I)I" } : Jvm.MethodName)) ∈ lw_all := lw_g (lw_at lw_m6 49 rfl) rfl
theorem q1396 : (Jvm.Cond.selects "ChildSays" ({ cls := "ChildSays", name := "order", desc := "(I)I" } : Jvm.MethodName) ({ cls := "ChildSays", name := "order", desc := "(I)I" } : Jvm.MethodName)) ∈ lw_all := lw_g (lw_at lw_m6 50 rfl) rfl
theorem q1397 : (Jvm.Cond.code ({ cls := "ChildSays", name := "order", desc := "(I)I" } : Jvm.MethodName) prog_1_method_29_code (2 : Nat) (Option.some Jvm.ClassFile.FieldType.int)) ∈ lw_all := lw_g (lw_at lw_m6 51 rfl) rfl
theorem q1398 : (Jvm.Cond.methodLink "ChildSays" (324 : Nat) ({ cls := "ChildSays", name := "isPlace", desc := "(I)Z" } : Jvm.MethodName)) ∈ lw_all := lw_g (lw_at lw_m6 52 rfl) rfl
theorem q1399 : (Jvm.Cond.privateMethod ({ cls := "ChildSays", name := "isPlace", desc := "(I)Z" } : Jvm.MethodName)) ∈ lw_tbl := lw_at lw_m6 53 rfl
theorem q1400 : (Jvm.Cond.instanceMethod ({ cls := "ChildSays", name := "isPlace", desc := "(I)Z" } : Jvm.MethodName)) ∈ lw_all := lw_g (lw_at lw_m6 54 rfl) rfl
theorem q1401 : (Jvm.Cond.code ({ cls := "ChildSays", name := "isPlace", desc := "(I)Z" } : Jvm.MethodName) prog_1_method_28_code (2 : Nat) (Option.some Jvm.ClassFile.FieldType.boolean)) ∈ lw_all := lw_g (lw_at lw_m6 55 rfl) rfl
theorem q1402 : (Jvm.Cond.methodLink "ChildSaysLaw" (59 : Nat) ({ cls := "ChildSays", name := "alike", desc := "(II)I" } : Jvm.MethodName)) ∈ lw_all := lw_g (lw_at lw_m6 56 rfl) rfl
theorem q1403 : (Jvm.Cond.instanceMethod ({ cls := "ChildSays", name := "alike", desc := "(II)I" } : Jvm.MethodName)) ∈ lw_all := lw_g (lw_at lw_m6 57 rfl) rfl
theorem q1404 : (Jvm.Cond.selects "ChildSays" ({ cls := "ChildSays", name := "alike", desc := "(II)I" } : Jvm.MethodName) ({ cls := "ChildSays", name := "alike", desc := "(II)I" } : Jvm.MethodName)) ∈ lw_all := lw_g (lw_at lw_m6 58 rfl) rfl
theorem q1405 : (Jvm.Cond.code ({ cls := "ChildSays", name := "alike", desc := "(II)I" } : Jvm.MethodName) prog_1_method_30_code (5 : Nat) (Option.some Jvm.ClassFile.FieldType.int)) ∈ lw_all := lw_g (lw_at lw_m6 59 rfl) rfl
theorem q1406 : (Jvm.Cond.methodLink "ChildSays" (328 : Nat) ({ cls := "ChildSays$Word", name := "alike", desc := "(LChildSays$Word;)I" } : Jvm.MethodName)) ∈ lw_all := lw_g (lw_at lw_m6 60 rfl) rfl
theorem q1407 : (Jvm.Cond.methodLink "ChildSaysLaw" (63 : Nat) ({ cls := "ChildSays", name := "hears", desc := "(IIZ)I" } : Jvm.MethodName)) ∈ lw_all := lw_g (lw_at lw_m6 61 rfl) rfl
theorem q1408 : (Jvm.Cond.instanceMethod ({ cls := "ChildSays", name := "hears", desc := "(IIZ)I" } : Jvm.MethodName)) ∈ lw_all := lw_g (lw_at lw_m6 62 rfl) rfl
theorem q1409 : (Jvm.Cond.selects "ChildSays" ({ cls := "ChildSays", name := "hears", desc := "(IIZ)I" } : Jvm.MethodName) ({ cls := "ChildSays", name := "hears", desc := "(IIZ)I" } : Jvm.MethodName)) ∈ lw_all := lw_g (lw_at lw_m6 63 rfl) rfl
theorem q1410 : (Jvm.Cond.code ({ cls := "ChildSays", name := "hears", desc := "(IIZ)I" } : Jvm.MethodName) prog_1_method_31_code (6 : Nat) (Option.some Jvm.ClassFile.FieldType.int)) ∈ lw_all := lw_g (lw_at lw_m6 64 rfl) rfl
theorem q1411 : (Jvm.Cond.methodLink "ChildSays" (335 : Nat) ({ cls := "ChildSays$Street", name := "heard", desc := "(LChildSays$Word;)LChildSays$Word;" } : Jvm.MethodName)) ∈ lw_all := lw_g (lw_at lw_m6 65 rfl) rfl
theorem q1412 : (Jvm.Cond.methodLink "ChildSaysLaw" (68 : Nat) ({ cls := "ChildSays", name := "says", desc := "(III)I" } : Jvm.MethodName)) ∈ lw_all := lw_g (lw_at lw_m6 66 rfl) rfl
theorem q1413 : (Jvm.Cond.instanceMethod ({ cls := "ChildSays", name := "says", desc := "(III)I" } : Jvm.MethodName)) ∈ lw_all := lw_g (lw_at lw_m6 67 rfl) rfl
theorem q1414 : (Jvm.Cond.selects "ChildSays" ({ cls := "ChildSays", name := "says", desc := "(III)I" } : Jvm.MethodName) ({ cls := "ChildSays", name := "says", desc := "(III)I" } : Jvm.MethodName)) ∈ lw_all := lw_g (lw_at lw_m6 68 rfl) rfl
theorem q1415 : (Jvm.Cond.code ({ cls := "ChildSays", name := "says", desc := "(III)I" } : Jvm.MethodName) prog_1_method_34_code (6 : Nat) (Option.some Jvm.ClassFile.FieldType.int)) ∈ lw_all := lw_g (lw_at lw_m6 69 rfl) rfl
theorem q1416 : (Jvm.Cond.methodLink "ChildSays" (347 : Nat) ({ cls := "ChildSays", name := "standingOf", desc := "(I)LChildSays$Law;" } : Jvm.MethodName)) ∈ lw_all := lw_g (lw_at lw_m6 70 rfl) rfl
theorem q1417 : (Jvm.Cond.privateMethod ({ cls := "ChildSays", name := "standingOf", desc := "(I)LChildSays$Law;" } : Jvm.MethodName)) ∈ lw_tbl := lw_at lw_m6 71 rfl
theorem q1418 : (Jvm.Cond.instanceMethod ({ cls := "ChildSays", name := "standingOf", desc := "(I)LChildSays$Law;" } : Jvm.MethodName)) ∈ lw_all := lw_g (lw_at lw_m6 72 rfl) rfl
theorem q1419 : (Jvm.Cond.code ({ cls := "ChildSays", name := "standingOf", desc := "(I)LChildSays$Law;" } : Jvm.MethodName) prog_1_method_24_code (3 : Nat) (Option.some (Jvm.ClassFile.FieldType.object "ChildSays$Law"))) ∈ lw_all := lw_g (lw_at lw_m6 73 rfl) rfl
theorem q1420 : (Jvm.Cond.methodLink "ChildSays" (350 : Nat) ({ cls := "ChildSays$Saying", name := "tells", desc := "(I)I" } : Jvm.MethodName)) ∈ lw_all := lw_g (lw_at lw_m6 74 rfl) rfl
theorem q1421 : (Jvm.Cond.instanceMethod ({ cls := "ChildSays$Saying", name := "tells", desc := "(I)I" } : Jvm.MethodName)) ∈ lw_all := lw_g (lw_at lw_m6 75 rfl) rfl
theorem q1422 : (Jvm.Cond.selects "ChildSays$Saying" ({ cls := "ChildSays$Saying", name := "tells", desc := "(I)I" } : Jvm.MethodName) ({ cls := "ChildSays$Saying", name := "tells", desc := "(I)I" } : Jvm.MethodName)) ∈ lw_all := lw_g (lw_at lw_m6 76 rfl) rfl
theorem q1423 : (Jvm.Cond.code ({ cls := "ChildSays$Saying", name := "tells", desc := "(I)I" } : Jvm.MethodName) prog_13_method_7_code (2 : Nat) (Option.some Jvm.ClassFile.FieldType.int)) ∈ lw_all := lw_g (lw_at lw_m6 77 rfl) rfl
theorem q1424 : (Jvm.Cond.methodLinkNest "ChildSays$Saying" (99 : Nat) ({ cls := "ChildSays", name := "isIn", desc := "(JJJ)Z" } : Jvm.MethodName) "ChildSays") ∈ lw_tbl := lw_at lw_m6 78 rfl
theorem q1425 : (Jvm.Cond.methodLink "ChildSaysLaw" (72 : Nat) ({ cls := "ChildSays", name := "sits", desc := "(III)I" } : Jvm.MethodName)) ∈ lw_all := lw_g (lw_at lw_m6 79 rfl) rfl
theorem q1426 : (Jvm.Cond.instanceMethod ({ cls := "ChildSays", name := "sits", desc := "(III)I" } : Jvm.MethodName)) ∈ lw_all := lw_g (lw_at lw_m6 80 rfl) rfl
theorem q1427 : (Jvm.Cond.selects "ChildSays" ({ cls := "ChildSays", name := "sits", desc := "(III)I" } : Jvm.MethodName) ({ cls := "ChildSays", name := "sits", desc := "(III)I" } : Jvm.MethodName)) ∈ lw_all := lw_g (lw_at lw_m6 81 rfl) rfl
theorem q1428 : (Jvm.Cond.code ({ cls := "ChildSays", name := "sits", desc := "(III)I" } : Jvm.MethodName) prog_1_method_35_code (6 : Nat) (Option.some Jvm.ClassFile.FieldType.int)) ∈ lw_all := lw_g (lw_at lw_m6 82 rfl) rfl
theorem q1429 : (Jvm.Cond.methodLink "ChildSays" (353 : Nat) ({ cls := "ChildSays$Sitting", name := "inOrder", desc := "()LChildSays$Sitting;" } : Jvm.MethodName)) ∈ lw_all := lw_g (lw_at lw_m6 83 rfl) rfl
theorem q1430 : (Jvm.Cond.instanceMethod ({ cls := "ChildSays$Sitting", name := "inOrder", desc := "()LChildSays$Sitting;" } : Jvm.MethodName)) ∈ lw_all := lw_g (lw_at lw_m6 84 rfl) rfl
theorem q1431 : (Jvm.Cond.selects "ChildSays$Sitting" ({ cls := "ChildSays$Sitting", name := "inOrder", desc := "()LChildSays$Sitting;" } : Jvm.MethodName) ({ cls := "ChildSays$Sitting", name := "inOrder", desc := "()LChildSays$Sitting;" } : Jvm.MethodName)) ∈ lw_all := lw_g (lw_at lw_m6 85 rfl) rfl
theorem q1432 : (Jvm.Cond.code ({ cls := "ChildSays$Sitting", name := "inOrder", desc := "()LChildSays$Sitting;" } : Jvm.MethodName) prog_14_method_4_code (2 : Nat) (Option.some (Jvm.ClassFile.FieldType.object "ChildSays$Sitting"))) ∈ lw_all := lw_g (lw_at lw_m6 86 rfl) rfl
theorem q1433 : (Jvm.Cond.methodLink "ChildSays$Sitting" (47 : Nat) ({ cls := "java/util/ArrayList", name := "size", desc := "()I" } : Jvm.MethodName)) ∈ lw_all := lw_g (lw_at lw_m6 87 rfl) rfl
theorem q1434 : (Jvm.Cond.methodLink "ChildSays$Sitting" (53 : Nat) ({ cls := "java/util/ArrayList", name := "get", desc := "(I)Ljava/lang/Object;" } : Jvm.MethodName)) ∈ lw_all := lw_g (lw_at lw_m6 88 rfl) rfl
theorem q1435 : (Jvm.Cond.methodLink "ChildSays$Sitting" (60 : Nat) ({ cls := "ChildSays$Row", name := "isOne", desc := "()Z" } : Jvm.MethodName)) ∈ lw_all := lw_g (lw_at lw_m6 89 rfl) rfl
theorem q1436 : (Jvm.Cond.methodLink "ChildSays$Sitting" (66 : Nat) ({ cls := "ChildSays$Sitting", name := "comes", desc := "(LChildSays$Law;)V" } : Jvm.MethodName)) ∈ lw_all := lw_g (lw_at lw_m6 90 rfl) rfl
theorem q1437 : (Jvm.Cond.instanceMethod ({ cls := "ChildSays$Sitting", name := "comes", desc := "(LChildSays$Law;)V" } : Jvm.MethodName)) ∈ lw_all := lw_g (lw_at lw_m6 91 rfl) rfl
theorem q1438 : (Jvm.Cond.selects "ChildSays$Sitting" ({ cls := "ChildSays$Sitting", name := "comes", desc := "(LChildSays$Law;)V" } : Jvm.MethodName) ({ cls := "ChildSays$Sitting", name := "comes", desc := "(LChildSays$Law;)V" } : Jvm.MethodName)) ∈ lw_all := lw_g (lw_at lw_m6 92 rfl) rfl
theorem q1439 : (Jvm.Cond.code ({ cls := "ChildSays$Sitting", name := "comes", desc := "(LChildSays$Law;)V" } : Jvm.MethodName) prog_14_method_3_code (2 : Nat) (Option.none : Option Jvm.ClassFile.FieldType)) ∈ lw_all := lw_g (lw_at lw_m6 93 rfl) rfl
theorem q1440 : (Jvm.Cond.methodLink "ChildSays" (357 : Nat) ({ cls := "ChildSays$Sitting", name := "saidBy", desc := "(LChildSays$Child;)LChildSays$Sitting;" } : Jvm.MethodName)) ∈ lw_all := lw_g (lw_at lw_m6 94 rfl) rfl
theorem q1441 : (Jvm.Cond.instanceMethod ({ cls := "ChildSays$Sitting", name := "saidBy", desc := "(LChildSays$Child;)LChildSays$Sitting;" } : Jvm.MethodName)) ∈ lw_all := lw_g (lw_at lw_m6 95 rfl) rfl
theorem q1442 : (Jvm.Cond.selects "ChildSays$Sitting" ({ cls := "ChildSays$Sitting", name := "saidBy", desc := "(LChildSays$Child;)LChildSays$Sitting;" } : Jvm.MethodName) ({ cls := "ChildSays$Sitting", name := "saidBy", desc := "(LChildSays$Child;)LChildSays$Sitting;" } : Jvm.MethodName)) ∈ lw_all := lw_g (lw_at lw_m6 96 rfl) rfl
theorem q1443 : (Jvm.Cond.code ({ cls := "ChildSays$Sitting", name := "saidBy", desc := "(LChildSays$Child;)LChildSays$Sitting;" } : Jvm.MethodName) prog_14_method_6_code (5 : Nat) (Option.some (Jvm.ClassFile.FieldType.object "ChildSays$Sitting"))) ∈ lw_all := lw_g (lw_at lw_m6 97 rfl) rfl
theorem q1444 : (Jvm.Cond.methodLink "ChildSays$Sitting" (70 : Nat) ({ cls := "ChildSays$Sitting", name := "of", desc := "(LChildSays$Law;)LChildSays$Saying;" } : Jvm.MethodName)) ∈ lw_all := lw_g (lw_at lw_m6 98 rfl) rfl
theorem q1445 : (Jvm.Cond.instanceMethod ({ cls := "ChildSays$Sitting", name := "of", desc := "(LChildSays$Law;)LChildSays$Saying;" } : Jvm.MethodName)) ∈ lw_all := lw_g (lw_at lw_m6 99 rfl) rfl
theorem q1446 : (Jvm.Cond.selects "ChildSays$Sitting" ({ cls := "ChildSays$Sitting", name := "of", desc := "(LChildSays$Law;)LChildSays$Saying;" } : Jvm.MethodName) ({ cls := "ChildSays$Sitting", name := "of", desc := "(LChildSays$Law;)LChildSays$Saying;" } : Jvm.MethodName)) ∈ lw_all := lw_g (lw_at lw_m6 100 rfl) rfl
theorem q1447 : (Jvm.Cond.code ({ cls := "ChildSays$Sitting", name := "of", desc := "(LChildSays$Law;)LChildSays$Saying;" } : Jvm.MethodName) prog_14_method_2_code (2 : Nat) (Option.some (Jvm.ClassFile.FieldType.object "ChildSays$Saying"))) ∈ lw_all := lw_g (lw_at lw_m6 101 rfl) rfl
theorem q1448 : (Jvm.Cond.methodLink "ChildSays$Sitting" (77 : Nat) ({ cls := "ChildSays$Saying", name := "lost", desc := "()LChildSays$Saying;" } : Jvm.MethodName)) ∈ lw_all := lw_g (lw_at lw_m6 102 rfl) rfl
theorem q1449 : (Jvm.Cond.instanceMethod ({ cls := "ChildSays$Saying", name := "lost", desc := "()LChildSays$Saying;" } : Jvm.MethodName)) ∈ lw_all := lw_g (lw_at lw_m6 103 rfl) rfl
theorem q1450 : (Jvm.Cond.selects "ChildSays$Saying" ({ cls := "ChildSays$Saying", name := "lost", desc := "()LChildSays$Saying;" } : Jvm.MethodName) ({ cls := "ChildSays$Saying", name := "lost", desc := "()LChildSays$Saying;" } : Jvm.MethodName)) ∈ lw_all := lw_g (lw_at lw_m6 104 rfl) rfl
theorem q1451 : (Jvm.Cond.code ({ cls := "ChildSays$Saying", name := "lost", desc := "()LChildSays$Saying;" } : Jvm.MethodName) prog_13_method_6_code (1 : Nat) (Option.some (Jvm.ClassFile.FieldType.object "ChildSays$Saying"))) ∈ lw_all := lw_g (lw_at lw_m6 105 rfl) rfl
theorem q1452 : (Jvm.Cond.methodLink "ChildSays$Sitting" (81 : Nat) ({ cls := "ChildSays$Saying", name := "of", desc := "(LChildSays$Child;LChildSays$Law;)LChildSays$Saying;" } : Jvm.MethodName)) ∈ lw_all := lw_g (lw_at lw_m6 106 rfl) rfl
theorem q1453 : (Jvm.Cond.methodLink "ChildSays$Sitting" (87 : Nat) ({ cls := "ChildSays$Sitting", name := "runs", desc := "(LChildSays$Saying;I)V" } : Jvm.MethodName)) ∈ lw_all := lw_g (lw_at lw_m6 107 rfl) rfl
theorem q1454 : (Jvm.Cond.privateMethod ({ cls := "ChildSays$Sitting", name := "runs", desc := "(LChildSays$Saying;I)V" } : Jvm.MethodName)) ∈ lw_tbl := lw_at lw_m6 108 rfl
theorem q1455 : (Jvm.Cond.instanceMethod ({ cls := "ChildSays$Sitting", name := "runs", desc := "(LChildSays$Saying;I)V" } : Jvm.MethodName)) ∈ lw_all := lw_g (lw_at lw_m6 109 rfl) rfl
theorem q1456 : (Jvm.Cond.code ({ cls := "ChildSays$Sitting", name := "runs", desc := "(LChildSays$Saying;I)V" } : Jvm.MethodName) prog_14_method_7_code (5 : Nat) (Option.none : Option Jvm.ClassFile.FieldType)) ∈ lw_all := lw_g (lw_at lw_m6 110 rfl) rfl
theorem q1457 : (Jvm.Cond.methodLink "ChildSays$Sitting" (92 : Nat) ({ cls := "ChildSays$Row", name := "beginsLike", desc := "(LChildSays$Row;)Z" } : Jvm.MethodName)) ∈ lw_all := lw_g (lw_at lw_m6 111 rfl) rfl
theorem q1458 : (Jvm.Cond.instanceMethod ({ cls := "ChildSays$Row", name := "beginsLike", desc := "(LChildSays$Row;)Z" } : Jvm.MethodName)) ∈ lw_all := lw_g (lw_at lw_m6 112 rfl) rfl
theorem q1459 : (Jvm.Cond.selects "ChildSays$Row" ({ cls := "ChildSays$Row", name := "beginsLike", desc := "(LChildSays$Row;)Z" } : Jvm.MethodName) ({ cls := "ChildSays$Row", name := "beginsLike", desc := "(LChildSays$Row;)Z" } : Jvm.MethodName)) ∈ lw_all := lw_g (lw_at lw_m6 113 rfl) rfl
theorem q1460 : (Jvm.Cond.code ({ cls := "ChildSays$Row", name := "beginsLike", desc := "(LChildSays$Row;)Z" } : Jvm.MethodName) prog_12_method_7_code (2 : Nat) (Option.some Jvm.ClassFile.FieldType.boolean)) ∈ lw_all := lw_g (lw_at lw_m6 114 rfl) rfl
theorem q1461 : (Jvm.Cond.methodLink "ChildSays$Sitting" (96 : Nat) ({ cls := "ChildSays$Row", name := "like", desc := "(LChildSays$Row;)LChildSays$Row;" } : Jvm.MethodName)) ∈ lw_all := lw_g (lw_at lw_m6 115 rfl) rfl
theorem q1462 : (Jvm.Cond.methodLink "ChildSays" (361 : Nat) ({ cls := "ChildSays$Sitting", name := "of", desc := "(LChildSays$Law;)LChildSays$Saying;" } : Jvm.MethodName)) ∈ lw_all := lw_g (lw_at lw_m6 116 rfl) rfl
theorem q1463 : (Jvm.Cond.methodLink "ChildSaysLaw" (76 : Nat) ({ cls := "ChildSays", name := "sitting", desc := "(II)I" } : Jvm.MethodName)) ∈ lw_all := lw_g (lw_at lw_m6 117 rfl) rfl
theorem q1464 : (Jvm.Cond.instanceMethod ({ cls := "ChildSays", name := "sitting", desc := "(II)I" } : Jvm.MethodName)) ∈ lw_all := lw_g (lw_at lw_m6 118 rfl) rfl
theorem q1465 : (Jvm.Cond.selects "ChildSays" ({ cls := "ChildSays", name := "sitting", desc := "(II)I" } : Jvm.MethodName) ({ cls := "ChildSays", name := "sitting", desc := "(II)I" } : Jvm.MethodName)) ∈ lw_all := lw_g (lw_at lw_m6 119 rfl) rfl
theorem q1466 : (Jvm.Cond.code ({ cls := "ChildSays", name := "sitting", desc := "(II)I" } : Jvm.MethodName) prog_1_method_36_code (4 : Nat) (Option.some Jvm.ClassFile.FieldType.int)) ∈ lw_all := lw_g (lw_at lw_m6 120 rfl) rfl
theorem q1467 : (Jvm.Cond.constantLong "ChildSays" (364 : Nat) (4 : Int64)) ∈ lw_all := lw_g (lw_at lw_m6 121 rfl) rfl
theorem q1468 : (Jvm.Cond.methodLink "ChildSays" (366 : Nat) ({ cls := "ChildSays$Sitting", name := "kinds", desc := "(I)I" } : Jvm.MethodName)) ∈ lw_all := lw_g (lw_at lw_m6 122 rfl) rfl
theorem q1469 : (Jvm.Cond.instanceMethod ({ cls := "ChildSays$Sitting", name := "kinds", desc := "(I)I" } : Jvm.MethodName)) ∈ lw_all := lw_g (lw_at lw_m6 123 rfl) rfl
theorem q1470 : (Jvm.Cond.selects "ChildSays$Sitting" ({ cls := "ChildSays$Sitting", name := "kinds", desc := "(I)I" } : Jvm.MethodName) ({ cls := "ChildSays$Sitting", name := "kinds", desc := "(I)I" } : Jvm.MethodName)) ∈ lw_all := lw_g (lw_at lw_m6 124 rfl) rfl
theorem q1471 : (Jvm.Cond.code ({ cls := "ChildSays$Sitting", name := "kinds", desc := "(I)I" } : Jvm.MethodName) prog_14_method_8_code (4 : Nat) (Option.some Jvm.ClassFile.FieldType.int)) ∈ lw_all := lw_g (lw_at lw_m6 125 rfl) rfl
theorem q1472 : (Jvm.Cond.methodLink "ChildSaysLaw" (80 : Nat) ({ cls := "ChildSays", name := "tell", desc := "(II)I" } : Jvm.MethodName)) ∈ lw_all := lw_g (lw_at lw_m6 126 rfl) rfl
theorem q1473 : (Jvm.Cond.instanceMethod ({ cls := "ChildSays", name := "tell", desc := "(II)I" } : Jvm.MethodName)) ∈ lw_all := lw_g (lw_at lw_m6 127 rfl) rfl
theorem q1474 : (Jvm.Cond.selects "ChildSays" ({ cls := "ChildSays", name := "tell", desc := "(II)I" } : Jvm.MethodName) ({ cls := "ChildSays", name := "tell", desc := "(II)I" } : Jvm.MethodName)) ∈ lw_all := lw_g (lw_at lw_m6 128 rfl) rfl
theorem q1475 : (Jvm.Cond.code ({ cls := "ChildSays", name := "tell", desc := "(II)I" } : Jvm.MethodName) prog_1_method_39_code (5 : Nat) (Option.some Jvm.ClassFile.FieldType.int)) ∈ lw_all := lw_g (lw_at lw_m6 129 rfl) rfl
theorem q1476 : (Jvm.Cond.methodLink "ChildSays" (397 : Nat) ({ cls := "ChildSays", name := "keeps", desc := "()V" } : Jvm.MethodName)) ∈ lw_all := lw_g (lw_at lw_m6 130 rfl) rfl
theorem q1477 : (Jvm.Cond.privateMethod ({ cls := "ChildSays", name := "keeps", desc := "()V" } : Jvm.MethodName)) ∈ lw_tbl := lw_at lw_m6 131 rfl
theorem q1478 : (Jvm.Cond.instanceMethod ({ cls := "ChildSays", name := "keeps", desc := "()V" } : Jvm.MethodName)) ∈ lw_all := lw_g (lw_at lw_m6 132 rfl) rfl
theorem q1479 : (Jvm.Cond.code ({ cls := "ChildSays", name := "keeps", desc := "()V" } : Jvm.MethodName) prog_1_method_16_code (1 : Nat) (Option.none : Option Jvm.ClassFile.FieldType)) ∈ lw_all := lw_g (lw_at lw_m6 133 rfl) rfl
theorem q1480 : (Jvm.Cond.instantiable "ChildSays$Was" (7 : Nat)) ∈ lw_all := lw_g (lw_at lw_m6 134 rfl) rfl
theorem q1481 : (Jvm.Cond.methodLink "ChildSays" (186 : Nat) ({ cls := "ChildSays$Was", name := "<init>", desc := "(LChildSays;)V" } : Jvm.MethodName)) ∈ lw_all := lw_g (lw_at lw_m6 135 rfl) rfl
theorem q1482 : (Jvm.Cond.instanceMethod ({ cls := "ChildSays$Was", name := "<init>", desc := "(LChildSays;)V" } : Jvm.MethodName)) ∈ lw_all := lw_g (lw_at lw_m6 136 rfl) rfl
theorem q1483 : (Jvm.Cond.code ({ cls := "ChildSays$Was", name := "<init>", desc := "(LChildSays;)V" } : Jvm.MethodName) prog_18_method_1_code (3 : Nat) (Option.none : Option Jvm.ClassFile.FieldType)) ∈ lw_all := lw_g (lw_at lw_m6 137 rfl) rfl
theorem q1484 : (Jvm.Cond.methodLink "ChildSays$Was" (9 : Nat) ({ cls := "java/lang/Object", name := "<init>", desc := "()V" } : Jvm.MethodName)) ∈ lw_all := lw_g (lw_at lw_m6 138 rfl) rfl
theorem q1485 : (Jvm.Cond.classLink "ChildSays$Was" (39 : Nat) "ChildSays$Row") ∈ lw_all := lw_g (lw_at lw_m6 139 rfl) rfl
theorem q1486 : (Jvm.Cond.arrayOver (Jvm.ClassFile.FieldType.object "ChildSays$Row")) ∈ lw_tbl := lw_at lw_m6 140 rfl
theorem q1487 : (Jvm.Cond.classLink "ChildSays$Was" (31 : Nat) "java/util/ArrayList") ∈ lw_all := lw_g (lw_at lw_m6 141 rfl) rfl
theorem q1488 : (Jvm.Cond.methodLink "ChildSays$Was" (55 : Nat) ({ cls := "java/util/ArrayList", name := "<init>", desc := "()V" } : Jvm.MethodName)) ∈ lw_all := lw_g (lw_at lw_m6 142 rfl) rfl
theorem q1489 : (Jvm.Cond.methodLinkNest "ChildSays$Was" (59 : Nat) ({ cls := "ChildSays$Row", name := "<init>", desc := "()V" } : Jvm.MethodName) "ChildSays") ∈ lw_tbl := lw_at lw_m6 143 rfl
theorem q1490 : (Jvm.Cond.fieldLink "ChildSays$Was" (25 : Nat) "ChildSays$Was" "year" "I") ∈ lw_all := lw_g (lw_at lw_m6 144 rfl) rfl
theorem q1491 : (Jvm.Cond.fieldLink "ChildSays$Was" (36 : Nat) "ChildSays$Was" "many" "I") ∈ lw_all := lw_g (lw_at lw_m6 145 rfl) rfl
theorem q1492 : (Jvm.Cond.fieldLink "ChildSays$Was" (41 : Nat) "ChildSays$Was" "rows" "[LChildSays$Row;") ∈ lw_all := lw_g (lw_at lw_m6 146 rfl) rfl
theorem q1493 : (Jvm.Cond.fieldLink "ChildSays$Was" (47 : Nat) "ChildSays$Was" "order" "[LChildSays$Law;") ∈ lw_all := lw_g (lw_at lw_m6 147 rfl) rfl
theorem q1494 : (Jvm.Cond.fieldLink "ChildSays$Was" (51 : Nat) "ChildSays$Was" "sung" "[Z") ∈ lw_all := lw_g (lw_at lw_m6 148 rfl) rfl
theorem q1495 : (Jvm.Cond.fieldLink "ChildSays$Was" (56 : Nat) "ChildSays$Was" "book" "Ljava/util/ArrayList;") ∈ lw_all := lw_g (lw_at lw_m6 149 rfl) rfl
theorem q1496 : (Jvm.Cond.fieldLink "ChildSays$Was" (3 : Nat) "ChildSays$Was" "this$0" "LChildSays;") ∈ lw_all := lw_g (lw_at lw_m6 150 rfl) rfl
theorem q1497 : (Jvm.Cond.laysFinal "ChildSays$Was" "ChildSays$Was" "year" "I") ∈ lw_all := lw_g (lw_at lw_m6 151 rfl) rfl
theorem q1498 : (Jvm.Cond.soleField "ChildSays$Was" "year") ∈ lw_all := lw_g (lw_at lw_m6 152 rfl) rfl
theorem q1499 : (Jvm.Cond.laysFinal "ChildSays$Was" "ChildSays$Was" "many" "I") ∈ lw_all := lw_g (lw_at lw_m6 153 rfl) rfl
theorem q1500 : (Jvm.Cond.soleField "ChildSays$Was" "many") ∈ lw_all := lw_g (lw_at lw_m6 154 rfl) rfl
theorem q1501 : (Jvm.Cond.laysFinal "ChildSays$Was" "ChildSays$Was" "rows" "[LChildSays$Row;") ∈ lw_all := lw_g (lw_at lw_m6 155 rfl) rfl
theorem q1502 : (Jvm.Cond.soleField "ChildSays$Was" "rows") ∈ lw_all := lw_g (lw_at lw_m6 156 rfl) rfl
theorem q1503 : (Jvm.Cond.laysFinal "ChildSays$Was" "ChildSays$Was" "order" "[LChildSays$Law;") ∈ lw_all := lw_g (lw_at lw_m6 157 rfl) rfl
theorem q1504 : (Jvm.Cond.soleField "ChildSays$Was" "order") ∈ lw_all := lw_g (lw_at lw_m6 158 rfl) rfl
theorem q1505 : (Jvm.Cond.laysFinal "ChildSays$Was" "ChildSays$Was" "sung" "[Z") ∈ lw_all := lw_g (lw_at lw_m6 159 rfl) rfl
theorem q1506 : (Jvm.Cond.soleField "ChildSays$Was" "sung") ∈ lw_all := lw_g (lw_at lw_m6 160 rfl) rfl
theorem q1507 : (Jvm.Cond.laysFinal "ChildSays$Was" "ChildSays$Was" "book" "Ljava/util/ArrayList;") ∈ lw_all := lw_g (lw_at lw_m6 161 rfl) rfl
theorem q1508 : (Jvm.Cond.soleField "ChildSays$Was" "book") ∈ lw_all := lw_g (lw_at lw_m6 162 rfl) rfl
theorem q1509 : (Jvm.Cond.laysFinal "ChildSays$Was" "ChildSays$Was" "this$0" "LChildSays;") ∈ lw_all := lw_g (lw_at lw_m6 163 rfl) rfl
theorem q1510 : (Jvm.Cond.soleField "ChildSays$Was" "this$0") ∈ lw_all := lw_g (lw_at lw_m6 164 rfl) rfl
theorem q1511 : (Jvm.Cond.superclass "ChildSays$Was" "java/lang/Object") ∈ lw_all := lw_g (lw_at lw_m6 165 rfl) rfl
theorem q1512 : (Jvm.Cond.methodLink "ChildSays" (187 : Nat) ({ cls := "java/util/ArrayList", name := "add", desc := "(Ljava/lang/Object;)Z" } : Jvm.MethodName)) ∈ lw_all := lw_g (lw_at lw_m6 166 rfl) rfl
theorem q1513 : (Jvm.Cond.methodLink "ChildSays" (393 : Nat) ({ cls := "ChildSays", name := "becomes", desc := "(LChildSays$Law;LChildSays$Saying;LChildSays$Child;)V" } : Jvm.MethodName)) ∈ lw_all := lw_g (lw_at lw_m6 167 rfl) rfl
theorem q1514 : (Jvm.Cond.privateMethod ({ cls := "ChildSays", name := "becomes", desc := "(LChildSays$Law;LChildSays$Saying;LChildSays$Child;)V" } : Jvm.MethodName)) ∈ lw_tbl := lw_at lw_m6 168 rfl
theorem q1515 : (Jvm.Cond.instanceMethod ({ cls := "ChildSays", name := "becomes", desc := "(LChildSays$Law;LChildSays$Saying;LChildSays$Child;)V" } : Jvm.MethodName)) ∈ lw_all := lw_g (lw_at lw_m6 169 rfl) rfl
theorem q1516 : (Jvm.Cond.code ({ cls := "ChildSays", name := "becomes", desc := "(LChildSays$Law;LChildSays$Saying;LChildSays$Child;)V" } : Jvm.MethodName) prog_1_method_37_code (4 : Nat) (Option.none : Option Jvm.ClassFile.FieldType)) ∈ lw_all := lw_g (lw_at lw_m6 170 rfl) rfl
theorem q1517 : (Jvm.Cond.methodLink "ChildSays" (370 : Nat) ({ cls := "ChildSays$Row", name := "isLike", desc := "(LChildSays$Row;)Z" } : Jvm.MethodName)) ∈ lw_all := lw_g (lw_at lw_m6 171 rfl) rfl
theorem q1518 : (Jvm.Cond.methodLink "ChildSays" (374 : Nat) ({ cls := "ChildSays$Row", name := "like", desc := "(LChildSays$Row;)LChildSays$Row;" } : Jvm.MethodName)) ∈ lw_all := lw_g (lw_at lw_m6 172 rfl) rfl
theorem q1519 : (Jvm.Cond.classLink "ChildSays" (381 : Nat) "ChildSays$Line") ∈ lw_all := lw_g (lw_at lw_m6 173 rfl) rfl
theorem q1520 : (Jvm.Cond.instantiable "ChildSays$Line" (4 : Nat)) ∈ lw_all := lw_g (lw_at lw_m6 174 rfl) rfl
theorem q1521 : (Jvm.Cond.methodLink "ChildSays" (384 : Nat) ({ cls := "ChildSays$Line", name := "<init>", desc := "(IIII)V" } : Jvm.MethodName)) ∈ lw_all := lw_g (lw_at lw_m6 175 rfl) rfl
theorem q1522 : (Jvm.Cond.instanceMethod ({ cls := "ChildSays$Line", name := "<init>", desc := "(IIII)V" } : Jvm.MethodName)) ∈ lw_all := lw_g (lw_at lw_m6 176 rfl) rfl
theorem q1523 : (Jvm.Cond.code ({ cls := "ChildSays$Line", name := "<init>", desc := "(IIII)V" } : Jvm.MethodName) prog_6_method_1_code (5 : Nat) (Option.none : Option Jvm.ClassFile.FieldType)) ∈ lw_all := lw_g (lw_at lw_m6 177 rfl) rfl
theorem q1524 : (Jvm.Cond.methodLink "ChildSays$Line" (1 : Nat) ({ cls := "java/lang/Object", name := "<init>", desc := "()V" } : Jvm.MethodName)) ∈ lw_all := lw_g (lw_at lw_m6 178 rfl) rfl
theorem q1525 : (Jvm.Cond.fieldLink "ChildSays$Line" (7 : Nat) "ChildSays$Line" "year" "I") ∈ lw_all := lw_g (lw_at lw_m6 179 rfl) rfl
theorem q1526 : (Jvm.Cond.fieldLink "ChildSays" (426 : Nat) "ChildSays$Line" "year" "I") ∈ lw_all := lw_g (lw_at lw_m6 180 rfl) rfl
theorem q1527 : (Jvm.Cond.fieldLink "ChildSays$Line" (13 : Nat) "ChildSays$Line" "law" "I") ∈ lw_all := lw_g (lw_at lw_m6 181 rfl) rfl
theorem q1528 : (Jvm.Cond.fieldLink "ChildSays" (427 : Nat) "ChildSays$Line" "law" "I") ∈ lw_all := lw_g (lw_at lw_m6 182 rfl) rfl
theorem q1529 : (Jvm.Cond.fieldLink "ChildSays$Line" (16 : Nat) "ChildSays$Line" "child" "I") ∈ lw_all := lw_g (lw_at lw_m6 183 rfl) rfl
theorem q1530 : (Jvm.Cond.fieldLink "ChildSays" (430 : Nat) "ChildSays$Line" "child" "I") ∈ lw_all := lw_g (lw_at lw_m6 184 rfl) rfl
theorem q1531 : (Jvm.Cond.fieldLink "ChildSays$Line" (19 : Nat) "ChildSays$Line" "kind" "I") ∈ lw_all := lw_g (lw_at lw_m6 185 rfl) rfl
theorem q1532 : (Jvm.Cond.fieldLink "ChildSays" (433 : Nat) "ChildSays$Line" "kind" "I") ∈ lw_all := lw_g (lw_at lw_m6 186 rfl) rfl
theorem q1533 : (Jvm.Cond.laysFinal "ChildSays$Line" "ChildSays$Line" "year" "I") ∈ lw_all := lw_g (lw_at lw_m6 187 rfl) rfl
theorem q1534 : (Jvm.Cond.soleField "ChildSays$Line" "year") ∈ lw_all := lw_g (lw_at lw_m6 188 rfl) rfl
theorem q1535 : (Jvm.Cond.laysFinal "ChildSays$Line" "ChildSays$Line" "law" "I") ∈ lw_all := lw_g (lw_at lw_m6 189 rfl) rfl
theorem q1536 : (Jvm.Cond.soleField "ChildSays$Line" "law") ∈ lw_all := lw_g (lw_at lw_m6 190 rfl) rfl
theorem q1537 : (Jvm.Cond.laysFinal "ChildSays$Line" "ChildSays$Line" "child" "I") ∈ lw_all := lw_g (lw_at lw_m6 191 rfl) rfl
theorem q1538 : (Jvm.Cond.soleField "ChildSays$Line" "child") ∈ lw_all := lw_g (lw_at lw_m6 192 rfl) rfl
theorem q1539 : (Jvm.Cond.laysFinal "ChildSays$Line" "ChildSays$Line" "kind" "I") ∈ lw_all := lw_g (lw_at lw_m6 193 rfl) rfl
theorem q1540 : (Jvm.Cond.soleField "ChildSays$Line" "kind") ∈ lw_all := lw_g (lw_at lw_m6 194 rfl) rfl
theorem q1541 : (Jvm.Cond.superclass "ChildSays$Line" "java/lang/Object") ∈ lw_all := lw_g (lw_at lw_m6 195 rfl) rfl
theorem q1542 : (Jvm.Cond.methodLink "ChildSaysLaw" (84 : Nat) ({ cls := "ChildSays", name := "anew", desc := "(I)I" } : Jvm.MethodName)) ∈ lw_all := lw_g (lw_at lw_m6 196 rfl) rfl
theorem q1543 : (Jvm.Cond.instanceMethod ({ cls := "ChildSays", name := "anew", desc := "(I)I" } : Jvm.MethodName)) ∈ lw_all := lw_g (lw_at lw_m6 197 rfl) rfl
theorem q1544 : (Jvm.Cond.selects "ChildSays" ({ cls := "ChildSays", name := "anew", desc := "(I)I" } : Jvm.MethodName) ({ cls := "ChildSays", name := "anew", desc := "(I)I" } : Jvm.MethodName)) ∈ lw_all := lw_g (lw_at lw_m6 198 rfl) rfl
theorem q1545 : (Jvm.Cond.code ({ cls := "ChildSays", name := "anew", desc := "(I)I" } : Jvm.MethodName) prog_1_method_40_code (3 : Nat) (Option.some Jvm.ClassFile.FieldType.int)) ∈ lw_all := lw_g (lw_at lw_m6 199 rfl) rfl
theorem q1546 : (Jvm.Cond.methodLink "ChildSays" (400 : Nat) ({ cls := "ChildSays", name := "allAnew", desc := "(LChildSays$Child;)V" } : Jvm.MethodName)) ∈ lw_all := lw_g (lw_at lw_m6 200 rfl) rfl
theorem q1547 : (Jvm.Cond.privateMethod ({ cls := "ChildSays", name := "allAnew", desc := "(LChildSays$Child;)V" } : Jvm.MethodName)) ∈ lw_tbl := lw_at lw_m6 201 rfl
theorem q1548 : (Jvm.Cond.instanceMethod ({ cls := "ChildSays", name := "allAnew", desc := "(LChildSays$Child;)V" } : Jvm.MethodName)) ∈ lw_all := lw_g (lw_at lw_m6 202 rfl) rfl
theorem q1549 : (Jvm.Cond.code ({ cls := "ChildSays", name := "allAnew", desc := "(LChildSays$Child;)V" } : Jvm.MethodName) prog_1_method_38_code (3 : Nat) (Option.none : Option Jvm.ClassFile.FieldType)) ∈ lw_all := lw_g (lw_at lw_m6 203 rfl) rfl
theorem q1550 : (Jvm.Cond.methodLink "ChildSaysLaw" (88 : Nat) ({ cls := "ChildSays", name := "council", desc := "(I)I" } : Jvm.MethodName)) ∈ lw_all := lw_g (lw_at lw_m6 204 rfl) rfl
theorem q1551 : (Jvm.Cond.instanceMethod ({ cls := "ChildSays", name := "council", desc := "(I)I" } : Jvm.MethodName)) ∈ lw_all := lw_g (lw_at lw_m6 205 rfl) rfl
theorem q1552 : (Jvm.Cond.selects "ChildSays" ({ cls := "ChildSays", name := "council", desc := "(I)I" } : Jvm.MethodName) ({ cls := "ChildSays", name := "council", desc := "(I)I" } : Jvm.MethodName)) ∈ lw_all := lw_g (lw_at lw_m6 206 rfl) rfl
theorem q1553 : (Jvm.Cond.codeWith ({ cls := "ChildSays", name := "council", desc := "(I)I" } : Jvm.MethodName) prog_1_method_41_code (6 : Nat) (Option.some Jvm.ClassFile.FieldType.int) [((35 : Nat), (54 : Nat), (57 : Nat), (150 : Nat))]) ∈ lw_all := lw_g (lw_at lw_m6 207 rfl) rfl
theorem q1554 : (Jvm.Cond.methodLink "ChildSays" (404 : Nat) ({ cls := "ChildSays$Reader", name := "rowAlone", desc := "(LChildSays$Row;)LChildSays$Row;" } : Jvm.MethodName)) ∈ lw_all := lw_g (lw_at lw_m6 208 rfl) rfl
theorem q1555 : (Jvm.Cond.instanceMethod ({ cls := "ChildSays$Reader", name := "rowAlone", desc := "(LChildSays$Row;)LChildSays$Row;" } : Jvm.MethodName)) ∈ lw_all := lw_g (lw_at lw_m6 209 rfl) rfl
theorem q1556 : (Jvm.Cond.selects "ChildSays$Reader" ({ cls := "ChildSays$Reader", name := "rowAlone", desc := "(LChildSays$Row;)LChildSays$Row;" } : Jvm.MethodName) ({ cls := "ChildSays$Reader", name := "rowAlone", desc := "(LChildSays$Row;)LChildSays$Row;" } : Jvm.MethodName)) ∈ lw_all := lw_g (lw_at lw_m6 210 rfl) rfl
theorem q1557 : (Jvm.Cond.code ({ cls := "ChildSays$Reader", name := "rowAlone", desc := "(LChildSays$Row;)LChildSays$Row;" } : Jvm.MethodName) prog_10_method_23_code (2 : Nat) (Option.some (Jvm.ClassFile.FieldType.object "ChildSays$Row"))) ∈ lw_all := lw_g (lw_at lw_m6 211 rfl) rfl
theorem q1558 : (Jvm.Cond.methodLink "ChildSaysLaw" (92 : Nat) ({ cls := "ChildSays", name := "sing", desc := "(IZ)Z" } : Jvm.MethodName)) ∈ lw_all := lw_g (lw_at lw_m6 212 rfl) rfl
theorem q1559 : (Jvm.Cond.instanceMethod ({ cls := "ChildSays", name := "sing", desc := "(IZ)Z" } : Jvm.MethodName)) ∈ lw_all := lw_g (lw_at lw_m6 213 rfl) rfl
theorem q1560 : (Jvm.Cond.selects "ChildSays" ({ cls := "ChildSays", name := "sing", desc := "(IZ)Z" } : Jvm.MethodName) ({ cls := "ChildSays", name := "sing", desc := "(IZ)Z" } : Jvm.MethodName)) ∈ lw_all := lw_g (lw_at lw_m6 214 rfl) rfl
theorem q1561 : (Jvm.Cond.code ({ cls := "ChildSays", name := "sing", desc := "(IZ)Z" } : Jvm.MethodName) prog_1_method_42_code (4 : Nat) (Option.some Jvm.ClassFile.FieldType.boolean)) ∈ lw_all := lw_g (lw_at lw_m6 215 rfl) rfl
theorem q1562 : (Jvm.Cond.methodLink "ChildSaysLaw" (97 : Nat) ({ cls := "ChildSays", name := "swap", desc := "(II)Z" } : Jvm.MethodName)) ∈ lw_all := lw_g (lw_at lw_m6 216 rfl) rfl
theorem q1563 : (Jvm.Cond.instanceMethod ({ cls := "ChildSays", name := "swap", desc := "(II)Z" } : Jvm.MethodName)) ∈ lw_all := lw_g (lw_at lw_m6 217 rfl) rfl
theorem q1564 : (Jvm.Cond.selects "ChildSays" ({ cls := "ChildSays", name := "swap", desc := "(II)Z" } : Jvm.MethodName) ({ cls := "ChildSays", name := "swap", desc := "(II)Z" } : Jvm.MethodName)) ∈ lw_all := lw_g (lw_at lw_m6 218 rfl) rfl
theorem q1565 : (Jvm.Cond.code ({ cls := "ChildSays", name := "swap", desc := "(II)Z" } : Jvm.MethodName) prog_1_method_43_code (4 : Nat) (Option.some Jvm.ClassFile.FieldType.boolean)) ∈ lw_all := lw_g (lw_at lw_m6 219 rfl) rfl
theorem q1566 : (Jvm.Cond.methodLink "ChildSays" (407 : Nat) ({ cls := "java/util/ArrayList", name := "set", desc := "(ILjava/lang/Object;)Ljava/lang/Object;" } : Jvm.MethodName)) ∈ lw_all := lw_g (lw_at lw_m6 220 rfl) rfl
theorem q1567 : (Jvm.Cond.methodLink "ChildSaysLaw" (102 : Nat) ({ cls := "ChildSays", name := "years", desc := "(I)I" } : Jvm.MethodName)) ∈ lw_all := lw_g (lw_at lw_m6 221 rfl) rfl
theorem q1568 : (Jvm.Cond.instanceMethod ({ cls := "ChildSays", name := "years", desc := "(I)I" } : Jvm.MethodName)) ∈ lw_all := lw_g (lw_at lw_m6 222 rfl) rfl
theorem q1569 : (Jvm.Cond.selects "ChildSays" ({ cls := "ChildSays", name := "years", desc := "(I)I" } : Jvm.MethodName) ({ cls := "ChildSays", name := "years", desc := "(I)I" } : Jvm.MethodName)) ∈ lw_all := lw_g (lw_at lw_m6 223 rfl) rfl
theorem q1570 : (Jvm.Cond.code ({ cls := "ChildSays", name := "years", desc := "(I)I" } : Jvm.MethodName) prog_1_method_46_code (3 : Nat) (Option.some Jvm.ClassFile.FieldType.int)) ∈ lw_all := lw_g (lw_at lw_m6 224 rfl) rfl
theorem q1571 : (Jvm.Cond.constantLong "ChildSays" (422 : Nat) (99 : Int64)) ∈ lw_all := lw_g (lw_at lw_m6 225 rfl) rfl
theorem q1572 : (Jvm.Cond.methodLink "ChildSays" (424 : Nat) ({ cls := "ChildSays", name := "year", desc := "()V" } : Jvm.MethodName)) ∈ lw_all := lw_g (lw_at lw_m6 226 rfl) rfl
theorem q1573 : (Jvm.Cond.privateMethod ({ cls := "ChildSays", name := "year", desc := "()V" } : Jvm.MethodName)) ∈ lw_tbl := lw_at lw_m6 227 rfl
theorem q1574 : (Jvm.Cond.instanceMethod ({ cls := "ChildSays", name := "year", desc := "()V" } : Jvm.MethodName)) ∈ lw_all := lw_g (lw_at lw_m6 228 rfl) rfl
theorem q1575 : (Jvm.Cond.code ({ cls := "ChildSays", name := "year", desc := "()V" } : Jvm.MethodName) prog_1_method_45_code (1 : Nat) (Option.none : Option Jvm.ClassFile.FieldType)) ∈ lw_all := lw_g (lw_at lw_m6 229 rfl) rfl
theorem q1576 : (Jvm.Cond.methodLink "ChildSays" (419 : Nat) ({ cls := "ChildSays", name := "drawn", desc := "(I)I" } : Jvm.MethodName)) ∈ lw_all := lw_g (lw_at lw_m6 230 rfl) rfl
theorem q1577 : (Jvm.Cond.privateMethod ({ cls := "ChildSays", name := "drawn", desc := "(I)I" } : Jvm.MethodName)) ∈ lw_tbl := lw_at lw_m6 231 rfl
theorem q1578 : (Jvm.Cond.instanceMethod ({ cls := "ChildSays", name := "drawn", desc := "(I)I" } : Jvm.MethodName)) ∈ lw_all := lw_g (lw_at lw_m6 232 rfl) rfl
theorem q1579 : (Jvm.Cond.code ({ cls := "ChildSays", name := "drawn", desc := "(I)I" } : Jvm.MethodName) prog_1_method_44_code (2 : Nat) (Option.some Jvm.ClassFile.FieldType.int)) ∈ lw_all := lw_g (lw_at lw_m6 233 rfl) rfl
theorem q1580 : (Jvm.Cond.constantLong "ChildSays" (411 : Nat) (1103515245 : Int64)) ∈ lw_all := lw_g (lw_at lw_m6 234 rfl) rfl
theorem q1581 : (Jvm.Cond.constantLong "ChildSays" (413 : Nat) (12345 : Int64)) ∈ lw_all := lw_g (lw_at lw_m6 235 rfl) rfl
theorem q1582 : (Jvm.Cond.constantLong "ChildSays" (415 : Nat) (2147483647 : Int64)) ∈ lw_all := lw_g (lw_at lw_m6 236 rfl) rfl
theorem q1583 : (Jvm.Cond.constantLong "ChildSays" (417 : Nat) (64 : Int64)) ∈ lw_all := lw_g (lw_at lw_m6 237 rfl) rfl
theorem q1584 : (Jvm.Cond.methodLink "ChildSaysLaw" (111 : Nat) ({ cls := "ChildSays", name := "seed", desc := "(I)Z" } : Jvm.MethodName)) ∈ lw_all := lw_g (lw_at lw_m6 238 rfl) rfl
theorem q1585 : (Jvm.Cond.instanceMethod ({ cls := "ChildSays", name := "seed", desc := "(I)Z" } : Jvm.MethodName)) ∈ lw_all := lw_g (lw_at lw_m6 239 rfl) rfl
theorem q1586 : (Jvm.Cond.selects "ChildSays" ({ cls := "ChildSays", name := "seed", desc := "(I)Z" } : Jvm.MethodName) ({ cls := "ChildSays", name := "seed", desc := "(I)Z" } : Jvm.MethodName)) ∈ lw_all := lw_g (lw_at lw_m7 0 rfl) rfl
theorem q1587 : (Jvm.Cond.code ({ cls := "ChildSays", name := "seed", desc := "(I)Z" } : Jvm.MethodName) prog_1_method_47_code (2 : Nat) (Option.some Jvm.ClassFile.FieldType.boolean)) ∈ lw_all := lw_g (lw_at lw_m7 1 rfl) rfl
theorem q1588 : (Jvm.Cond.methodLink "ChildSaysLaw" (115 : Nat) ({ cls := "ChildSays", name := "book", desc := "(II)I" } : Jvm.MethodName)) ∈ lw_all := lw_g (lw_at lw_m7 2 rfl) rfl
theorem q1589 : (Jvm.Cond.instanceMethod ({ cls := "ChildSays", name := "book", desc := "(II)I" } : Jvm.MethodName)) ∈ lw_all := lw_g (lw_at lw_m7 3 rfl) rfl
theorem q1590 : (Jvm.Cond.selects "ChildSays" ({ cls := "ChildSays", name := "book", desc := "(II)I" } : Jvm.MethodName) ({ cls := "ChildSays", name := "book", desc := "(II)I" } : Jvm.MethodName)) ∈ lw_all := lw_g (lw_at lw_m7 4 rfl) rfl
theorem q1591 : (Jvm.Cond.code ({ cls := "ChildSays", name := "book", desc := "(II)I" } : Jvm.MethodName) prog_1_method_48_code (4 : Nat) (Option.some Jvm.ClassFile.FieldType.int)) ∈ lw_all := lw_g (lw_at lw_m7 5 rfl) rfl
theorem q1592 : (Jvm.Cond.methodLink "ChildSaysLaw" (119 : Nat) ({ cls := "ChildSays", name := "odds", desc := "(I)I" } : Jvm.MethodName)) ∈ lw_all := lw_g (lw_at lw_m7 6 rfl) rfl
theorem q1593 : (Jvm.Cond.instanceMethod ({ cls := "ChildSays", name := "odds", desc := "(I)I" } : Jvm.MethodName)) ∈ lw_all := lw_g (lw_at lw_m7 7 rfl) rfl
theorem q1594 : (Jvm.Cond.selects "ChildSays" ({ cls := "ChildSays", name := "odds", desc := "(I)I" } : Jvm.MethodName) ({ cls := "ChildSays", name := "odds", desc := "(I)I" } : Jvm.MethodName)) ∈ lw_all := lw_g (lw_at lw_m7 8 rfl) rfl
theorem q1595 : (Jvm.Cond.code ({ cls := "ChildSays", name := "odds", desc := "(I)I" } : Jvm.MethodName) prog_1_method_49_code (3 : Nat) (Option.some Jvm.ClassFile.FieldType.int)) ∈ lw_all := lw_g (lw_at lw_m7 9 rfl) rfl
theorem q1596 : (Jvm.Cond.methodLink "ChildSaysLaw" (123 : Nat) ({ cls := "ChildSays", name := "becomes", desc := "(IIZ)I" } : Jvm.MethodName)) ∈ lw_all := lw_g (lw_at lw_m7 10 rfl) rfl
theorem q1597 : (Jvm.Cond.instanceMethod ({ cls := "ChildSays", name := "becomes", desc := "(IIZ)I" } : Jvm.MethodName)) ∈ lw_all := lw_g (lw_at lw_m7 11 rfl) rfl
theorem q1598 : (Jvm.Cond.selects "ChildSays" ({ cls := "ChildSays", name := "becomes", desc := "(IIZ)I" } : Jvm.MethodName) ({ cls := "ChildSays", name := "becomes", desc := "(IIZ)I" } : Jvm.MethodName)) ∈ lw_all := lw_g (lw_at lw_m7 12 rfl) rfl
theorem q1599 : (Jvm.Cond.code ({ cls := "ChildSays", name := "becomes", desc := "(IIZ)I" } : Jvm.MethodName) prog_1_method_50_code (5 : Nat) (Option.some Jvm.ClassFile.FieldType.int)) ∈ lw_all := lw_g (lw_at lw_m7 13 rfl) rfl
theorem q1600 : (Jvm.Cond.methodLink "ChildSays" (434 : Nat) ({ cls := "ChildSays$Unlike", name := "of", desc := "(LChildSays$Law;)LChildSays$Unlike;" } : Jvm.MethodName)) ∈ lw_all := lw_g (lw_at lw_m7 14 rfl) rfl
theorem q1601 : (Jvm.Cond.instanceMethod ({ cls := "ChildSays$Unlike", name := "of", desc := "(LChildSays$Law;)LChildSays$Unlike;" } : Jvm.MethodName)) ∈ lw_all := lw_g (lw_at lw_m7 15 rfl) rfl
theorem q1602 : (Jvm.Cond.selects "ChildSays$Unlike" ({ cls := "ChildSays$Unlike", name := "of", desc := "(LChildSays$Law;)LChildSays$Unlike;" } : Jvm.MethodName) ({ cls := "ChildSays$Unlike", name := "of", desc := "(LChildSays$Law;)LChildSays$Unlike;" } : Jvm.MethodName)) ∈ lw_all := lw_g (lw_at lw_m7 16 rfl) rfl
theorem q1603 : (Jvm.Cond.code ({ cls := "ChildSays$Unlike", name := "of", desc := "(LChildSays$Law;)LChildSays$Unlike;" } : Jvm.MethodName) prog_17_method_2_code (4 : Nat) (Option.some (Jvm.ClassFile.FieldType.object "ChildSays$Unlike"))) ∈ lw_all := lw_g (lw_at lw_m7 17 rfl) rfl
theorem q1604 : (Jvm.Cond.methodLink "ChildSays$Unlike" (45 : Nat) ({ cls := "java/util/ArrayList", name := "size", desc := "()I" } : Jvm.MethodName)) ∈ lw_all := lw_g (lw_at lw_m7 18 rfl) rfl
theorem q1605 : (Jvm.Cond.methodLink "ChildSays$Unlike" (51 : Nat) ({ cls := "java/util/ArrayList", name := "get", desc := "(I)Ljava/lang/Object;" } : Jvm.MethodName)) ∈ lw_all := lw_g (lw_at lw_m7 19 rfl) rfl
theorem q1606 : (Jvm.Cond.classLink "ChildSays$Unlike" (55 : Nat) "ChildSays$Child") ∈ lw_all := lw_g (lw_at lw_m7 20 rfl) rfl
theorem q1607 : (Jvm.Cond.methodLink "ChildSays$Unlike" (57 : Nat) ({ cls := "ChildSays$Saying", name := "of", desc := "(LChildSays$Child;LChildSays$Law;)LChildSays$Saying;" } : Jvm.MethodName)) ∈ lw_all := lw_g (lw_at lw_m7 21 rfl) rfl
theorem q1608 : (Jvm.Cond.methodLink "ChildSays$Unlike" (65 : Nat) ({ cls := "ChildSays$Row", name := "isLike", desc := "(LChildSays$Row;)Z" } : Jvm.MethodName)) ∈ lw_all := lw_g (lw_at lw_m7 22 rfl) rfl
theorem q1609 : (Jvm.Cond.methodLink "ChildSaysLaw" (127 : Nat) ({ cls := "ChildSays", name := "round", desc := "(III)I" } : Jvm.MethodName)) ∈ lw_all := lw_g (lw_at lw_m7 23 rfl) rfl
theorem q1610 : (Jvm.Cond.instanceMethod ({ cls := "ChildSays", name := "round", desc := "(III)I" } : Jvm.MethodName)) ∈ lw_all := lw_g (lw_at lw_m7 24 rfl) rfl
theorem q1611 : (Jvm.Cond.selects "ChildSays" ({ cls := "ChildSays", name := "round", desc := "(III)I" } : Jvm.MethodName) ({ cls := "ChildSays", name := "round", desc := "(III)I" } : Jvm.MethodName)) ∈ lw_all := lw_g (lw_at lw_m7 25 rfl) rfl
theorem q1612 : (Jvm.Cond.code ({ cls := "ChildSays", name := "round", desc := "(III)I" } : Jvm.MethodName) prog_1_method_51_code (6 : Nat) (Option.some Jvm.ClassFile.FieldType.int)) ∈ lw_all := lw_g (lw_at lw_m7 26 rfl) rfl
theorem q1613 : (Jvm.Cond.constantLong "ChildSays" (445 : Nat) (2 : Int64)) ∈ lw_all := lw_g (lw_at lw_m7 27 rfl) rfl
theorem q1614 : (Jvm.Cond.methodLink "ChildSays" (447 : Nat) ({ cls := "ChildSays$Round", name := "of", desc := "(LChildSays$Child;LChildSays$Law;)LChildSays$Round;" } : Jvm.MethodName)) ∈ lw_all := lw_g (lw_at lw_m7 28 rfl) rfl
theorem q1615 : (Jvm.Cond.instanceMethod ({ cls := "ChildSays$Round", name := "of", desc := "(LChildSays$Child;LChildSays$Law;)LChildSays$Round;" } : Jvm.MethodName)) ∈ lw_all := lw_g (lw_at lw_m7 29 rfl) rfl
theorem q1616 : (Jvm.Cond.selects "ChildSays$Round" ({ cls := "ChildSays$Round", name := "of", desc := "(LChildSays$Child;LChildSays$Law;)LChildSays$Round;" } : Jvm.MethodName) ({ cls := "ChildSays$Round", name := "of", desc := "(LChildSays$Child;LChildSays$Law;)LChildSays$Round;" } : Jvm.MethodName)) ∈ lw_all := lw_g (lw_at lw_m7 30 rfl) rfl
theorem q1617 : (Jvm.Cond.code ({ cls := "ChildSays$Round", name := "of", desc := "(LChildSays$Child;LChildSays$Law;)LChildSays$Round;" } : Jvm.MethodName) prog_11_method_3_code (4 : Nat) (Option.some (Jvm.ClassFile.FieldType.object "ChildSays$Round"))) ∈ lw_all := lw_g (lw_at lw_m7 31 rfl) rfl
theorem q1618 : (Jvm.Cond.methodLink "ChildSays$Round" (50 : Nat) ({ cls := "ChildSays$Row", name := "like", desc := "(LChildSays$Row;)LChildSays$Row;" } : Jvm.MethodName)) ∈ lw_all := lw_g (lw_at lw_m7 32 rfl) rfl
theorem q1619 : (Jvm.Cond.methodLink "ChildSays$Round" (65 : Nat) ({ cls := "ChildSays$Row", name := "isLike", desc := "(LChildSays$Row;)Z" } : Jvm.MethodName)) ∈ lw_all := lw_g (lw_at lw_m7 33 rfl) rfl
theorem q1620 : (Jvm.Cond.methodLink "ChildSays$Round" (69 : Nat) ({ cls := "ChildSays$Round", name := "next", desc := "(LChildSays$Row;LChildSays$Child;LChildSays$Law;)Z" } : Jvm.MethodName)) ∈ lw_all := lw_g (lw_at lw_m7 34 rfl) rfl
theorem q1621 : (Jvm.Cond.privateMethod ({ cls := "ChildSays$Round", name := "next", desc := "(LChildSays$Row;LChildSays$Child;LChildSays$Law;)Z" } : Jvm.MethodName)) ∈ lw_tbl := lw_at lw_m7 35 rfl
theorem q1622 : (Jvm.Cond.instanceMethod ({ cls := "ChildSays$Round", name := "next", desc := "(LChildSays$Row;LChildSays$Child;LChildSays$Law;)Z" } : Jvm.MethodName)) ∈ lw_all := lw_g (lw_at lw_m7 36 rfl) rfl
theorem q1623 : (Jvm.Cond.code ({ cls := "ChildSays$Round", name := "next", desc := "(LChildSays$Row;LChildSays$Child;LChildSays$Law;)Z" } : Jvm.MethodName) prog_11_method_2_code (4 : Nat) (Option.some Jvm.ClassFile.FieldType.boolean)) ∈ lw_all := lw_g (lw_at lw_m7 37 rfl) rfl
theorem q1624 : (Jvm.Cond.methodLink "ChildSays$Round" (41 : Nat) ({ cls := "ChildSays$Saying", name := "of", desc := "(LChildSays$Child;LChildSays$Row;ZI)LChildSays$Saying;" } : Jvm.MethodName)) ∈ lw_all := lw_g (lw_at lw_m7 38 rfl) rfl
theorem q1625 : (Jvm.Cond.methodLink "ChildSays$Round" (54 : Nat) ({ cls := "ChildSays$Row", name := "isOne", desc := "()Z" } : Jvm.MethodName)) ∈ lw_all := lw_g (lw_at lw_m7 39 rfl) rfl
theorem q1626 : (Jvm.Cond.methodLink "ChildSays$Round" (73 : Nat) ({ cls := "ChildSays$Round", name := "lost", desc := "()LChildSays$Round;" } : Jvm.MethodName)) ∈ lw_all := lw_g (lw_at lw_m7 40 rfl) rfl
theorem q1627 : (Jvm.Cond.privateMethod ({ cls := "ChildSays$Round", name := "lost", desc := "()LChildSays$Round;" } : Jvm.MethodName)) ∈ lw_tbl := lw_at lw_m7 41 rfl
theorem q1628 : (Jvm.Cond.instanceMethod ({ cls := "ChildSays$Round", name := "lost", desc := "()LChildSays$Round;" } : Jvm.MethodName)) ∈ lw_all := lw_g (lw_at lw_m7 42 rfl) rfl
theorem q1629 : (Jvm.Cond.code ({ cls := "ChildSays$Round", name := "lost", desc := "()LChildSays$Round;" } : Jvm.MethodName) prog_11_method_4_code (1 : Nat) (Option.some (Jvm.ClassFile.FieldType.object "ChildSays$Round"))) ∈ lw_all := lw_g (lw_at lw_m7 43 rfl) rfl
theorem q1630 : (Jvm.Cond.methodLink "ChildSays$Round" (77 : Nat) ({ cls := "ChildSays$Round", name := "meets", desc := "(LChildSays$Child;LChildSays$Law;)LChildSays$Round;" } : Jvm.MethodName)) ∈ lw_all := lw_g (lw_at lw_m7 44 rfl) rfl
theorem q1631 : (Jvm.Cond.privateMethod ({ cls := "ChildSays$Round", name := "meets", desc := "(LChildSays$Child;LChildSays$Law;)LChildSays$Round;" } : Jvm.MethodName)) ∈ lw_tbl := lw_at lw_m7 45 rfl
theorem q1632 : (Jvm.Cond.instanceMethod ({ cls := "ChildSays$Round", name := "meets", desc := "(LChildSays$Child;LChildSays$Law;)LChildSays$Round;" } : Jvm.MethodName)) ∈ lw_all := lw_g (lw_at lw_m7 46 rfl) rfl
theorem q1633 : (Jvm.Cond.code ({ cls := "ChildSays$Round", name := "meets", desc := "(LChildSays$Child;LChildSays$Law;)LChildSays$Round;" } : Jvm.MethodName) prog_11_method_5_code (4 : Nat) (Option.some (Jvm.ClassFile.FieldType.object "ChildSays$Round"))) ∈ lw_all := lw_g (lw_at lw_m7 47 rfl) rfl
theorem q1634 : (Jvm.Cond.methodLink "ChildSaysLaw" (131 : Nat) ({ cls := "ChildSays", name := "best", desc := "(II)I" } : Jvm.MethodName)) ∈ lw_all := lw_g (lw_at lw_m7 48 rfl) rfl
theorem q1635 : (Jvm.Cond.instanceMethod ({ cls := "ChildSays", name := "best", desc := "(II)I" } : Jvm.MethodName)) ∈ lw_all := lw_g (lw_at lw_m7 49 rfl) rfl
theorem q1636 : (Jvm.Cond.selects "ChildSays" ({ cls := "ChildSays", name := "best", desc := "(II)I" } : Jvm.MethodName) ({ cls := "ChildSays", name := "best", desc := "(II)I" } : Jvm.MethodName)) ∈ lw_all := lw_g (lw_at lw_m7 50 rfl) rfl
theorem q1637 : (Jvm.Cond.code ({ cls := "ChildSays", name := "best", desc := "(II)I" } : Jvm.MethodName) prog_1_method_52_code (4 : Nat) (Option.some Jvm.ClassFile.FieldType.int)) ∈ lw_all := lw_g (lw_at lw_m7 51 rfl) rfl
theorem q1638 : (Jvm.Cond.methodLink "ChildSays" (458 : Nat) ({ cls := "ChildSays$Put", name := "of", desc := "(LChildSays$Law;)LChildSays$Put;" } : Jvm.MethodName)) ∈ lw_all := lw_g (lw_at lw_m7 52 rfl) rfl
theorem q1639 : (Jvm.Cond.instanceMethod ({ cls := "ChildSays$Put", name := "of", desc := "(LChildSays$Law;)LChildSays$Put;" } : Jvm.MethodName)) ∈ lw_all := lw_g (lw_at lw_m7 53 rfl) rfl
theorem q1640 : (Jvm.Cond.selects "ChildSays$Put" ({ cls := "ChildSays$Put", name := "of", desc := "(LChildSays$Law;)LChildSays$Put;" } : Jvm.MethodName) ({ cls := "ChildSays$Put", name := "of", desc := "(LChildSays$Law;)LChildSays$Put;" } : Jvm.MethodName)) ∈ lw_all := lw_g (lw_at lw_m7 54 rfl) rfl
theorem q1641 : (Jvm.Cond.code ({ cls := "ChildSays$Put", name := "of", desc := "(LChildSays$Law;)LChildSays$Put;" } : Jvm.MethodName) prog_9_method_2_code (3 : Nat) (Option.some (Jvm.ClassFile.FieldType.object "ChildSays$Put"))) ∈ lw_all := lw_g (lw_at lw_m7 55 rfl) rfl
theorem q1642 : (Jvm.Cond.methodLink "ChildSays$Put" (43 : Nat) ({ cls := "ChildSays$Row", name := "like", desc := "(LChildSays$Row;)LChildSays$Row;" } : Jvm.MethodName)) ∈ lw_all := lw_g (lw_at lw_m7 56 rfl) rfl
theorem q1643 : (Jvm.Cond.methodLink "ChildSays" (461 : Nat) ({ cls := "ChildSays$Put", name := "search", desc := "(II)LChildSays$Put;" } : Jvm.MethodName)) ∈ lw_all := lw_g (lw_at lw_m7 57 rfl) rfl
theorem q1644 : (Jvm.Cond.instanceMethod ({ cls := "ChildSays$Put", name := "search", desc := "(II)LChildSays$Put;" } : Jvm.MethodName)) ∈ lw_all := lw_g (lw_at lw_m7 58 rfl) rfl
theorem q1645 : (Jvm.Cond.selects "ChildSays$Put" ({ cls := "ChildSays$Put", name := "search", desc := "(II)LChildSays$Put;" } : Jvm.MethodName) ({ cls := "ChildSays$Put", name := "search", desc := "(II)LChildSays$Put;" } : Jvm.MethodName)) ∈ lw_all := lw_g (lw_at lw_m7 59 rfl) rfl
theorem q1646 : (Jvm.Cond.code ({ cls := "ChildSays$Put", name := "search", desc := "(II)LChildSays$Put;" } : Jvm.MethodName) prog_9_method_5_code (5 : Nat) (Option.some (Jvm.ClassFile.FieldType.object "ChildSays$Put"))) ∈ lw_all := lw_g (lw_at lw_m7 60 rfl) rfl
theorem q1647 : (Jvm.Cond.methodLink "ChildSays$Put" (62 : Nat) ({ cls := "ChildSays$Put", name := "many", desc := "()I" } : Jvm.MethodName)) ∈ lw_all := lw_g (lw_at lw_m7 61 rfl) rfl
theorem q1648 : (Jvm.Cond.privateMethod ({ cls := "ChildSays$Put", name := "many", desc := "()I" } : Jvm.MethodName)) ∈ lw_tbl := lw_at lw_m7 62 rfl
theorem q1649 : (Jvm.Cond.instanceMethod ({ cls := "ChildSays$Put", name := "many", desc := "()I" } : Jvm.MethodName)) ∈ lw_all := lw_g (lw_at lw_m7 63 rfl) rfl
theorem q1650 : (Jvm.Cond.code ({ cls := "ChildSays$Put", name := "many", desc := "()I" } : Jvm.MethodName) prog_9_method_3_code (1 : Nat) (Option.some Jvm.ClassFile.FieldType.int)) ∈ lw_all := lw_g (lw_at lw_m7 64 rfl) rfl
theorem q1651 : (Jvm.Cond.methodLinkNest "ChildSays$Put" (54 : Nat) ({ cls := "ChildSays", name := "byMany", desc := "(LChildSays$Row;Z)I" } : Jvm.MethodName) "ChildSays") ∈ lw_tbl := lw_at lw_m7 65 rfl
theorem q1652 : (Jvm.Cond.methodLink "ChildSays$Put" (66 : Nat) ({ cls := "ChildSays$Put", name := "puts", desc := "(II)V" } : Jvm.MethodName)) ∈ lw_all := lw_g (lw_at lw_m7 66 rfl) rfl
theorem q1653 : (Jvm.Cond.privateMethod ({ cls := "ChildSays$Put", name := "puts", desc := "(II)V" } : Jvm.MethodName)) ∈ lw_tbl := lw_at lw_m7 67 rfl
theorem q1654 : (Jvm.Cond.instanceMethod ({ cls := "ChildSays$Put", name := "puts", desc := "(II)V" } : Jvm.MethodName)) ∈ lw_all := lw_g (lw_at lw_m7 68 rfl) rfl
theorem q1655 : (Jvm.Cond.code ({ cls := "ChildSays$Put", name := "puts", desc := "(II)V" } : Jvm.MethodName) prog_9_method_4_code (3 : Nat) (Option.none : Option Jvm.ClassFile.FieldType)) ∈ lw_all := lw_g (lw_at lw_m7 69 rfl) rfl
theorem q1656 : (Jvm.Cond.methodLink "ChildSays$Put" (70 : Nat) ({ cls := "ChildSays$Put", name := "search", desc := "(II)LChildSays$Put;" } : Jvm.MethodName)) ∈ lw_all := lw_g (lw_at lw_m7 70 rfl) rfl
theorem q1657 : (Jvm.Cond.methodLink "ChildSays" (465 : Nat) ({ cls := "ChildSays$Put", name := "tells", desc := "(I)I" } : Jvm.MethodName)) ∈ lw_all := lw_g (lw_at lw_m7 71 rfl) rfl
theorem q1658 : (Jvm.Cond.instanceMethod ({ cls := "ChildSays$Put", name := "tells", desc := "(I)I" } : Jvm.MethodName)) ∈ lw_all := lw_g (lw_at lw_m7 72 rfl) rfl
theorem q1659 : (Jvm.Cond.selects "ChildSays$Put" ({ cls := "ChildSays$Put", name := "tells", desc := "(I)I" } : Jvm.MethodName) ({ cls := "ChildSays$Put", name := "tells", desc := "(I)I" } : Jvm.MethodName)) ∈ lw_all := lw_g (lw_at lw_m7 73 rfl) rfl
theorem q1660 : (Jvm.Cond.code ({ cls := "ChildSays$Put", name := "tells", desc := "(I)I" } : Jvm.MethodName) prog_9_method_9_code (2 : Nat) (Option.some Jvm.ClassFile.FieldType.int)) ∈ lw_all := lw_g (lw_at lw_m7 74 rfl) rfl
theorem q1661 : (Jvm.Cond.methodLinkNest "ChildSays$Put" (81 : Nat) ({ cls := "ChildSays", name := "isIn", desc := "(JJJ)Z" } : Jvm.MethodName) "ChildSays") ∈ lw_tbl := lw_at lw_m7 75 rfl
theorem q1662 : (Jvm.Cond.methodLink "ChildSaysLaw" (135 : Nat) ({ cls := "ChildSays", name := "mended", desc := "(II)I" } : Jvm.MethodName)) ∈ lw_all := lw_g (lw_at lw_m7 76 rfl) rfl
theorem q1663 : (Jvm.Cond.instanceMethod ({ cls := "ChildSays", name := "mended", desc := "(II)I" } : Jvm.MethodName)) ∈ lw_all := lw_g (lw_at lw_m7 77 rfl) rfl
theorem q1664 : (Jvm.Cond.selects "ChildSays" ({ cls := "ChildSays", name := "mended", desc := "(II)I" } : Jvm.MethodName) ({ cls := "ChildSays", name := "mended", desc := "(II)I" } : Jvm.MethodName)) ∈ lw_all := lw_g (lw_at lw_m7 78 rfl) rfl
theorem q1665 : (Jvm.Cond.code ({ cls := "ChildSays", name := "mended", desc := "(II)I" } : Jvm.MethodName) prog_1_method_53_code (4 : Nat) (Option.some Jvm.ClassFile.FieldType.int)) ∈ lw_all := lw_g (lw_at lw_m7 79 rfl) rfl
theorem q1666 : (Jvm.Cond.methodLink "ChildSays" (466 : Nat) ({ cls := "ChildSays$Put", name := "mends", desc := "()LChildSays$Put;" } : Jvm.MethodName)) ∈ lw_all := lw_g (lw_at lw_m7 80 rfl) rfl
theorem q1667 : (Jvm.Cond.instanceMethod ({ cls := "ChildSays$Put", name := "mends", desc := "()LChildSays$Put;" } : Jvm.MethodName)) ∈ lw_all := lw_g (lw_at lw_m7 81 rfl) rfl
theorem q1668 : (Jvm.Cond.selects "ChildSays$Put" ({ cls := "ChildSays$Put", name := "mends", desc := "()LChildSays$Put;" } : Jvm.MethodName) ({ cls := "ChildSays$Put", name := "mends", desc := "()LChildSays$Put;" } : Jvm.MethodName)) ∈ lw_all := lw_g (lw_at lw_m7 82 rfl) rfl
theorem q1669 : (Jvm.Cond.code ({ cls := "ChildSays$Put", name := "mends", desc := "()LChildSays$Put;" } : Jvm.MethodName) prog_9_method_8_code (2 : Nat) (Option.some (Jvm.ClassFile.FieldType.object "ChildSays$Put"))) ∈ lw_all := lw_g (lw_at lw_m7 83 rfl) rfl
theorem q1670 : (Jvm.Cond.methodLink "ChildSays$Put" (77 : Nat) ({ cls := "ChildSays$Put", name := "isBetter", desc := "()Z" } : Jvm.MethodName)) ∈ lw_all := lw_g (lw_at lw_m7 84 rfl) rfl
theorem q1671 : (Jvm.Cond.privateMethod ({ cls := "ChildSays$Put", name := "isBetter", desc := "()Z" } : Jvm.MethodName)) ∈ lw_tbl := lw_at lw_m7 85 rfl
theorem q1672 : (Jvm.Cond.instanceMethod ({ cls := "ChildSays$Put", name := "isBetter", desc := "()Z" } : Jvm.MethodName)) ∈ lw_all := lw_g (lw_at lw_m7 86 rfl) rfl
theorem q1673 : (Jvm.Cond.code ({ cls := "ChildSays$Put", name := "isBetter", desc := "()Z" } : Jvm.MethodName) prog_9_method_7_code (7 : Nat) (Option.some Jvm.ClassFile.FieldType.boolean)) ∈ lw_all := lw_g (lw_at lw_m7 87 rfl) rfl
theorem q1674 : (Jvm.Cond.methodLink "ChildSays$Put" (74 : Nat) ({ cls := "ChildSays$Put", name := "swaps", desc := "(II)V" } : Jvm.MethodName)) ∈ lw_all := lw_g (lw_at lw_m7 88 rfl) rfl
theorem q1675 : (Jvm.Cond.privateMethod ({ cls := "ChildSays$Put", name := "swaps", desc := "(II)V" } : Jvm.MethodName)) ∈ lw_tbl := lw_at lw_m7 89 rfl
theorem q1676 : (Jvm.Cond.instanceMethod ({ cls := "ChildSays$Put", name := "swaps", desc := "(II)V" } : Jvm.MethodName)) ∈ lw_all := lw_g (lw_at lw_m7 90 rfl) rfl
theorem q1677 : (Jvm.Cond.code ({ cls := "ChildSays$Put", name := "swaps", desc := "(II)V" } : Jvm.MethodName) prog_9_method_6_code (4 : Nat) (Option.none : Option Jvm.ClassFile.FieldType)) ∈ lw_all := lw_g (lw_at lw_m7 91 rfl) rfl
theorem q1678 : (Jvm.Cond.methodLink "ChildSaysLaw" (139 : Nat) ({ cls := "ChildSays", name := "forty", desc := "(II)I" } : Jvm.MethodName)) ∈ lw_all := lw_g (lw_at lw_m7 92 rfl) rfl
theorem q1679 : (Jvm.Cond.instanceMethod ({ cls := "ChildSays", name := "forty", desc := "(II)I" } : Jvm.MethodName)) ∈ lw_all := lw_g (lw_at lw_m7 93 rfl) rfl
theorem q1680 : (Jvm.Cond.selects "ChildSays" ({ cls := "ChildSays", name := "forty", desc := "(II)I" } : Jvm.MethodName) ({ cls := "ChildSays", name := "forty", desc := "(II)I" } : Jvm.MethodName)) ∈ lw_all := lw_g (lw_at lw_m7 94 rfl) rfl
theorem q1681 : (Jvm.Cond.code ({ cls := "ChildSays", name := "forty", desc := "(II)I" } : Jvm.MethodName) prog_1_method_54_code (4 : Nat) (Option.some Jvm.ClassFile.FieldType.int)) ∈ lw_all := lw_g (lw_at lw_m7 95 rfl) rfl
theorem q1682 : (Jvm.Cond.constantLong "ChildSays" (473 : Nat) (6 : Int64)) ∈ lw_all := lw_g (lw_at lw_m7 96 rfl) rfl
theorem q1683 : (Jvm.Cond.methodLink "ChildSays" (475 : Nat) ({ cls := "ChildSays$Order", name := "best", desc := "(LChildSays$Child;)LChildSays$Order;" } : Jvm.MethodName)) ∈ lw_all := lw_g (lw_at lw_m7 97 rfl) rfl
theorem q1684 : (Jvm.Cond.instanceMethod ({ cls := "ChildSays$Order", name := "best", desc := "(LChildSays$Child;)LChildSays$Order;" } : Jvm.MethodName)) ∈ lw_all := lw_g (lw_at lw_m7 98 rfl) rfl
theorem q1685 : (Jvm.Cond.selects "ChildSays$Order" ({ cls := "ChildSays$Order", name := "best", desc := "(LChildSays$Child;)LChildSays$Order;" } : Jvm.MethodName) ({ cls := "ChildSays$Order", name := "best", desc := "(LChildSays$Child;)LChildSays$Order;" } : Jvm.MethodName)) ∈ lw_all := lw_g (lw_at lw_m7 99 rfl) rfl
theorem q1686 : (Jvm.Cond.code ({ cls := "ChildSays$Order", name := "best", desc := "(LChildSays$Child;)LChildSays$Order;" } : Jvm.MethodName) prog_8_method_5_code (2 : Nat) (Option.some (Jvm.ClassFile.FieldType.object "ChildSays$Order"))) ∈ lw_all := lw_g (lw_at lw_m7 100 rfl) rfl
theorem q1687 : (Jvm.Cond.methodLink "ChildSays$Order" (92 : Nat) ({ cls := "ChildSays$Town", name := "standing", desc := "()I" } : Jvm.MethodName)) ∈ lw_all := lw_g (lw_at lw_m7 101 rfl) rfl
theorem q1688 : (Jvm.Cond.methodLink "ChildSays$Order" (88 : Nat) ({ cls := "ChildSays$Order", name := "search", desc := "(LChildSays$Child;II)V" } : Jvm.MethodName)) ∈ lw_all := lw_g (lw_at lw_m7 102 rfl) rfl
theorem q1689 : (Jvm.Cond.privateMethod ({ cls := "ChildSays$Order", name := "search", desc := "(LChildSays$Child;II)V" } : Jvm.MethodName)) ∈ lw_tbl := lw_at lw_m7 103 rfl
theorem q1690 : (Jvm.Cond.instanceMethod ({ cls := "ChildSays$Order", name := "search", desc := "(LChildSays$Child;II)V" } : Jvm.MethodName)) ∈ lw_all := lw_g (lw_at lw_m7 104 rfl) rfl
theorem q1691 : (Jvm.Cond.code ({ cls := "ChildSays$Order", name := "search", desc := "(LChildSays$Child;II)V" } : Jvm.MethodName) prog_8_method_4_code (5 : Nat) (Option.none : Option Jvm.ClassFile.FieldType)) ∈ lw_all := lw_g (lw_at lw_m7 105 rfl) rfl
theorem q1692 : (Jvm.Cond.methodLink "ChildSays$Order" (45 : Nat) ({ cls := "ChildSays$Order", name := "whole", desc := "(LChildSays$Child;)I" } : Jvm.MethodName)) ∈ lw_all := lw_g (lw_at lw_m7 106 rfl) rfl
theorem q1693 : (Jvm.Cond.privateMethod ({ cls := "ChildSays$Order", name := "whole", desc := "(LChildSays$Child;)I" } : Jvm.MethodName)) ∈ lw_tbl := lw_at lw_m7 107 rfl
theorem q1694 : (Jvm.Cond.instanceMethod ({ cls := "ChildSays$Order", name := "whole", desc := "(LChildSays$Child;)I" } : Jvm.MethodName)) ∈ lw_all := lw_g (lw_at lw_m7 108 rfl) rfl
theorem q1695 : (Jvm.Cond.code ({ cls := "ChildSays$Order", name := "whole", desc := "(LChildSays$Child;)I" } : Jvm.MethodName) prog_8_method_2_code (2 : Nat) (Option.some Jvm.ClassFile.FieldType.int)) ∈ lw_all := lw_g (lw_at lw_m7 109 rfl) rfl
theorem q1696 : (Jvm.Cond.methodLink "ChildSays$Order" (30 : Nat) ({ cls := "ChildSays$Sitting", name := "saidBy", desc := "(LChildSays$Child;)LChildSays$Sitting;" } : Jvm.MethodName)) ∈ lw_all := lw_g (lw_at lw_m7 110 rfl) rfl
theorem q1697 : (Jvm.Cond.methodLink "ChildSays$Order" (34 : Nat) ({ cls := "ChildSays$Sitting", name := "kinds", desc := "(I)I" } : Jvm.MethodName)) ∈ lw_all := lw_g (lw_at lw_m7 111 rfl) rfl
theorem q1698 : (Jvm.Cond.methodLink "ChildSays$Order" (52 : Nat) ({ cls := "ChildSays$Order", name := "isFirst", desc := "()V" } : Jvm.MethodName)) ∈ lw_all := lw_g (lw_at lw_m7 112 rfl) rfl
theorem q1699 : (Jvm.Cond.privateMethod ({ cls := "ChildSays$Order", name := "isFirst", desc := "()V" } : Jvm.MethodName)) ∈ lw_tbl := lw_at lw_m7 113 rfl
theorem q1700 : (Jvm.Cond.instanceMethod ({ cls := "ChildSays$Order", name := "isFirst", desc := "()V" } : Jvm.MethodName)) ∈ lw_all := lw_g (lw_at lw_m7 114 rfl) rfl
theorem q1701 : (Jvm.Cond.code ({ cls := "ChildSays$Order", name := "isFirst", desc := "()V" } : Jvm.MethodName) prog_8_method_3_code (2 : Nat) (Option.none : Option Jvm.ClassFile.FieldType)) ∈ lw_all := lw_g (lw_at lw_m7 115 rfl) rfl
theorem q1702 : (Jvm.Cond.methodLink "ChildSays$Order" (65 : Nat) ({ cls := "java/util/ArrayList", name := "size", desc := "()I" } : Jvm.MethodName)) ∈ lw_all := lw_g (lw_at lw_m7 116 rfl) rfl
theorem q1703 : (Jvm.Cond.methodLink "ChildSays$Order" (71 : Nat) ({ cls := "java/util/ArrayList", name := "get", desc := "(I)Ljava/lang/Object;" } : Jvm.MethodName)) ∈ lw_all := lw_g (lw_at lw_m7 117 rfl) rfl
theorem q1704 : (Jvm.Cond.methodLink "ChildSays$Order" (78 : Nat) ({ cls := "ChildSays$Row", name := "isOne", desc := "()Z" } : Jvm.MethodName)) ∈ lw_all := lw_g (lw_at lw_m7 118 rfl) rfl
theorem q1705 : (Jvm.Cond.methodLink "ChildSays$Order" (84 : Nat) ({ cls := "ChildSays$Sitting", name := "comes", desc := "(LChildSays$Law;)V" } : Jvm.MethodName)) ∈ lw_all := lw_g (lw_at lw_m7 119 rfl) rfl
theorem q1706 : (Jvm.Cond.methodLink "ChildSays" (479 : Nat) ({ cls := "ChildSays$Order", name := "tells", desc := "(I)I" } : Jvm.MethodName)) ∈ lw_all := lw_g (lw_at lw_m7 120 rfl) rfl
theorem q1707 : (Jvm.Cond.instanceMethod ({ cls := "ChildSays$Order", name := "tells", desc := "(I)I" } : Jvm.MethodName)) ∈ lw_all := lw_g (lw_at lw_m7 121 rfl) rfl
theorem q1708 : (Jvm.Cond.selects "ChildSays$Order" ({ cls := "ChildSays$Order", name := "tells", desc := "(I)I" } : Jvm.MethodName) ({ cls := "ChildSays$Order", name := "tells", desc := "(I)I" } : Jvm.MethodName)) ∈ lw_all := lw_g (lw_at lw_m7 122 rfl) rfl
theorem q1709 : (Jvm.Cond.code ({ cls := "ChildSays$Order", name := "tells", desc := "(I)I" } : Jvm.MethodName) prog_8_method_8_code (2 : Nat) (Option.some Jvm.ClassFile.FieldType.int)) ∈ lw_all := lw_g (lw_at lw_m7 123 rfl) rfl
theorem q1710 : (Jvm.Cond.methodLinkNest "ChildSays$Order" (110 : Nat) ({ cls := "ChildSays", name := "isIn", desc := "(JJJ)Z" } : Jvm.MethodName) "ChildSays") ∈ lw_tbl := lw_at lw_m7 124 rfl
theorem q1711 : (Jvm.Cond.methodLink "ChildSaysLaw" (143 : Nat) ({ cls := "ChildSays", name := "sorted", desc := "(II)I" } : Jvm.MethodName)) ∈ lw_all := lw_g (lw_at lw_m7 125 rfl) rfl
theorem q1712 : (Jvm.Cond.instanceMethod ({ cls := "ChildSays", name := "sorted", desc := "(II)I" } : Jvm.MethodName)) ∈ lw_all := lw_g (lw_at lw_m7 126 rfl) rfl
theorem q1713 : (Jvm.Cond.selects "ChildSays" ({ cls := "ChildSays", name := "sorted", desc := "(II)I" } : Jvm.MethodName) ({ cls := "ChildSays", name := "sorted", desc := "(II)I" } : Jvm.MethodName)) ∈ lw_all := lw_g (lw_at lw_m7 127 rfl) rfl
theorem q1714 : (Jvm.Cond.code ({ cls := "ChildSays", name := "sorted", desc := "(II)I" } : Jvm.MethodName) prog_1_method_55_code (4 : Nat) (Option.some Jvm.ClassFile.FieldType.int)) ∈ lw_all := lw_g (lw_at lw_m7 128 rfl) rfl
theorem q1715 : (Jvm.Cond.methodLink "ChildSays" (480 : Nat) ({ cls := "ChildSays$Order", name := "sorts", desc := "(LChildSays$Child;)LChildSays$Order;" } : Jvm.MethodName)) ∈ lw_all := lw_g (lw_at lw_m7 129 rfl) rfl
theorem q1716 : (Jvm.Cond.instanceMethod ({ cls := "ChildSays$Order", name := "sorts", desc := "(LChildSays$Child;)LChildSays$Order;" } : Jvm.MethodName)) ∈ lw_all := lw_g (lw_at lw_m7 130 rfl) rfl
theorem q1717 : (Jvm.Cond.selects "ChildSays$Order" ({ cls := "ChildSays$Order", name := "sorts", desc := "(LChildSays$Child;)LChildSays$Order;" } : Jvm.MethodName) ({ cls := "ChildSays$Order", name := "sorts", desc := "(LChildSays$Child;)LChildSays$Order;" } : Jvm.MethodName)) ∈ lw_all := lw_g (lw_at lw_m7 131 rfl) rfl
theorem q1718 : (Jvm.Cond.code ({ cls := "ChildSays$Order", name := "sorts", desc := "(LChildSays$Child;)LChildSays$Order;" } : Jvm.MethodName) prog_8_method_7_code (2 : Nat) (Option.some (Jvm.ClassFile.FieldType.object "ChildSays$Order"))) ∈ lw_all := lw_g (lw_at lw_m7 132 rfl) rfl
theorem q1719 : (Jvm.Cond.methodLink "ChildSays$Order" (99 : Nat) ({ cls := "ChildSays$Sitting", name := "inOrder", desc := "()LChildSays$Sitting;" } : Jvm.MethodName)) ∈ lw_all := lw_g (lw_at lw_m7 133 rfl) rfl
theorem q1720 : (Jvm.Cond.methodLink "ChildSays$Order" (106 : Nat) ({ cls := "ChildSays$Order", name := "isBetter", desc := "(LChildSays$Child;)Z" } : Jvm.MethodName)) ∈ lw_all := lw_g (lw_at lw_m7 134 rfl) rfl
theorem q1721 : (Jvm.Cond.privateMethod ({ cls := "ChildSays$Order", name := "isBetter", desc := "(LChildSays$Child;)Z" } : Jvm.MethodName)) ∈ lw_tbl := lw_at lw_m7 135 rfl
theorem q1722 : (Jvm.Cond.instanceMethod ({ cls := "ChildSays$Order", name := "isBetter", desc := "(LChildSays$Child;)Z" } : Jvm.MethodName)) ∈ lw_all := lw_g (lw_at lw_m7 136 rfl) rfl
theorem q1723 : (Jvm.Cond.code ({ cls := "ChildSays$Order", name := "isBetter", desc := "(LChildSays$Child;)Z" } : Jvm.MethodName) prog_8_method_6_code (8 : Nat) (Option.some Jvm.ClassFile.FieldType.boolean)) ∈ lw_all := lw_g (lw_at lw_m7 137 rfl) rfl
theorem q1724 : (Jvm.Cond.methodLink "ChildSays$Order" (95 : Nat) ({ cls := "ChildSays$Sitting", name := "swaps", desc := "(II)V" } : Jvm.MethodName)) ∈ lw_all := lw_g (lw_at lw_m7 138 rfl) rfl
theorem q1725 : (Jvm.Cond.instanceMethod ({ cls := "ChildSays$Sitting", name := "swaps", desc := "(II)V" } : Jvm.MethodName)) ∈ lw_all := lw_g (lw_at lw_m7 139 rfl) rfl
theorem q1726 : (Jvm.Cond.selects "ChildSays$Sitting" ({ cls := "ChildSays$Sitting", name := "swaps", desc := "(II)V" } : Jvm.MethodName) ({ cls := "ChildSays$Sitting", name := "swaps", desc := "(II)V" } : Jvm.MethodName)) ∈ lw_all := lw_g (lw_at lw_m7 140 rfl) rfl
theorem q1727 : (Jvm.Cond.code ({ cls := "ChildSays$Sitting", name := "swaps", desc := "(II)V" } : Jvm.MethodName) prog_14_method_5_code (4 : Nat) (Option.none : Option Jvm.ClassFile.FieldType)) ∈ lw_all := lw_g (lw_at lw_m7 141 rfl) rfl
theorem q1728 : (Jvm.Cond.methodLink "ChildSaysLaw" (147 : Nat) ({ cls := "ChildSays", name := "apart", desc := "(I)I" } : Jvm.MethodName)) ∈ lw_all := lw_g (lw_at lw_m7 142 rfl) rfl
theorem q1729 : (Jvm.Cond.instanceMethod ({ cls := "ChildSays", name := "apart", desc := "(I)I" } : Jvm.MethodName)) ∈ lw_all := lw_g (lw_at lw_m7 143 rfl) rfl
theorem q1730 : (Jvm.Cond.selects "ChildSays" ({ cls := "ChildSays", name := "apart", desc := "(I)I" } : Jvm.MethodName) ({ cls := "ChildSays", name := "apart", desc := "(I)I" } : Jvm.MethodName)) ∈ lw_all := lw_g (lw_at lw_m7 144 rfl) rfl
theorem q1731 : (Jvm.Cond.code ({ cls := "ChildSays", name := "apart", desc := "(I)I" } : Jvm.MethodName) prog_1_method_57_code (2 : Nat) (Option.some Jvm.ClassFile.FieldType.int)) ∈ lw_all := lw_g (lw_at lw_m7 145 rfl) rfl
theorem q1732 : (Jvm.Cond.static ({ cls := "ChildSays", name := "lambda$apart$0", desc := "(LChildSays$Row;LChildSays$Row;)Z" } : Jvm.MethodName)) ∈ lw_all := lw_g (lw_at lw_m7 146 rfl) rfl
theorem q1733 : (Jvm.Cond.code ({ cls := "ChildSays", name := "lambda$apart$0", desc := "(LChildSays$Row;LChildSays$Row;)Z" } : Jvm.MethodName) prog_1_method_74_code (2 : Nat) (Option.some Jvm.ClassFile.FieldType.boolean)) ∈ lw_all := lw_g (lw_at lw_m7 147 rfl) rfl
theorem q1734 : (Jvm.Cond.methodLink "ChildSays" (549 : Nat) ({ cls := "ChildSays$Row", name := "beginsLike", desc := "(LChildSays$Row;)Z" } : Jvm.MethodName)) ∈ lw_all := lw_g (lw_at lw_m7 148 rfl) rfl
theorem q1735 : (Jvm.Cond.methodLink "ChildSays" (493 : Nat) ({ cls := "ChildSays", name := "twos", desc := "(ILChildSays$Are;)I" } : Jvm.MethodName)) ∈ lw_all := lw_g (lw_at lw_m7 149 rfl) rfl
theorem q1736 : (Jvm.Cond.privateMethod ({ cls := "ChildSays", name := "twos", desc := "(ILChildSays$Are;)I" } : Jvm.MethodName)) ∈ lw_tbl := lw_at lw_m7 150 rfl
theorem q1737 : (Jvm.Cond.instanceMethod ({ cls := "ChildSays", name := "twos", desc := "(ILChildSays$Are;)I" } : Jvm.MethodName)) ∈ lw_all := lw_g (lw_at lw_m7 151 rfl) rfl
theorem q1738 : (Jvm.Cond.code ({ cls := "ChildSays", name := "twos", desc := "(ILChildSays$Are;)I" } : Jvm.MethodName) prog_1_method_56_code (8 : Nat) (Option.some Jvm.ClassFile.FieldType.int)) ∈ lw_all := lw_g (lw_at lw_m7 152 rfl) rfl
theorem q1739 : (Jvm.Cond.interfaceEntry "ChildSays" (484 : Nat)) ∈ lw_tbl := lw_at lw_m7 153 rfl
theorem q1740 : (Jvm.Cond.methodLink "ChildSays" (484 : Nat) ({ cls := "ChildSays$Are", name := "so", desc := "(LChildSays$Row;LChildSays$Row;)Z" } : Jvm.MethodName)) ∈ lw_all := lw_g (lw_at lw_m7 154 rfl) rfl
theorem q1741 : (Jvm.Cond.interfaceMethod "ChildSays$Are" "ChildSays$Are" "so" "(LChildSays$Row;LChildSays$Row;)Z") ∈ lw_tbl := lw_at lw_m7 155 rfl
theorem q1742 : (Jvm.Cond.declares ({ cls := "ChildSays$Are", name := "so", desc := "(LChildSays$Row;LChildSays$Row;)Z" } : Jvm.MethodName)) ∈ lw_tbl := lw_at lw_m7 156 rfl
theorem q1743 : (Jvm.Cond.methodLink "ChildSaysLaw" (151 : Nat) ({ cls := "ChildSays", name := "against", desc := "(I)I" } : Jvm.MethodName)) ∈ lw_all := lw_g (lw_at lw_m7 157 rfl) rfl
theorem q1744 : (Jvm.Cond.instanceMethod ({ cls := "ChildSays", name := "against", desc := "(I)I" } : Jvm.MethodName)) ∈ lw_all := lw_g (lw_at lw_m7 158 rfl) rfl
theorem q1745 : (Jvm.Cond.selects "ChildSays" ({ cls := "ChildSays", name := "against", desc := "(I)I" } : Jvm.MethodName) ({ cls := "ChildSays", name := "against", desc := "(I)I" } : Jvm.MethodName)) ∈ lw_all := lw_g (lw_at lw_m7 159 rfl) rfl
theorem q1746 : (Jvm.Cond.code ({ cls := "ChildSays", name := "against", desc := "(I)I" } : Jvm.MethodName) prog_1_method_58_code (2 : Nat) (Option.some Jvm.ClassFile.FieldType.int)) ∈ lw_all := lw_g (lw_at lw_m7 160 rfl) rfl
theorem q1747 : (Jvm.Cond.static ({ cls := "ChildSays", name := "lambda$against$1", desc := "(LChildSays$Row;LChildSays$Row;)Z" } : Jvm.MethodName)) ∈ lw_all := lw_g (lw_at lw_m7 161 rfl) rfl
theorem q1748 : (Jvm.Cond.code ({ cls := "ChildSays", name := "lambda$against$1", desc := "(LChildSays$Row;LChildSays$Row;)Z" } : Jvm.MethodName) prog_1_method_73_code (2 : Nat) (Option.some Jvm.ClassFile.FieldType.boolean)) ∈ lw_all := lw_g (lw_at lw_m7 162 rfl) rfl
theorem q1749 : (Jvm.Cond.methodLink "ChildSays" (546 : Nat) ({ cls := "ChildSays$Row", name := "isAgainst", desc := "(LChildSays$Row;)Z" } : Jvm.MethodName)) ∈ lw_all := lw_g (lw_at lw_m7 163 rfl) rfl
theorem q1750 : (Jvm.Cond.instanceMethod ({ cls := "ChildSays$Row", name := "isAgainst", desc := "(LChildSays$Row;)Z" } : Jvm.MethodName)) ∈ lw_all := lw_g (lw_at lw_m7 164 rfl) rfl
theorem q1751 : (Jvm.Cond.selects "ChildSays$Row" ({ cls := "ChildSays$Row", name := "isAgainst", desc := "(LChildSays$Row;)Z" } : Jvm.MethodName) ({ cls := "ChildSays$Row", name := "isAgainst", desc := "(LChildSays$Row;)Z" } : Jvm.MethodName)) ∈ lw_all := lw_g (lw_at lw_m7 165 rfl) rfl
theorem q1752 : (Jvm.Cond.code ({ cls := "ChildSays$Row", name := "isAgainst", desc := "(LChildSays$Row;)Z" } : Jvm.MethodName) prog_12_method_12_code (4 : Nat) (Option.some Jvm.ClassFile.FieldType.boolean)) ∈ lw_all := lw_g (lw_at lw_m7 166 rfl) rfl
theorem q1753 : (Jvm.Cond.methodLink "ChildSays$Row" (35 : Nat) ({ cls := "ChildSays$Row", name := "nevers", desc := "()I" } : Jvm.MethodName)) ∈ lw_all := lw_g (lw_at lw_m7 167 rfl) rfl
theorem q1754 : (Jvm.Cond.instanceMethod ({ cls := "ChildSays$Row", name := "nevers", desc := "()I" } : Jvm.MethodName)) ∈ lw_all := lw_g (lw_at lw_m7 168 rfl) rfl
theorem q1755 : (Jvm.Cond.selects "ChildSays$Row" ({ cls := "ChildSays$Row", name := "nevers", desc := "()I" } : Jvm.MethodName) ({ cls := "ChildSays$Row", name := "nevers", desc := "()I" } : Jvm.MethodName)) ∈ lw_all := lw_g (lw_at lw_m7 169 rfl) rfl
theorem q1756 : (Jvm.Cond.code ({ cls := "ChildSays$Row", name := "nevers", desc := "()I" } : Jvm.MethodName) prog_12_method_10_code (3 : Nat) (Option.some Jvm.ClassFile.FieldType.int)) ∈ lw_all := lw_g (lw_at lw_m7 170 rfl) rfl
theorem q1757 : (Jvm.Cond.methodLink "ChildSays$Row" (38 : Nat) ({ cls := "ChildSays$Row", name := "plain", desc := "(I)I" } : Jvm.MethodName)) ∈ lw_all := lw_g (lw_at lw_m7 171 rfl) rfl
theorem q1758 : (Jvm.Cond.instanceMethod ({ cls := "ChildSays$Row", name := "plain", desc := "(I)I" } : Jvm.MethodName)) ∈ lw_all := lw_g (lw_at lw_m7 172 rfl) rfl
theorem q1759 : (Jvm.Cond.selects "ChildSays$Row" ({ cls := "ChildSays$Row", name := "plain", desc := "(I)I" } : Jvm.MethodName) ({ cls := "ChildSays$Row", name := "plain", desc := "(I)I" } : Jvm.MethodName)) ∈ lw_all := lw_g (lw_at lw_m7 173 rfl) rfl
theorem q1760 : (Jvm.Cond.code ({ cls := "ChildSays$Row", name := "plain", desc := "(I)I" } : Jvm.MethodName) prog_12_method_11_code (3 : Nat) (Option.some Jvm.ClassFile.FieldType.int)) ∈ lw_all := lw_g (lw_at lw_m7 174 rfl) rfl
theorem q1761 : (Jvm.Cond.methodLink "ChildSaysLaw" (155 : Nat) ({ cls := "ChildSays", name := "once", desc := "(IIII)I" } : Jvm.MethodName)) ∈ lw_all := lw_g (lw_at lw_m7 175 rfl) rfl
theorem q1762 : (Jvm.Cond.instanceMethod ({ cls := "ChildSays", name := "once", desc := "(IIII)I" } : Jvm.MethodName)) ∈ lw_all := lw_g (lw_at lw_m7 176 rfl) rfl
theorem q1763 : (Jvm.Cond.selects "ChildSays" ({ cls := "ChildSays", name := "once", desc := "(IIII)I" } : Jvm.MethodName) ({ cls := "ChildSays", name := "once", desc := "(IIII)I" } : Jvm.MethodName)) ∈ lw_all := lw_g (lw_at lw_m7 177 rfl) rfl
theorem q1764 : (Jvm.Cond.code ({ cls := "ChildSays", name := "once", desc := "(IIII)I" } : Jvm.MethodName) prog_1_method_61_code (7 : Nat) (Option.some Jvm.ClassFile.FieldType.int)) ∈ lw_all := lw_g (lw_at lw_m7 178 rfl) rfl
theorem q1765 : (Jvm.Cond.methodLink "ChildSays" (502 : Nat) ({ cls := "ChildSays", name := "rows", desc := "(LChildSays$Child;LChildSays$Law;III)I" } : Jvm.MethodName)) ∈ lw_all := lw_g (lw_at lw_m7 179 rfl) rfl
theorem q1766 : (Jvm.Cond.privateMethod ({ cls := "ChildSays", name := "rows", desc := "(LChildSays$Child;LChildSays$Law;III)I" } : Jvm.MethodName)) ∈ lw_tbl := lw_at lw_m7 180 rfl
theorem q1767 : (Jvm.Cond.instanceMethod ({ cls := "ChildSays", name := "rows", desc := "(LChildSays$Child;LChildSays$Law;III)I" } : Jvm.MethodName)) ∈ lw_all := lw_g (lw_at lw_m7 181 rfl) rfl
theorem q1768 : (Jvm.Cond.code ({ cls := "ChildSays", name := "rows", desc := "(LChildSays$Child;LChildSays$Law;III)I" } : Jvm.MethodName) prog_1_method_59_code (8 : Nat) (Option.some Jvm.ClassFile.FieldType.int)) ∈ lw_all := lw_g (lw_at lw_m7 182 rfl) rfl
theorem q1769 : (Jvm.Cond.methodLink "ChildSays" (498 : Nat) ({ cls := "ChildSays", name := "isSaidSo", desc := "(LChildSays$Child;LChildSays$Law;)Z" } : Jvm.MethodName)) ∈ lw_all := lw_g (lw_at lw_m7 183 rfl) rfl
theorem q1770 : (Jvm.Cond.privateMethod ({ cls := "ChildSays", name := "isSaidSo", desc := "(LChildSays$Child;LChildSays$Law;)Z" } : Jvm.MethodName)) ∈ lw_tbl := lw_at lw_m7 184 rfl
theorem q1771 : (Jvm.Cond.instanceMethod ({ cls := "ChildSays", name := "isSaidSo", desc := "(LChildSays$Child;LChildSays$Law;)Z" } : Jvm.MethodName)) ∈ lw_all := lw_g (lw_at lw_m7 185 rfl) rfl
theorem q1772 : (Jvm.Cond.code ({ cls := "ChildSays", name := "isSaidSo", desc := "(LChildSays$Child;LChildSays$Law;)Z" } : Jvm.MethodName) prog_1_method_60_code (3 : Nat) (Option.some Jvm.ClassFile.FieldType.boolean)) ∈ lw_all := lw_g (lw_at lw_m7 186 rfl) rfl
theorem q1773 : (Jvm.Cond.methodLink "ChildSaysLaw" (160 : Nat) ({ cls := "ChildSays", name := "meaning", desc := "(I)I" } : Jvm.MethodName)) ∈ lw_all := lw_g (lw_at lw_m7 187 rfl) rfl
theorem q1774 : (Jvm.Cond.instanceMethod ({ cls := "ChildSays", name := "meaning", desc := "(I)I" } : Jvm.MethodName)) ∈ lw_all := lw_g (lw_at lw_m7 188 rfl) rfl
theorem q1775 : (Jvm.Cond.selects "ChildSays" ({ cls := "ChildSays", name := "meaning", desc := "(I)I" } : Jvm.MethodName) ({ cls := "ChildSays", name := "meaning", desc := "(I)I" } : Jvm.MethodName)) ∈ lw_all := lw_g (lw_at lw_m7 189 rfl) rfl
theorem q1776 : (Jvm.Cond.code ({ cls := "ChildSays", name := "meaning", desc := "(I)I" } : Jvm.MethodName) prog_1_method_62_code (3 : Nat) (Option.some Jvm.ClassFile.FieldType.int)) ∈ lw_all := lw_g (lw_at lw_m7 190 rfl) rfl
theorem q1777 : (Jvm.Cond.constant "ChildSays" (506 : Nat) (1000000000 : Int32)) ∈ lw_all := lw_g (lw_at lw_m7 191 rfl) rfl
theorem q1778 : (Jvm.Cond.methodLink "ChildSays" (507 : Nat) ({ cls := "ChildSays$Row", name := "meaning", desc := "()I" } : Jvm.MethodName)) ∈ lw_all := lw_g (lw_at lw_m7 192 rfl) rfl
theorem q1779 : (Jvm.Cond.instanceMethod ({ cls := "ChildSays$Row", name := "meaning", desc := "()I" } : Jvm.MethodName)) ∈ lw_all := lw_g (lw_at lw_m7 193 rfl) rfl
theorem q1780 : (Jvm.Cond.selects "ChildSays$Row" ({ cls := "ChildSays$Row", name := "meaning", desc := "()I" } : Jvm.MethodName) ({ cls := "ChildSays$Row", name := "meaning", desc := "()I" } : Jvm.MethodName)) ∈ lw_all := lw_g (lw_at lw_m7 194 rfl) rfl
theorem q1781 : (Jvm.Cond.code ({ cls := "ChildSays$Row", name := "meaning", desc := "()I" } : Jvm.MethodName) prog_12_method_13_code (4 : Nat) (Option.some Jvm.ClassFile.FieldType.int)) ∈ lw_all := lw_g (lw_at lw_m7 195 rfl) rfl
theorem q1782 : (Jvm.Cond.methodLink "ChildSaysLaw" (164 : Nat) ({ cls := "ChildSays", name := "harm", desc := "(I)I" } : Jvm.MethodName)) ∈ lw_all := lw_g (lw_at lw_m7 196 rfl) rfl
theorem q1783 : (Jvm.Cond.instanceMethod ({ cls := "ChildSays", name := "harm", desc := "(I)I" } : Jvm.MethodName)) ∈ lw_all := lw_g (lw_at lw_m7 197 rfl) rfl
theorem q1784 : (Jvm.Cond.selects "ChildSays" ({ cls := "ChildSays", name := "harm", desc := "(I)I" } : Jvm.MethodName) ({ cls := "ChildSays", name := "harm", desc := "(I)I" } : Jvm.MethodName)) ∈ lw_all := lw_g (lw_at lw_m7 198 rfl) rfl
theorem q1785 : (Jvm.Cond.code ({ cls := "ChildSays", name := "harm", desc := "(I)I" } : Jvm.MethodName) prog_1_method_63_code (5 : Nat) (Option.some Jvm.ClassFile.FieldType.int)) ∈ lw_all := lw_g (lw_at lw_m7 199 rfl) rfl
theorem q1786 : (Jvm.Cond.methodLink "ChildSays" (510 : Nat) ({ cls := "java/lang/Math", name := "abs", desc := "(I)I" } : Jvm.MethodName)) ∈ lw_all := lw_g (lw_at lw_m7 200 rfl) rfl
theorem q1787 : (Jvm.Cond.static ({ cls := "java/lang/Math", name := "abs", desc := "(I)I" } : Jvm.MethodName)) ∈ lw_all := lw_g (lw_at lw_m7 201 rfl) rfl
theorem q1788 : (Jvm.Cond.code ({ cls := "java/lang/Math", name := "abs", desc := "(I)I" } : Jvm.MethodName) prog_30_method_59_code (1 : Nat) (Option.some Jvm.ClassFile.FieldType.int)) ∈ lw_all := lw_g (lw_at lw_m7 202 rfl) rfl
theorem q1789 : (Jvm.Cond.methodLink "ChildSaysLaw" (168 : Nat) ({ cls := "ChildSays", name := "needs", desc := "(II)I" } : Jvm.MethodName)) ∈ lw_all := lw_g (lw_at lw_m7 203 rfl) rfl
theorem q1790 : (Jvm.Cond.instanceMethod ({ cls := "ChildSays", name := "needs", desc := "(II)I" } : Jvm.MethodName)) ∈ lw_all := lw_g (lw_at lw_m7 204 rfl) rfl
theorem q1791 : (Jvm.Cond.selects "ChildSays" ({ cls := "ChildSays", name := "needs", desc := "(II)I" } : Jvm.MethodName) ({ cls := "ChildSays", name := "needs", desc := "(II)I" } : Jvm.MethodName)) ∈ lw_all := lw_g (lw_at lw_m7 205 rfl) rfl
theorem q1792 : (Jvm.Cond.code ({ cls := "ChildSays", name := "needs", desc := "(II)I" } : Jvm.MethodName) prog_1_method_64_code (6 : Nat) (Option.some Jvm.ClassFile.FieldType.int)) ∈ lw_all := lw_g (lw_at lw_m7 206 rfl) rfl
theorem q1793 : (Jvm.Cond.methodLink "ChildSaysLaw" (172 : Nat) ({ cls := "ChildSays", name := "runs", desc := "(III)I" } : Jvm.MethodName)) ∈ lw_all := lw_g (lw_at lw_m7 207 rfl) rfl
theorem q1794 : (Jvm.Cond.instanceMethod ({ cls := "ChildSays", name := "runs", desc := "(III)I" } : Jvm.MethodName)) ∈ lw_all := lw_g (lw_at lw_m7 208 rfl) rfl
theorem q1795 : (Jvm.Cond.selects "ChildSays" ({ cls := "ChildSays", name := "runs", desc := "(III)I" } : Jvm.MethodName) ({ cls := "ChildSays", name := "runs", desc := "(III)I" } : Jvm.MethodName)) ∈ lw_all := lw_g (lw_at lw_m7 209 rfl) rfl
theorem q1796 : (Jvm.Cond.code ({ cls := "ChildSays", name := "runs", desc := "(III)I" } : Jvm.MethodName) prog_1_method_65_code (12 : Nat) (Option.some Jvm.ClassFile.FieldType.int)) ∈ lw_all := lw_g (lw_at lw_m7 210 rfl) rfl
theorem q1797 : (Jvm.Cond.constantLong "ChildSays" (515 : Nat) (20 : Int64)) ∈ lw_all := lw_g (lw_at lw_m7 211 rfl) rfl
theorem q1798 : (Jvm.Cond.methodLink "ChildSaysLaw" (176 : Nat) ({ cls := "ChildSays", name := "image", desc := "()I" } : Jvm.MethodName)) ∈ lw_all := lw_g (lw_at lw_m7 212 rfl) rfl
theorem q1799 : (Jvm.Cond.instanceMethod ({ cls := "ChildSays", name := "image", desc := "()I" } : Jvm.MethodName)) ∈ lw_all := lw_g (lw_at lw_m7 213 rfl) rfl
theorem q1800 : (Jvm.Cond.selects "ChildSays" ({ cls := "ChildSays", name := "image", desc := "()I" } : Jvm.MethodName) ({ cls := "ChildSays", name := "image", desc := "()I" } : Jvm.MethodName)) ∈ lw_all := lw_g (lw_at lw_m7 214 rfl) rfl
theorem q1801 : (Jvm.Cond.code ({ cls := "ChildSays", name := "image", desc := "()I" } : Jvm.MethodName) prog_1_method_68_code (4 : Nat) (Option.some Jvm.ClassFile.FieldType.int)) ∈ lw_all := lw_g (lw_at lw_m7 215 rfl) rfl
theorem q1802 : (Jvm.Cond.methodLink "ChildSays" (524 : Nat) ({ cls := "java/lang/StringBuilder", name := "setLength", desc := "(I)V" } : Jvm.MethodName)) ∈ lw_all := lw_g (lw_at lw_m7 216 rfl) rfl
theorem q1803 : (Jvm.Cond.instanceMethod ({ cls := "java/lang/StringBuilder", name := "setLength", desc := "(I)V" } : Jvm.MethodName)) ∈ lw_all := lw_g (lw_at lw_m7 217 rfl) rfl
theorem q1804 : (Jvm.Cond.selects "java/lang/StringBuilder" ({ cls := "java/lang/StringBuilder", name := "setLength", desc := "(I)V" } : Jvm.MethodName) ({ cls := "java/lang/StringBuilder", name := "setLength", desc := "(I)V" } : Jvm.MethodName)) ∈ lw_all := lw_g (lw_at lw_m7 218 rfl) rfl
theorem q1805 : (Jvm.Cond.code ({ cls := "java/lang/StringBuilder", name := "setLength", desc := "(I)V" } : Jvm.MethodName) prog_32_method_89_code (2 : Nat) (Option.none : Option Jvm.ClassFile.FieldType)) ∈ lw_all := lw_g (lw_at lw_m7 219 rfl) rfl
theorem q1806 : (Jvm.Cond.methodLink "java/lang/StringBuilder" (333 : Nat) ({ cls := "java/lang/AbstractStringBuilder", name := "setLength", desc := "(I)V" } : Jvm.MethodName)) ∈ lw_all := lw_g (lw_at lw_m7 220 rfl) rfl
theorem q1807 : (Jvm.Cond.instanceMethod ({ cls := "java/lang/AbstractStringBuilder", name := "setLength", desc := "(I)V" } : Jvm.MethodName)) ∈ lw_all := lw_g (lw_at lw_m7 221 rfl) rfl
theorem q1808 : (Jvm.Cond.code ({ cls := "java/lang/AbstractStringBuilder", name := "setLength", desc := "(I)V" } : Jvm.MethodName) prog_23_method_13_code (2 : Nat) (Option.none : Option Jvm.ClassFile.FieldType)) ∈ lw_all := lw_g (lw_at lw_m7 222 rfl) rfl
theorem q1809 : (Jvm.Cond.methodLink "java/lang/AbstractStringBuilder" (100 : Nat) ({ cls := "java/lang/AbstractStringBuilder", name := "ensureCapacityInternal", desc := "(I)V" } : Jvm.MethodName)) ∈ lw_all := lw_g (lw_at lw_m7 223 rfl) rfl
theorem q1810 : (Jvm.Cond.privateMethod ({ cls := "java/lang/AbstractStringBuilder", name := "ensureCapacityInternal", desc := "(I)V" } : Jvm.MethodName)) ∈ lw_tbl := lw_at lw_m7 224 rfl
theorem q1811 : (Jvm.Cond.instanceMethod ({ cls := "java/lang/AbstractStringBuilder", name := "ensureCapacityInternal", desc := "(I)V" } : Jvm.MethodName)) ∈ lw_all := lw_g (lw_at lw_m7 225 rfl) rfl
theorem q1812 : (Jvm.Cond.code ({ cls := "java/lang/AbstractStringBuilder", name := "ensureCapacityInternal", desc := "(I)V" } : Jvm.MethodName) prog_23_method_9_code (3 : Nat) (Option.none : Option Jvm.ClassFile.FieldType)) ∈ lw_all := lw_g (lw_at lw_m7 226 rfl) rfl
theorem q1813 : (Jvm.Cond.methodLink "java/lang/AbstractStringBuilder" (104 : Nat) ({ cls := "java/lang/AbstractStringBuilder", name := "newCapacity", desc := "(I)I" } : Jvm.MethodName)) ∈ lw_all := lw_g (lw_at lw_m7 227 rfl) rfl
theorem q1814 : (Jvm.Cond.privateMethod ({ cls := "java/lang/AbstractStringBuilder", name := "newCapacity", desc := "(I)I" } : Jvm.MethodName)) ∈ lw_tbl := lw_at lw_m7 228 rfl
theorem q1815 : (Jvm.Cond.instanceMethod ({ cls := "java/lang/AbstractStringBuilder", name := "newCapacity", desc := "(I)I" } : Jvm.MethodName)) ∈ lw_all := lw_g (lw_at lw_m7 229 rfl) rfl
theorem q1816 : (Jvm.Cond.code ({ cls := "java/lang/AbstractStringBuilder", name := "newCapacity", desc := "(I)I" } : Jvm.MethodName) prog_23_method_10_code (6 : Nat) (Option.some Jvm.ClassFile.FieldType.int)) ∈ lw_all := lw_g (lw_at lw_m7 230 rfl) rfl
theorem q1817 : (Jvm.Cond.methodLink "java/lang/AbstractStringBuilder" (114 : Nat) ({ cls := "jdk/internal/util/ArraysSupport", name := "newLength", desc := "(III)I" } : Jvm.MethodName)) ∈ lw_all := lw_g (lw_at lw_m7 231 rfl) rfl
theorem q1818 : (Jvm.Cond.constant "java/lang/AbstractStringBuilder" (39 : Nat) (2147483647 : Int32)) ∈ lw_all := lw_g (lw_at lw_m7 232 rfl) rfl
theorem q1819 : (Jvm.Cond.methodLink "java/lang/AbstractStringBuilder" (108 : Nat) ({ cls := "java/util/Arrays", name := "copyOf", desc := "([BI)[B" } : Jvm.MethodName)) ∈ lw_all := lw_g (lw_at lw_m7 233 rfl) rfl
theorem q1820 : (Jvm.Cond.static ({ cls := "java/util/Arrays", name := "copyOf", desc := "([BI)[B" } : Jvm.MethodName)) ∈ lw_all := lw_g (lw_at lw_m7 234 rfl) rfl
theorem q1821 : (Jvm.Cond.code ({ cls := "java/util/Arrays", name := "copyOf", desc := "([BI)[B" } : Jvm.MethodName) prog_42_method_121_code (3 : Nat) (Option.some (Jvm.ClassFile.FieldType.array Jvm.ClassFile.FieldType.byte))) ∈ lw_all := lw_g (lw_at lw_m7 235 rfl) rfl
theorem q1822 : (Jvm.Cond.methodLink "java/util/Arrays" (310 : Nat) ({ cls := "[B", name := "clone", desc := "()Ljava/lang/Object;" } : Jvm.MethodName)) ∈ lw_all := lw_g (lw_at lw_m7 236 rfl) rfl
theorem q1823 : (Jvm.Cond.sameMethod "[B" "java/lang/Object" "clone" "()Ljava/lang/Object;") ∈ lw_all := lw_g (lw_at lw_m7 237 rfl) rfl
theorem q1824 : (Jvm.Cond.native ({ cls := "java/lang/Object", name := "clone", desc := "()Ljava/lang/Object;" } : Jvm.MethodName)) ∈ lw_all := lw_g (lw_at lw_m7 238 rfl) rfl
theorem q1825 : (Jvm.Cond.instanceMethod ({ cls := "java/lang/Object", name := "clone", desc := "()Ljava/lang/Object;" } : Jvm.MethodName)) ∈ lw_all := lw_g (lw_at lw_m7 239 rfl) rfl
theorem q1826 : (Jvm.Cond.selects "[B" ({ cls := "[B", name := "clone", desc := "()Ljava/lang/Object;" } : Jvm.MethodName) ({ cls := "java/lang/Object", name := "clone", desc := "()Ljava/lang/Object;" } : Jvm.MethodName)) ∈ lw_all := lw_g (lw_at lw_m8 0 rfl) rfl
theorem q1827 : (Jvm.Cond.castable "[B" "java/lang/Cloneable") ∈ lw_tbl := lw_at lw_m8 1 rfl
theorem q1828 : (Jvm.Cond.classLink "java/util/Arrays" (311 : Nat) "[B") ∈ lw_all := lw_g (lw_at lw_m8 2 rfl) rfl
theorem q1829 : (Jvm.Cond.methodLink "java/lang/AbstractStringBuilder" (83 : Nat) ({ cls := "java/lang/AbstractStringBuilder", name := "isLatin1", desc := "()Z" } : Jvm.MethodName)) ∈ lw_all := lw_g (lw_at lw_m8 3 rfl) rfl
theorem q1830 : (Jvm.Cond.instanceMethod ({ cls := "java/lang/AbstractStringBuilder", name := "isLatin1", desc := "()Z" } : Jvm.MethodName)) ∈ lw_all := lw_g (lw_at lw_m8 4 rfl) rfl
theorem q1831 : (Jvm.Cond.sameMethod "java/lang/AbstractStringBuilder" "java/lang/AbstractStringBuilder" "isLatin1" "()Z") ∈ lw_all := lw_g (lw_at lw_m8 5 rfl) rfl
theorem q1832 : (Jvm.Cond.selects "java/lang/StringBuilder" ({ cls := "java/lang/AbstractStringBuilder", name := "isLatin1", desc := "()Z" } : Jvm.MethodName) ({ cls := "java/lang/AbstractStringBuilder", name := "isLatin1", desc := "()Z" } : Jvm.MethodName)) ∈ lw_all := lw_g (lw_at lw_m8 6 rfl) rfl
theorem q1833 : (Jvm.Cond.code ({ cls := "java/lang/AbstractStringBuilder", name := "isLatin1", desc := "()Z" } : Jvm.MethodName) prog_23_method_68_code (1 : Nat) (Option.some Jvm.ClassFile.FieldType.boolean)) ∈ lw_all := lw_g (lw_at lw_m8 7 rfl) rfl
theorem q1834 : (Jvm.Cond.methodLink "java/lang/AbstractStringBuilder" (133 : Nat) ({ cls := "java/lang/StringLatin1", name := "fillNull", desc := "([BII)V" } : Jvm.MethodName)) ∈ lw_all := lw_g (lw_at lw_m8 8 rfl) rfl
theorem q1835 : (Jvm.Cond.static ({ cls := "java/lang/StringLatin1", name := "fillNull", desc := "([BII)V" } : Jvm.MethodName)) ∈ lw_all := lw_g (lw_at lw_m8 9 rfl) rfl
theorem q1836 : (Jvm.Cond.code ({ cls := "java/lang/StringLatin1", name := "fillNull", desc := "([BII)V" } : Jvm.MethodName) prog_33_method_48_code (3 : Nat) (Option.none : Option Jvm.ClassFile.FieldType)) ∈ lw_all := lw_g (lw_at lw_m8 10 rfl) rfl
theorem q1837 : (Jvm.Cond.methodLink "java/lang/StringLatin1" (236 : Nat) ({ cls := "java/util/Arrays", name := "fill", desc := "([BIIB)V" } : Jvm.MethodName)) ∈ lw_all := lw_g (lw_at lw_m8 11 rfl) rfl
theorem q1838 : (Jvm.Cond.static ({ cls := "java/util/Arrays", name := "fill", desc := "([BIIB)V" } : Jvm.MethodName)) ∈ lw_all := lw_g (lw_at lw_m8 12 rfl) rfl
theorem q1839 : (Jvm.Cond.code ({ cls := "java/util/Arrays", name := "fill", desc := "([BIIB)V" } : Jvm.MethodName) prog_42_method_110_code (5 : Nat) (Option.none : Option Jvm.ClassFile.FieldType)) ∈ lw_all := lw_g (lw_at lw_m8 13 rfl) rfl
theorem q1840 : (Jvm.Cond.methodLink "java/util/Arrays" (13 : Nat) ({ cls := "java/util/Arrays", name := "rangeCheck", desc := "(III)V" } : Jvm.MethodName)) ∈ lw_all := lw_g (lw_at lw_m8 14 rfl) rfl
theorem q1841 : (Jvm.Cond.static ({ cls := "java/util/Arrays", name := "rangeCheck", desc := "(III)V" } : Jvm.MethodName)) ∈ lw_all := lw_g (lw_at lw_m8 15 rfl) rfl
theorem q1842 : (Jvm.Cond.code ({ cls := "java/util/Arrays", name := "rangeCheck", desc := "(III)V" } : Jvm.MethodName) prog_42_method_30_code (3 : Nat) (Option.none : Option Jvm.ClassFile.FieldType)) ∈ lw_all := lw_g (lw_at lw_m8 16 rfl) rfl
theorem q1843 : (Jvm.Cond.methodLink "java/lang/AbstractStringBuilder" (137 : Nat) ({ cls := "java/lang/StringUTF16", name := "fillNull", desc := "([BII)V" } : Jvm.MethodName)) ∈ lw_all := lw_g (lw_at lw_m8 17 rfl) rfl
theorem q1844 : (Jvm.Cond.static ({ cls := "java/lang/StringUTF16", name := "fillNull", desc := "([BII)V" } : Jvm.MethodName)) ∈ lw_all := lw_g (lw_at lw_m8 18 rfl) rfl
theorem q1845 : (Jvm.Cond.code ({ cls := "java/lang/StringUTF16", name := "fillNull", desc := "([BII)V" } : Jvm.MethodName) prog_34_method_70_code (3 : Nat) (Option.none : Option Jvm.ClassFile.FieldType)) ∈ lw_all := lw_g (lw_at lw_m8 19 rfl) rfl
theorem q1846 : (Jvm.Cond.methodLink "java/lang/StringUTF16" (380 : Nat) ({ cls := "java/util/Arrays", name := "fill", desc := "([BIIB)V" } : Jvm.MethodName)) ∈ lw_all := lw_g (lw_at lw_m8 20 rfl) rfl
theorem q1847 : (Jvm.Cond.methodLink "ChildSays" (527 : Nat) ({ cls := "ChildSays", name := "writes", desc := "(I)V" } : Jvm.MethodName)) ∈ lw_all := lw_g (lw_at lw_m8 21 rfl) rfl
theorem q1848 : (Jvm.Cond.privateMethod ({ cls := "ChildSays", name := "writes", desc := "(I)V" } : Jvm.MethodName)) ∈ lw_tbl := lw_at lw_m8 22 rfl
theorem q1849 : (Jvm.Cond.instanceMethod ({ cls := "ChildSays", name := "writes", desc := "(I)V" } : Jvm.MethodName)) ∈ lw_all := lw_g (lw_at lw_m8 23 rfl) rfl
theorem q1850 : (Jvm.Cond.code ({ cls := "ChildSays", name := "writes", desc := "(I)V" } : Jvm.MethodName) prog_1_method_66_code (2 : Nat) (Option.none : Option Jvm.ClassFile.FieldType)) ∈ lw_all := lw_g (lw_at lw_m8 24 rfl) rfl
theorem q1851 : (Jvm.Cond.methodLink "ChildSays" (517 : Nat) ({ cls := "java/lang/StringBuilder", name := "append", desc := "(C)Ljava/lang/StringBuilder;" } : Jvm.MethodName)) ∈ lw_all := lw_g (lw_at lw_m8 25 rfl) rfl
theorem q1852 : (Jvm.Cond.instanceMethod ({ cls := "java/lang/StringBuilder", name := "append", desc := "(C)Ljava/lang/StringBuilder;" } : Jvm.MethodName)) ∈ lw_all := lw_g (lw_at lw_m8 26 rfl) rfl
theorem q1853 : (Jvm.Cond.selects "java/lang/StringBuilder" ({ cls := "java/lang/StringBuilder", name := "append", desc := "(C)Ljava/lang/StringBuilder;" } : Jvm.MethodName) ({ cls := "java/lang/StringBuilder", name := "append", desc := "(C)Ljava/lang/StringBuilder;" } : Jvm.MethodName)) ∈ lw_all := lw_g (lw_at lw_m8 27 rfl) rfl
theorem q1854 : (Jvm.Cond.code ({ cls := "java/lang/StringBuilder", name := "append", desc := "(C)Ljava/lang/StringBuilder;" } : Jvm.MethodName) prog_32_method_14_code (2 : Nat) (Option.some (Jvm.ClassFile.FieldType.object "java/lang/StringBuilder"))) ∈ lw_all := lw_g (lw_at lw_m8 28 rfl) rfl
theorem q1855 : (Jvm.Cond.methodLink "java/lang/StringBuilder" (50 : Nat) ({ cls := "java/lang/AbstractStringBuilder", name := "append", desc := "(C)Ljava/lang/AbstractStringBuilder;" } : Jvm.MethodName)) ∈ lw_all := lw_g (lw_at lw_m8 29 rfl) rfl
theorem q1856 : (Jvm.Cond.instanceMethod ({ cls := "java/lang/AbstractStringBuilder", name := "append", desc := "(C)Ljava/lang/AbstractStringBuilder;" } : Jvm.MethodName)) ∈ lw_all := lw_g (lw_at lw_m8 30 rfl) rfl
theorem q1857 : (Jvm.Cond.code ({ cls := "java/lang/AbstractStringBuilder", name := "append", desc := "(C)Ljava/lang/AbstractStringBuilder;" } : Jvm.MethodName) prog_23_method_31_code (2 : Nat) (Option.some (Jvm.ClassFile.FieldType.object "java/lang/AbstractStringBuilder"))) ∈ lw_all := lw_g (lw_at lw_m8 31 rfl) rfl
theorem q1858 : (Jvm.Cond.methodLink "java/lang/AbstractStringBuilder" (191 : Nat) ({ cls := "java/lang/StringLatin1", name := "canEncode", desc := "(C)Z" } : Jvm.MethodName)) ∈ lw_all := lw_g (lw_at lw_m8 32 rfl) rfl
theorem q1859 : (Jvm.Cond.static ({ cls := "java/lang/StringLatin1", name := "canEncode", desc := "(C)Z" } : Jvm.MethodName)) ∈ lw_all := lw_g (lw_at lw_m8 33 rfl) rfl
theorem q1860 : (Jvm.Cond.code ({ cls := "java/lang/StringLatin1", name := "canEncode", desc := "(C)Z" } : Jvm.MethodName) prog_33_method_3_code (1 : Nat) (Option.some Jvm.ClassFile.FieldType.boolean)) ∈ lw_all := lw_g (lw_at lw_m8 34 rfl) rfl
theorem q1861 : (Jvm.Cond.methodLink "java/lang/AbstractStringBuilder" (195 : Nat) ({ cls := "java/lang/AbstractStringBuilder", name := "inflate", desc := "()V" } : Jvm.MethodName)) ∈ lw_all := lw_g (lw_at lw_m8 35 rfl) rfl
theorem q1862 : (Jvm.Cond.privateMethod ({ cls := "java/lang/AbstractStringBuilder", name := "inflate", desc := "()V" } : Jvm.MethodName)) ∈ lw_tbl := lw_at lw_m8 36 rfl
theorem q1863 : (Jvm.Cond.instanceMethod ({ cls := "java/lang/AbstractStringBuilder", name := "inflate", desc := "()V" } : Jvm.MethodName)) ∈ lw_all := lw_g (lw_at lw_m8 37 rfl) rfl
theorem q1864 : (Jvm.Cond.code ({ cls := "java/lang/AbstractStringBuilder", name := "inflate", desc := "()V" } : Jvm.MethodName) prog_23_method_11_code (2 : Nat) (Option.none : Option Jvm.ClassFile.FieldType)) ∈ lw_all := lw_g (lw_at lw_m8 38 rfl) rfl
theorem q1865 : (Jvm.Cond.methodLink "java/lang/AbstractStringBuilder" (125 : Nat) ({ cls := "java/lang/StringLatin1", name := "inflate", desc := "([BI[BII)V" } : Jvm.MethodName)) ∈ lw_all := lw_g (lw_at lw_m8 39 rfl) rfl
theorem q1866 : (Jvm.Cond.static ({ cls := "java/lang/StringLatin1", name := "inflate", desc := "([BI[BII)V" } : Jvm.MethodName)) ∈ lw_all := lw_g (lw_at lw_m8 40 rfl) rfl
theorem q1867 : (Jvm.Cond.code ({ cls := "java/lang/StringLatin1", name := "inflate", desc := "([BI[BII)V" } : Jvm.MethodName) prog_33_method_50_code (5 : Nat) (Option.none : Option Jvm.ClassFile.FieldType)) ∈ lw_all := lw_g (lw_at lw_m8 41 rfl) rfl
theorem q1868 : (Jvm.Cond.methodLink "java/lang/StringLatin1" (240 : Nat) ({ cls := "java/lang/StringUTF16", name := "inflate", desc := "([BI[BII)V" } : Jvm.MethodName)) ∈ lw_all := lw_g (lw_at lw_m8 42 rfl) rfl
theorem q1869 : (Jvm.Cond.static ({ cls := "java/lang/StringUTF16", name := "inflate", desc := "([BI[BII)V" } : Jvm.MethodName)) ∈ lw_all := lw_g (lw_at lw_m8 43 rfl) rfl
theorem q1870 : (Jvm.Cond.code ({ cls := "java/lang/StringUTF16", name := "inflate", desc := "([BI[BII)V" } : Jvm.MethodName) prog_34_method_86_code (6 : Nat) (Option.none : Option Jvm.ClassFile.FieldType)) ∈ lw_all := lw_g (lw_at lw_m8 44 rfl) rfl
theorem q1871 : (Jvm.Cond.methodLink "java/lang/AbstractStringBuilder" (197 : Nat) ({ cls := "java/lang/StringUTF16", name := "putCharSB", desc := "([BII)V" } : Jvm.MethodName)) ∈ lw_all := lw_g (lw_at lw_m8 45 rfl) rfl
theorem q1872 : (Jvm.Cond.static ({ cls := "java/lang/StringUTF16", name := "putCharSB", desc := "([BII)V" } : Jvm.MethodName)) ∈ lw_all := lw_g (lw_at lw_m8 46 rfl) rfl
theorem q1873 : (Jvm.Cond.code ({ cls := "java/lang/StringUTF16", name := "putCharSB", desc := "([BII)V" } : Jvm.MethodName) prog_34_method_71_code (3 : Nat) (Option.none : Option Jvm.ClassFile.FieldType)) ∈ lw_all := lw_g (lw_at lw_m8 47 rfl) rfl
theorem q1874 : (Jvm.Cond.methodLink "ChildSays" (530 : Nat) ({ cls := "java/lang/StringBuilder", name := "length", desc := "()I" } : Jvm.MethodName)) ∈ lw_all := lw_g (lw_at lw_m8 48 rfl) rfl
theorem q1875 : (Jvm.Cond.instanceMethod ({ cls := "java/lang/StringBuilder", name := "length", desc := "()I" } : Jvm.MethodName)) ∈ lw_all := lw_g (lw_at lw_m8 49 rfl) rfl
theorem q1876 : (Jvm.Cond.selects "java/lang/StringBuilder" ({ cls := "java/lang/StringBuilder", name := "length", desc := "()I" } : Jvm.MethodName) ({ cls := "java/lang/StringBuilder", name := "length", desc := "()I" } : Jvm.MethodName)) ∈ lw_all := lw_g (lw_at lw_m8 50 rfl) rfl
theorem q1877 : (Jvm.Cond.code ({ cls := "java/lang/StringBuilder", name := "length", desc := "()I" } : Jvm.MethodName) prog_32_method_93_code (1 : Nat) (Option.some Jvm.ClassFile.FieldType.int)) ∈ lw_all := lw_g (lw_at lw_m8 51 rfl) rfl
theorem q1878 : (Jvm.Cond.methodLink "java/lang/StringBuilder" (343 : Nat) ({ cls := "java/lang/AbstractStringBuilder", name := "length", desc := "()I" } : Jvm.MethodName)) ∈ lw_all := lw_g (lw_at lw_m8 52 rfl) rfl
theorem q1879 : (Jvm.Cond.instanceMethod ({ cls := "java/lang/AbstractStringBuilder", name := "length", desc := "()I" } : Jvm.MethodName)) ∈ lw_all := lw_g (lw_at lw_m8 53 rfl) rfl
theorem q1880 : (Jvm.Cond.code ({ cls := "java/lang/AbstractStringBuilder", name := "length", desc := "()I" } : Jvm.MethodName) prog_23_method_6_code (1 : Nat) (Option.some Jvm.ClassFile.FieldType.int)) ∈ lw_all := lw_g (lw_at lw_m8 54 rfl) rfl
theorem q1881 : (Jvm.Cond.methodLink "ChildSays" (531 : Nat) ({ cls := "ChildSays", name := "checked", desc := "(Ljava/lang/CharSequence;I)I" } : Jvm.MethodName)) ∈ lw_all := lw_g (lw_at lw_m8 55 rfl) rfl
theorem q1882 : (Jvm.Cond.static ({ cls := "ChildSays", name := "checked", desc := "(Ljava/lang/CharSequence;I)I" } : Jvm.MethodName)) ∈ lw_all := lw_g (lw_at lw_m8 56 rfl) rfl
theorem q1883 : (Jvm.Cond.code ({ cls := "ChildSays", name := "checked", desc := "(Ljava/lang/CharSequence;I)I" } : Jvm.MethodName) prog_1_method_67_code (4 : Nat) (Option.some Jvm.ClassFile.FieldType.int)) ∈ lw_all := lw_g (lw_at lw_m8 57 rfl) rfl
theorem q1884 : (Jvm.Cond.interfaceEntry "ChildSays" (521 : Nat)) ∈ lw_tbl := lw_at lw_m8 58 rfl
theorem q1885 : (Jvm.Cond.methodLink "ChildSays" (521 : Nat) ({ cls := "java/lang/CharSequence", name := "charAt", desc := "(I)C" } : Jvm.MethodName)) ∈ lw_all := lw_g (lw_at lw_m8 59 rfl) rfl
theorem q1886 : (Jvm.Cond.interfaceMethod "java/lang/CharSequence" "java/lang/CharSequence" "charAt" "(I)C") ∈ lw_tbl := lw_at lw_m8 60 rfl
theorem q1887 : (Jvm.Cond.declares ({ cls := "java/lang/CharSequence", name := "charAt", desc := "(I)C" } : Jvm.MethodName)) ∈ lw_tbl := lw_at lw_m8 61 rfl
theorem q1888 : (Jvm.Cond.castable "java/lang/String" "java/lang/CharSequence") ∈ lw_tbl := lw_at lw_m8 62 rfl
theorem q1889 : (Jvm.Cond.selects "java/lang/String" ({ cls := "java/lang/CharSequence", name := "charAt", desc := "(I)C" } : Jvm.MethodName) ({ cls := "java/lang/String", name := "charAt", desc := "(I)C" } : Jvm.MethodName)) ∈ lw_all := lw_g (lw_at lw_m8 63 rfl) rfl
theorem q1890 : (Jvm.Cond.unhidden "java/lang/String" "charAt" "(I)C") ∈ lw_tbl := lw_at lw_m8 64 rfl
theorem q1891 : (Jvm.Cond.publicMethod ({ cls := "java/lang/String", name := "charAt", desc := "(I)C" } : Jvm.MethodName)) ∈ lw_tbl := lw_at lw_m8 65 rfl
theorem q1892 : (Jvm.Cond.castable "java/lang/StringBuilder" "java/lang/CharSequence") ∈ lw_tbl := lw_at lw_m8 66 rfl
theorem q1893 : (Jvm.Cond.selects "java/lang/StringBuilder" ({ cls := "java/lang/CharSequence", name := "charAt", desc := "(I)C" } : Jvm.MethodName) ({ cls := "java/lang/StringBuilder", name := "charAt", desc := "(I)C" } : Jvm.MethodName)) ∈ lw_all := lw_g (lw_at lw_m8 67 rfl) rfl
theorem q1894 : (Jvm.Cond.unhidden "java/lang/StringBuilder" "charAt" "(I)C") ∈ lw_tbl := lw_at lw_m8 68 rfl
theorem q1895 : (Jvm.Cond.instanceMethod ({ cls := "java/lang/StringBuilder", name := "charAt", desc := "(I)C" } : Jvm.MethodName)) ∈ lw_all := lw_g (lw_at lw_m8 69 rfl) rfl
theorem q1896 : (Jvm.Cond.publicMethod ({ cls := "java/lang/StringBuilder", name := "charAt", desc := "(I)C" } : Jvm.MethodName)) ∈ lw_tbl := lw_at lw_m8 70 rfl
theorem q1897 : (Jvm.Cond.code ({ cls := "java/lang/StringBuilder", name := "charAt", desc := "(I)C" } : Jvm.MethodName) prog_32_method_88_code (2 : Nat) (Option.some Jvm.ClassFile.FieldType.char)) ∈ lw_all := lw_g (lw_at lw_m8 71 rfl) rfl
theorem q1898 : (Jvm.Cond.methodLink "java/lang/StringBuilder" (329 : Nat) ({ cls := "java/lang/AbstractStringBuilder", name := "charAt", desc := "(I)C" } : Jvm.MethodName)) ∈ lw_all := lw_g (lw_at lw_m8 72 rfl) rfl
theorem q1899 : (Jvm.Cond.instanceMethod ({ cls := "java/lang/AbstractStringBuilder", name := "charAt", desc := "(I)C" } : Jvm.MethodName)) ∈ lw_all := lw_g (lw_at lw_m8 73 rfl) rfl
theorem q1900 : (Jvm.Cond.code ({ cls := "java/lang/AbstractStringBuilder", name := "charAt", desc := "(I)C" } : Jvm.MethodName) prog_23_method_14_code (5 : Nat) (Option.some Jvm.ClassFile.FieldType.char)) ∈ lw_all := lw_g (lw_at lw_m8 74 rfl) rfl
theorem q1901 : (Jvm.Cond.methodLink "java/lang/AbstractStringBuilder" (138 : Nat) ({ cls := "java/lang/Math", name := "min", desc := "(II)I" } : Jvm.MethodName)) ∈ lw_all := lw_g (lw_at lw_m8 75 rfl) rfl
theorem q1902 : (Jvm.Cond.methodLink "java/lang/AbstractStringBuilder" (144 : Nat) ({ cls := "java/lang/String", name := "checkIndex", desc := "(II)V" } : Jvm.MethodName)) ∈ lw_all := lw_g (lw_at lw_m8 76 rfl) rfl
theorem q1903 : (Jvm.Cond.methodLink "java/lang/AbstractStringBuilder" (148 : Nat) ({ cls := "java/lang/StringUTF16", name := "getChar", desc := "([BI)C" } : Jvm.MethodName)) ∈ lw_all := lw_g (lw_at lw_m8 77 rfl) rfl
theorem q1904 : (Jvm.Cond.methodLink "ChildSaysLaw" (180 : Nat) ({ cls := "ChildSays", name := "octet", desc := "(I)I" } : Jvm.MethodName)) ∈ lw_all := lw_g (lw_at lw_m8 78 rfl) rfl
theorem q1905 : (Jvm.Cond.instanceMethod ({ cls := "ChildSays", name := "octet", desc := "(I)I" } : Jvm.MethodName)) ∈ lw_all := lw_g (lw_at lw_m8 79 rfl) rfl
theorem q1906 : (Jvm.Cond.selects "ChildSays" ({ cls := "ChildSays", name := "octet", desc := "(I)I" } : Jvm.MethodName) ({ cls := "ChildSays", name := "octet", desc := "(I)I" } : Jvm.MethodName)) ∈ lw_all := lw_g (lw_at lw_m8 80 rfl) rfl
theorem q1907 : (Jvm.Cond.code ({ cls := "ChildSays", name := "octet", desc := "(I)I" } : Jvm.MethodName) prog_1_method_69_code (2 : Nat) (Option.some Jvm.ClassFile.FieldType.int)) ∈ lw_all := lw_g (lw_at lw_m8 81 rfl) rfl
theorem q1908 : (Jvm.Cond.methodLink "ChildSays" (535 : Nat) ({ cls := "java/lang/StringBuilder", name := "charAt", desc := "(I)C" } : Jvm.MethodName)) ∈ lw_all := lw_g (lw_at lw_m8 82 rfl) rfl
theorem q1909 : (Jvm.Cond.methodLink "ChildSaysLaw" (184 : Nat) ({ cls := "ChildSays", name := "on", desc := "()Z" } : Jvm.MethodName)) ∈ lw_all := lw_g (lw_at lw_m8 83 rfl) rfl
theorem q1910 : (Jvm.Cond.instanceMethod ({ cls := "ChildSays", name := "on", desc := "()Z" } : Jvm.MethodName)) ∈ lw_all := lw_g (lw_at lw_m8 84 rfl) rfl
theorem q1911 : (Jvm.Cond.selects "ChildSays" ({ cls := "ChildSays", name := "on", desc := "()Z" } : Jvm.MethodName) ({ cls := "ChildSays", name := "on", desc := "()Z" } : Jvm.MethodName)) ∈ lw_all := lw_g (lw_at lw_m8 85 rfl) rfl
theorem q1912 : (Jvm.Cond.code ({ cls := "ChildSays", name := "on", desc := "()Z" } : Jvm.MethodName) prog_1_method_72_code (7 : Nat) (Option.some Jvm.ClassFile.FieldType.boolean)) ∈ lw_all := lw_g (lw_at lw_m8 86 rfl) rfl
theorem q1913 : (Jvm.Cond.classLink "ChildSays" (102 : Nat) "java/lang/String") ∈ lw_all := lw_g (lw_at lw_m8 87 rfl) rfl
theorem q1914 : (Jvm.Cond.methodLink "ChildSays" (539 : Nat) ({ cls := "java/lang/String", name := "<init>", desc := "([CII)V" } : Jvm.MethodName)) ∈ lw_all := lw_g (lw_at lw_m8 88 rfl) rfl
theorem q1915 : (Jvm.Cond.methodLink "ChildSays" (542 : Nat) ({ cls := "ChildSays", name := "isTold", desc := "(Ljava/lang/String;)Z" } : Jvm.MethodName)) ∈ lw_all := lw_g (lw_at lw_m8 89 rfl) rfl
theorem q1916 : (Jvm.Cond.privateMethod ({ cls := "ChildSays", name := "isTold", desc := "(Ljava/lang/String;)Z" } : Jvm.MethodName)) ∈ lw_tbl := lw_at lw_m8 90 rfl
theorem q1917 : (Jvm.Cond.instanceMethod ({ cls := "ChildSays", name := "isTold", desc := "(Ljava/lang/String;)Z" } : Jvm.MethodName)) ∈ lw_all := lw_g (lw_at lw_m8 91 rfl) rfl
theorem q1918 : (Jvm.Cond.code ({ cls := "ChildSays", name := "isTold", desc := "(Ljava/lang/String;)Z" } : Jvm.MethodName) prog_1_method_71_code (7 : Nat) (Option.some Jvm.ClassFile.FieldType.boolean)) ∈ lw_all := lw_g (lw_at lw_m8 92 rfl) rfl
theorem q1919 : (Jvm.Cond.methodLink "ChildSays" (536 : Nat) ({ cls := "ChildSays", name := "behind", desc := "(Ljava/lang/String;II)I" } : Jvm.MethodName)) ∈ lw_all := lw_g (lw_at lw_m8 93 rfl) rfl
theorem q1920 : (Jvm.Cond.privateMethod ({ cls := "ChildSays", name := "behind", desc := "(Ljava/lang/String;II)I" } : Jvm.MethodName)) ∈ lw_tbl := lw_at lw_m8 94 rfl
theorem q1921 : (Jvm.Cond.instanceMethod ({ cls := "ChildSays", name := "behind", desc := "(Ljava/lang/String;II)I" } : Jvm.MethodName)) ∈ lw_all := lw_g (lw_at lw_m8 95 rfl) rfl
theorem q1922 : (Jvm.Cond.code ({ cls := "ChildSays", name := "behind", desc := "(Ljava/lang/String;II)I" } : Jvm.MethodName) prog_1_method_70_code (8 : Nat) (Option.some Jvm.ClassFile.FieldType.int)) ∈ lw_all := lw_g (lw_at lw_m8 96 rfl) rfl
theorem q1923 : (Jvm.Cond.classLink "ChildSaysLaw" (10 : Nat) "ChildSaysModel") ∈ lw_all := lw_g (lw_at lw_m8 97 rfl) rfl
theorem q1924 : (Jvm.Cond.instantiable "ChildSaysModel" (80 : Nat)) ∈ lw_all := lw_g (lw_at lw_m8 98 rfl) rfl
theorem q1925 : (Jvm.Cond.methodLink "ChildSaysLaw" (12 : Nat) ({ cls := "ChildSaysModel", name := "<init>", desc := "()V" } : Jvm.MethodName)) ∈ lw_all := lw_g (lw_at lw_m8 99 rfl) rfl
theorem q1926 : (Jvm.Cond.instanceMethod ({ cls := "ChildSaysModel", name := "<init>", desc := "()V" } : Jvm.MethodName)) ∈ lw_all := lw_g (lw_at lw_m8 100 rfl) rfl
theorem q1927 : (Jvm.Cond.code ({ cls := "ChildSaysModel", name := "<init>", desc := "()V" } : Jvm.MethodName) prog_21_method_1_code (1 : Nat) (Option.none : Option Jvm.ClassFile.FieldType)) ∈ lw_all := lw_g (lw_at lw_m8 101 rfl) rfl
theorem q1928 : (Jvm.Cond.methodLink "ChildSaysModel" (1 : Nat) ({ cls := "java/lang/Object", name := "<init>", desc := "()V" } : Jvm.MethodName)) ∈ lw_all := lw_g (lw_at lw_m8 102 rfl) rfl
theorem q1929 : (Jvm.Cond.fieldLink "ChildSaysModel" (7 : Nat) "ChildSaysModel" "tape" "[I") ∈ lw_all := lw_g (lw_at lw_m8 103 rfl) rfl
theorem q1930 : (Jvm.Cond.fieldLink "ChildSaysModel" (13 : Nat) "ChildSaysModel" "taped" "I") ∈ lw_all := lw_g (lw_at lw_m8 104 rfl) rfl
theorem q1931 : (Jvm.Cond.fieldLink "ChildSaysModel" (17 : Nat) "ChildSaysModel" "size" "I") ∈ lw_all := lw_g (lw_at lw_m8 105 rfl) rfl
theorem q1932 : (Jvm.Cond.fieldLink "ChildSaysModel" (20 : Nat) "ChildSaysModel" "sign" "I") ∈ lw_all := lw_g (lw_at lw_m8 106 rfl) rfl
theorem q1933 : (Jvm.Cond.fieldLink "ChildSaysModel" (23 : Nat) "ChildSaysModel" "signAt" "I") ∈ lw_all := lw_g (lw_at lw_m8 107 rfl) rfl
theorem q1934 : (Jvm.Cond.fieldLink "ChildSaysModel" (26 : Nat) "ChildSaysModel" "signEnd" "I") ∈ lw_all := lw_g (lw_at lw_m8 108 rfl) rfl
theorem q1935 : (Jvm.Cond.fieldLink "ChildSaysModel" (29 : Nat) "ChildSaysModel" "value" "I") ∈ lw_all := lw_g (lw_at lw_m8 109 rfl) rfl
theorem q1936 : (Jvm.Cond.fieldLink "ChildSaysModel" (32 : Nat) "ChildSaysModel" "word" "J") ∈ lw_all := lw_g (lw_at lw_m8 110 rfl) rfl
theorem q1937 : (Jvm.Cond.fieldLink "ChildSaysModel" (36 : Nat) "ChildSaysModel" "faultKind" "I") ∈ lw_all := lw_g (lw_at lw_m8 111 rfl) rfl
theorem q1938 : (Jvm.Cond.fieldLink "ChildSaysModel" (39 : Nat) "ChildSaysModel" "faultPlace" "I") ∈ lw_all := lw_g (lw_at lw_m8 112 rfl) rfl
theorem q1939 : (Jvm.Cond.fieldLink "ChildSaysModel" (42 : Nat) "ChildSaysModel" "toldKind" "I") ∈ lw_all := lw_g (lw_at lw_m8 113 rfl) rfl
theorem q1940 : (Jvm.Cond.fieldLink "ChildSaysModel" (45 : Nat) "ChildSaysModel" "toldPlace" "I") ∈ lw_all := lw_g (lw_at lw_m8 114 rfl) rfl
theorem q1941 : (Jvm.Cond.fieldLink "ChildSaysModel" (48 : Nat) "ChildSaysModel" "lexAt" "I") ∈ lw_all := lw_g (lw_at lw_m8 115 rfl) rfl
theorem q1942 : (Jvm.Cond.fieldLink "ChildSaysModel" (51 : Nat) "ChildSaysModel" "bank" "I") ∈ lw_all := lw_g (lw_at lw_m8 116 rfl) rfl
theorem q1943 : (Jvm.Cond.fieldLink "ChildSaysModel" (54 : Nat) "ChildSaysModel" "words" "[I") ∈ lw_all := lw_g (lw_at lw_m8 117 rfl) rfl
theorem q1944 : (Jvm.Cond.fieldLink "ChildSaysModel" (57 : Nat) "ChildSaysModel" "wordName" "[J") ∈ lw_all := lw_g (lw_at lw_m8 118 rfl) rfl
theorem q1945 : (Jvm.Cond.fieldLink "ChildSaysModel" (61 : Nat) "ChildSaysModel" "beats" "[I") ∈ lw_all := lw_g (lw_at lw_m8 119 rfl) rfl
theorem q1946 : (Jvm.Cond.fieldLink "ChildSaysModel" (64 : Nat) "ChildSaysModel" "begins" "[I") ∈ lw_all := lw_g (lw_at lw_m8 120 rfl) rfl
theorem q1947 : (Jvm.Cond.fieldLink "ChildSaysModel" (67 : Nat) "ChildSaysModel" "endsOn" "[I") ∈ lw_all := lw_g (lw_at lw_m8 121 rfl) rfl
theorem q1948 : (Jvm.Cond.fieldLink "ChildSaysModel" (70 : Nat) "ChildSaysModel" "worth" "[I") ∈ lw_all := lw_g (lw_at lw_m8 122 rfl) rfl
theorem q1949 : (Jvm.Cond.fieldLink "ChildSaysModel" (73 : Nat) "ChildSaysModel" "never" "[I") ∈ lw_all := lw_g (lw_at lw_m8 123 rfl) rfl
theorem q1950 : (Jvm.Cond.fieldLink "ChildSaysModel" (76 : Nat) "ChildSaysModel" "streets" "[I") ∈ lw_all := lw_g (lw_at lw_m8 124 rfl) rfl
theorem q1951 : (Jvm.Cond.fieldLink "ChildSaysModel" (79 : Nat) "ChildSaysModel" "streetName" "[J") ∈ lw_all := lw_g (lw_at lw_m8 125 rfl) rfl
theorem q1952 : (Jvm.Cond.fieldLink "ChildSaysModel" (82 : Nat) "ChildSaysModel" "heardAs" "[I") ∈ lw_all := lw_g (lw_at lw_m8 126 rfl) rfl
theorem q1953 : (Jvm.Cond.fieldLink "ChildSaysModel" (85 : Nat) "ChildSaysModel" "children" "[I") ∈ lw_all := lw_g (lw_at lw_m8 127 rfl) rfl
theorem q1954 : (Jvm.Cond.fieldLink "ChildSaysModel" (88 : Nat) "ChildSaysModel" "childName" "[J") ∈ lw_all := lw_g (lw_at lw_m8 128 rfl) rfl
theorem q1955 : (Jvm.Cond.fieldLink "ChildSaysModel" (91 : Nat) "ChildSaysModel" "childStreet" "[I") ∈ lw_all := lw_g (lw_at lw_m8 129 rfl) rfl
theorem q1956 : (Jvm.Cond.fieldLink "ChildSaysModel" (94 : Nat) "ChildSaysModel" "holds" "[I") ∈ lw_all := lw_g (lw_at lw_m8 130 rfl) rfl
theorem q1957 : (Jvm.Cond.fieldLink "ChildSaysModel" (97 : Nat) "ChildSaysModel" "knows" "[I") ∈ lw_all := lw_g (lw_at lw_m8 131 rfl) rfl
theorem q1958 : (Jvm.Cond.fieldLink "ChildSaysModel" (100 : Nat) "ChildSaysModel" "laws" "[I") ∈ lw_all := lw_g (lw_at lw_m8 132 rfl) rfl
theorem q1959 : (Jvm.Cond.fieldLink "ChildSaysModel" (103 : Nat) "ChildSaysModel" "lawName" "[J") ∈ lw_all := lw_g (lw_at lw_m8 133 rfl) rfl
theorem q1960 : (Jvm.Cond.fieldLink "ChildSaysModel" (106 : Nat) "ChildSaysModel" "lawSung" "[I") ∈ lw_all := lw_g (lw_at lw_m8 134 rfl) rfl
theorem q1961 : (Jvm.Cond.fieldLink "ChildSaysModel" (109 : Nat) "ChildSaysModel" "lawMain" "[I") ∈ lw_all := lw_g (lw_at lw_m8 135 rfl) rfl
theorem q1962 : (Jvm.Cond.fieldLink "ChildSaysModel" (112 : Nat) "ChildSaysModel" "lawExcept" "[I") ∈ lw_all := lw_g (lw_at lw_m8 136 rfl) rfl
theorem q1963 : (Jvm.Cond.fieldLink "ChildSaysModel" (115 : Nat) "ChildSaysModel" "lawWords" "[I") ∈ lw_all := lw_g (lw_at lw_m8 137 rfl) rfl
theorem q1964 : (Jvm.Cond.fieldLink "ChildSaysModel" (118 : Nat) "ChildSaysModel" "head" "[I") ∈ lw_all := lw_g (lw_at lw_m8 138 rfl) rfl
theorem q1965 : (Jvm.Cond.fieldLink "ChildSaysModel" (121 : Nat) "ChildSaysModel" "mend" "[I") ∈ lw_all := lw_g (lw_at lw_m8 139 rfl) rfl
theorem q1966 : (Jvm.Cond.fieldLink "ChildSaysModel" (124 : Nat) "ChildSaysModel" "tune" "[I") ∈ lw_all := lw_g (lw_at lw_m8 140 rfl) rfl
theorem q1967 : (Jvm.Cond.fieldLink "ChildSaysModel" (127 : Nat) "ChildSaysModel" "in" "I") ∈ lw_all := lw_g (lw_at lw_m8 141 rfl) rfl
theorem q1968 : (Jvm.Cond.fieldLink "ChildSaysModel" (130 : Nat) "ChildSaysModel" "readRow" "[I") ∈ lw_all := lw_g (lw_at lw_m8 142 rfl) rfl
theorem q1969 : (Jvm.Cond.fieldLink "ChildSaysModel" (133 : Nat) "ChildSaysModel" "readMain" "I") ∈ lw_all := lw_g (lw_at lw_m8 143 rfl) rfl
theorem q1970 : (Jvm.Cond.fieldLink "ChildSaysModel" (136 : Nat) "ChildSaysModel" "readExcept" "I") ∈ lw_all := lw_g (lw_at lw_m8 144 rfl) rfl
theorem q1971 : (Jvm.Cond.fieldLink "ChildSaysModel" (139 : Nat) "ChildSaysModel" "refused" "[I") ∈ lw_all := lw_g (lw_at lw_m8 145 rfl) rfl
theorem q1972 : (Jvm.Cond.fieldLink "ChildSaysModel" (142 : Nat) "ChildSaysModel" "year" "[I") ∈ lw_all := lw_g (lw_at lw_m8 146 rfl) rfl
theorem q1973 : (Jvm.Cond.fieldLink "ChildSaysModel" (145 : Nat) "ChildSaysModel" "orderOf" "[I") ∈ lw_all := lw_g (lw_at lw_m8 147 rfl) rfl
theorem q1974 : (Jvm.Cond.fieldLink "ChildSaysModel" (148 : Nat) "ChildSaysModel" "main" "[I") ∈ lw_all := lw_g (lw_at lw_m8 148 rfl) rfl
theorem q1975 : (Jvm.Cond.fieldLink "ChildSaysModel" (151 : Nat) "ChildSaysModel" "except" "[I") ∈ lw_all := lw_g (lw_at lw_m8 149 rfl) rfl
theorem q1976 : (Jvm.Cond.fieldLink "ChildSaysModel" (154 : Nat) "ChildSaysModel" "sung" "[I") ∈ lw_all := lw_g (lw_at lw_m8 150 rfl) rfl
theorem q1977 : (Jvm.Cond.fieldLink "ChildSaysModel" (157 : Nat) "ChildSaysModel" "rows" "[I") ∈ lw_all := lw_g (lw_at lw_m8 151 rfl) rfl
theorem q1978 : (Jvm.Cond.fieldLink "ChildSaysModel" (160 : Nat) "ChildSaysModel" "bookMany" "[I") ∈ lw_all := lw_g (lw_at lw_m8 152 rfl) rfl
theorem q1979 : (Jvm.Cond.fieldLink "ChildSaysModel" (163 : Nat) "ChildSaysModel" "bookRow" "[I") ∈ lw_all := lw_g (lw_at lw_m8 153 rfl) rfl
theorem q1980 : (Jvm.Cond.fieldLink "ChildSaysModel" (166 : Nat) "ChildSaysModel" "undoFirst" "I") ∈ lw_all := lw_g (lw_at lw_m8 154 rfl) rfl
theorem q1981 : (Jvm.Cond.fieldLink "ChildSaysModel" (169 : Nat) "ChildSaysModel" "undos" "I") ∈ lw_all := lw_g (lw_at lw_m8 155 rfl) rfl
theorem q1982 : (Jvm.Cond.fieldLink "ChildSaysModel" (172 : Nat) "ChildSaysModel" "seeds" "J") ∈ lw_all := lw_g (lw_at lw_m8 156 rfl) rfl
theorem q1983 : (Jvm.Cond.fieldLink "ChildSaysModel" (175 : Nat) "ChildSaysModel" "told" "[I") ∈ lw_all := lw_g (lw_at lw_m8 157 rfl) rfl
theorem q1984 : (Jvm.Cond.fieldLink "ChildSaysModel" (178 : Nat) "ChildSaysModel" "toldMain" "I") ∈ lw_all := lw_g (lw_at lw_m8 158 rfl) rfl
theorem q1985 : (Jvm.Cond.fieldLink "ChildSaysModel" (181 : Nat) "ChildSaysModel" "toldExcept" "I") ∈ lw_all := lw_g (lw_at lw_m8 159 rfl) rfl
theorem q1986 : (Jvm.Cond.fieldLink "ChildSaysModel" (184 : Nat) "ChildSaysModel" "isSung" "Z") ∈ lw_all := lw_g (lw_at lw_m8 160 rfl) rfl
theorem q1987 : (Jvm.Cond.fieldLink "ChildSaysModel" (188 : Nat) "ChildSaysModel" "said" "[I") ∈ lw_all := lw_g (lw_at lw_m8 161 rfl) rfl
theorem q1988 : (Jvm.Cond.fieldLink "ChildSaysModel" (191 : Nat) "ChildSaysModel" "saidMain" "I") ∈ lw_all := lw_g (lw_at lw_m8 162 rfl) rfl
theorem q1989 : (Jvm.Cond.fieldLink "ChildSaysModel" (194 : Nat) "ChildSaysModel" "saidExcept" "I") ∈ lw_all := lw_g (lw_at lw_m8 163 rfl) rfl
theorem q1990 : (Jvm.Cond.fieldLink "ChildSaysModel" (197 : Nat) "ChildSaysModel" "kind" "I") ∈ lw_all := lw_g (lw_at lw_m8 164 rfl) rfl
theorem q1991 : (Jvm.Cond.fieldLink "ChildSaysModel" (200 : Nat) "ChildSaysModel" "holding" "I") ∈ lw_all := lw_g (lw_at lw_m8 165 rfl) rfl
theorem q1992 : (Jvm.Cond.fieldLink "ChildSaysModel" (203 : Nat) "ChildSaysModel" "seat" "[I") ∈ lw_all := lw_g (lw_at lw_m8 166 rfl) rfl
theorem q1993 : (Jvm.Cond.fieldLink "ChildSaysModel" (206 : Nat) "ChildSaysModel" "seats" "I") ∈ lw_all := lw_g (lw_at lw_m8 167 rfl) rfl
theorem q1994 : (Jvm.Cond.fieldLink "ChildSaysModel" (209 : Nat) "ChildSaysModel" "sitKind" "[I") ∈ lw_all := lw_g (lw_at lw_m8 168 rfl) rfl
theorem q1995 : (Jvm.Cond.fieldLink "ChildSaysModel" (212 : Nat) "ChildSaysModel" "sitMain" "[I") ∈ lw_all := lw_g (lw_at lw_m8 169 rfl) rfl
theorem q1996 : (Jvm.Cond.fieldLink "ChildSaysModel" (215 : Nat) "ChildSaysModel" "sitExcept" "[I") ∈ lw_all := lw_g (lw_at lw_m8 170 rfl) rfl
theorem q1997 : (Jvm.Cond.fieldLink "ChildSaysModel" (218 : Nat) "ChildSaysModel" "sitRow" "[I") ∈ lw_all := lw_g (lw_at lw_m8 171 rfl) rfl
theorem q1998 : (Jvm.Cond.fieldLink "ChildSaysModel" (221 : Nat) "ChildSaysModel" "history" "[I") ∈ lw_all := lw_g (lw_at lw_m8 172 rfl) rfl
theorem q1999 : (Jvm.Cond.fieldLink "ChildSaysModel" (224 : Nat) "ChildSaysModel" "historyBy" "[I") ∈ lw_all := lw_g (lw_at lw_m8 173 rfl) rfl
theorem q2000 : (Jvm.Cond.fieldLink "ChildSaysModel" (227 : Nat) "ChildSaysModel" "historyFirst" "[I") ∈ lw_all := lw_g (lw_at lw_m8 174 rfl) rfl
theorem q2001 : (Jvm.Cond.fieldLink "ChildSaysModel" (230 : Nat) "ChildSaysModel" "perm" "[I") ∈ lw_all := lw_g (lw_at lw_m8 175 rfl) rfl
theorem q2002 : (Jvm.Cond.fieldLink "ChildSaysModel" (233 : Nat) "ChildSaysModel" "bestPerm" "[I") ∈ lw_all := lw_g (lw_at lw_m8 176 rfl) rfl
theorem q2003 : (Jvm.Cond.fieldLink "ChildSaysModel" (236 : Nat) "ChildSaysModel" "permMany" "I") ∈ lw_all := lw_g (lw_at lw_m8 177 rfl) rfl
theorem q2004 : (Jvm.Cond.fieldLink "ChildSaysModel" (239 : Nat) "ChildSaysModel" "asking" "I") ∈ lw_all := lw_g (lw_at lw_m8 178 rfl) rfl
theorem q2005 : (Jvm.Cond.fieldLink "ChildSaysModel" (242 : Nat) "ChildSaysModel" "askedOf" "I") ∈ lw_all := lw_g (lw_at lw_m8 179 rfl) rfl
theorem q2006 : (Jvm.Cond.fieldLink "ChildSaysModel" (245 : Nat) "ChildSaysModel" "exchanges" "I") ∈ lw_all := lw_g (lw_at lw_m8 180 rfl) rfl
theorem q2007 : (Jvm.Cond.fieldLink "ChildSaysModel" (248 : Nat) "ChildSaysModel" "out" "[I") ∈ lw_all := lw_g (lw_at lw_m8 181 rfl) rfl
theorem q2008 : (Jvm.Cond.fieldLink "ChildSaysModel" (251 : Nat) "ChildSaysModel" "outs" "I") ∈ lw_all := lw_g (lw_at lw_m8 182 rfl) rfl
theorem q2009 : (Jvm.Cond.laysFinal "ChildSaysModel" "ChildSaysModel" "tape" "[I") ∈ lw_all := lw_g (lw_at lw_m8 183 rfl) rfl
theorem q2010 : (Jvm.Cond.soleField "ChildSaysModel" "tape") ∈ lw_all := lw_g (lw_at lw_m8 184 rfl) rfl
theorem q2011 : (Jvm.Cond.lays "ChildSaysModel" "ChildSaysModel" "taped" "I") ∈ lw_all := lw_g (lw_at lw_m8 185 rfl) rfl
theorem q2012 : (Jvm.Cond.soleField "ChildSaysModel" "taped") ∈ lw_all := lw_g (lw_at lw_m8 186 rfl) rfl
theorem q2013 : (Jvm.Cond.lays "ChildSaysModel" "ChildSaysModel" "size" "I") ∈ lw_all := lw_g (lw_at lw_m8 187 rfl) rfl
theorem q2014 : (Jvm.Cond.soleField "ChildSaysModel" "size") ∈ lw_all := lw_g (lw_at lw_m8 188 rfl) rfl
theorem q2015 : (Jvm.Cond.lays "ChildSaysModel" "ChildSaysModel" "sign" "I") ∈ lw_all := lw_g (lw_at lw_m8 189 rfl) rfl
theorem q2016 : (Jvm.Cond.soleField "ChildSaysModel" "sign") ∈ lw_all := lw_g (lw_at lw_m8 190 rfl) rfl
theorem q2017 : (Jvm.Cond.lays "ChildSaysModel" "ChildSaysModel" "signAt" "I") ∈ lw_all := lw_g (lw_at lw_m8 191 rfl) rfl
theorem q2018 : (Jvm.Cond.soleField "ChildSaysModel" "signAt") ∈ lw_all := lw_g (lw_at lw_m8 192 rfl) rfl
theorem q2019 : (Jvm.Cond.lays "ChildSaysModel" "ChildSaysModel" "signEnd" "I") ∈ lw_all := lw_g (lw_at lw_m8 193 rfl) rfl
theorem q2020 : (Jvm.Cond.soleField "ChildSaysModel" "signEnd") ∈ lw_all := lw_g (lw_at lw_m8 194 rfl) rfl
theorem q2021 : (Jvm.Cond.lays "ChildSaysModel" "ChildSaysModel" "value" "I") ∈ lw_all := lw_g (lw_at lw_m8 195 rfl) rfl
theorem q2022 : (Jvm.Cond.soleField "ChildSaysModel" "value") ∈ lw_all := lw_g (lw_at lw_m8 196 rfl) rfl
theorem q2023 : (Jvm.Cond.lays "ChildSaysModel" "ChildSaysModel" "word" "J") ∈ lw_all := lw_g (lw_at lw_m8 197 rfl) rfl
theorem q2024 : (Jvm.Cond.soleField "ChildSaysModel" "word") ∈ lw_all := lw_g (lw_at lw_m8 198 rfl) rfl
theorem q2025 : (Jvm.Cond.lays "ChildSaysModel" "ChildSaysModel" "faultKind" "I") ∈ lw_all := lw_g (lw_at lw_m8 199 rfl) rfl
theorem q2026 : (Jvm.Cond.soleField "ChildSaysModel" "faultKind") ∈ lw_all := lw_g (lw_at lw_m8 200 rfl) rfl
theorem q2027 : (Jvm.Cond.lays "ChildSaysModel" "ChildSaysModel" "faultPlace" "I") ∈ lw_all := lw_g (lw_at lw_m8 201 rfl) rfl
theorem q2028 : (Jvm.Cond.soleField "ChildSaysModel" "faultPlace") ∈ lw_all := lw_g (lw_at lw_m8 202 rfl) rfl
theorem q2029 : (Jvm.Cond.lays "ChildSaysModel" "ChildSaysModel" "toldKind" "I") ∈ lw_all := lw_g (lw_at lw_m8 203 rfl) rfl
theorem q2030 : (Jvm.Cond.soleField "ChildSaysModel" "toldKind") ∈ lw_all := lw_g (lw_at lw_m8 204 rfl) rfl
theorem q2031 : (Jvm.Cond.lays "ChildSaysModel" "ChildSaysModel" "toldPlace" "I") ∈ lw_all := lw_g (lw_at lw_m8 205 rfl) rfl
theorem q2032 : (Jvm.Cond.soleField "ChildSaysModel" "toldPlace") ∈ lw_all := lw_g (lw_at lw_m8 206 rfl) rfl
theorem q2033 : (Jvm.Cond.lays "ChildSaysModel" "ChildSaysModel" "lexAt" "I") ∈ lw_all := lw_g (lw_at lw_m8 207 rfl) rfl
theorem q2034 : (Jvm.Cond.soleField "ChildSaysModel" "lexAt") ∈ lw_all := lw_g (lw_at lw_m8 208 rfl) rfl
theorem q2035 : (Jvm.Cond.lays "ChildSaysModel" "ChildSaysModel" "bank" "I") ∈ lw_all := lw_g (lw_at lw_m8 209 rfl) rfl
theorem q2036 : (Jvm.Cond.soleField "ChildSaysModel" "bank") ∈ lw_all := lw_g (lw_at lw_m8 210 rfl) rfl
theorem q2037 : (Jvm.Cond.laysFinal "ChildSaysModel" "ChildSaysModel" "words" "[I") ∈ lw_all := lw_g (lw_at lw_m8 211 rfl) rfl
theorem q2038 : (Jvm.Cond.soleField "ChildSaysModel" "words") ∈ lw_all := lw_g (lw_at lw_m8 212 rfl) rfl
theorem q2039 : (Jvm.Cond.laysFinal "ChildSaysModel" "ChildSaysModel" "wordName" "[J") ∈ lw_all := lw_g (lw_at lw_m8 213 rfl) rfl
theorem q2040 : (Jvm.Cond.soleField "ChildSaysModel" "wordName") ∈ lw_all := lw_g (lw_at lw_m8 214 rfl) rfl
theorem q2041 : (Jvm.Cond.laysFinal "ChildSaysModel" "ChildSaysModel" "beats" "[I") ∈ lw_all := lw_g (lw_at lw_m8 215 rfl) rfl
theorem q2042 : (Jvm.Cond.soleField "ChildSaysModel" "beats") ∈ lw_all := lw_g (lw_at lw_m8 216 rfl) rfl
theorem q2043 : (Jvm.Cond.laysFinal "ChildSaysModel" "ChildSaysModel" "begins" "[I") ∈ lw_all := lw_g (lw_at lw_m8 217 rfl) rfl
theorem q2044 : (Jvm.Cond.soleField "ChildSaysModel" "begins") ∈ lw_all := lw_g (lw_at lw_m8 218 rfl) rfl
theorem q2045 : (Jvm.Cond.laysFinal "ChildSaysModel" "ChildSaysModel" "endsOn" "[I") ∈ lw_all := lw_g (lw_at lw_m8 219 rfl) rfl
theorem q2046 : (Jvm.Cond.soleField "ChildSaysModel" "endsOn") ∈ lw_all := lw_g (lw_at lw_m8 220 rfl) rfl
theorem q2047 : (Jvm.Cond.laysFinal "ChildSaysModel" "ChildSaysModel" "worth" "[I") ∈ lw_all := lw_g (lw_at lw_m8 221 rfl) rfl
theorem q2048 : (Jvm.Cond.soleField "ChildSaysModel" "worth") ∈ lw_all := lw_g (lw_at lw_m8 222 rfl) rfl
theorem q2049 : (Jvm.Cond.laysFinal "ChildSaysModel" "ChildSaysModel" "never" "[I") ∈ lw_all := lw_g (lw_at lw_m8 223 rfl) rfl
theorem q2050 : (Jvm.Cond.soleField "ChildSaysModel" "never") ∈ lw_all := lw_g (lw_at lw_m8 224 rfl) rfl
theorem q2051 : (Jvm.Cond.laysFinal "ChildSaysModel" "ChildSaysModel" "streets" "[I") ∈ lw_all := lw_g (lw_at lw_m8 225 rfl) rfl
theorem q2052 : (Jvm.Cond.soleField "ChildSaysModel" "streets") ∈ lw_all := lw_g (lw_at lw_m8 226 rfl) rfl
theorem q2053 : (Jvm.Cond.laysFinal "ChildSaysModel" "ChildSaysModel" "streetName" "[J") ∈ lw_all := lw_g (lw_at lw_m8 227 rfl) rfl
theorem q2054 : (Jvm.Cond.soleField "ChildSaysModel" "streetName") ∈ lw_all := lw_g (lw_at lw_m8 228 rfl) rfl
theorem q2055 : (Jvm.Cond.laysFinal "ChildSaysModel" "ChildSaysModel" "heardAs" "[I") ∈ lw_all := lw_g (lw_at lw_m8 229 rfl) rfl
theorem q2056 : (Jvm.Cond.soleField "ChildSaysModel" "heardAs") ∈ lw_all := lw_g (lw_at lw_m8 230 rfl) rfl
theorem q2057 : (Jvm.Cond.laysFinal "ChildSaysModel" "ChildSaysModel" "children" "[I") ∈ lw_all := lw_g (lw_at lw_m8 231 rfl) rfl
theorem q2058 : (Jvm.Cond.soleField "ChildSaysModel" "children") ∈ lw_all := lw_g (lw_at lw_m8 232 rfl) rfl
theorem q2059 : (Jvm.Cond.laysFinal "ChildSaysModel" "ChildSaysModel" "childName" "[J") ∈ lw_all := lw_g (lw_at lw_m8 233 rfl) rfl
theorem q2060 : (Jvm.Cond.soleField "ChildSaysModel" "childName") ∈ lw_all := lw_g (lw_at lw_m8 234 rfl) rfl
theorem q2061 : (Jvm.Cond.laysFinal "ChildSaysModel" "ChildSaysModel" "childStreet" "[I") ∈ lw_all := lw_g (lw_at lw_m8 235 rfl) rfl
theorem q2062 : (Jvm.Cond.soleField "ChildSaysModel" "childStreet") ∈ lw_all := lw_g (lw_at lw_m8 236 rfl) rfl
theorem q2063 : (Jvm.Cond.laysFinal "ChildSaysModel" "ChildSaysModel" "holds" "[I") ∈ lw_all := lw_g (lw_at lw_m8 237 rfl) rfl
theorem q2064 : (Jvm.Cond.soleField "ChildSaysModel" "holds") ∈ lw_all := lw_g (lw_at lw_m8 238 rfl) rfl
theorem q2065 : (Jvm.Cond.laysFinal "ChildSaysModel" "ChildSaysModel" "knows" "[I") ∈ lw_all := lw_g (lw_at lw_m8 239 rfl) rfl
theorem q2066 : (Jvm.Cond.soleField "ChildSaysModel" "knows") ∈ lw_all := lw_g (lw_at lw_m9 0 rfl) rfl
theorem q2067 : (Jvm.Cond.laysFinal "ChildSaysModel" "ChildSaysModel" "laws" "[I") ∈ lw_all := lw_g (lw_at lw_m9 1 rfl) rfl
theorem q2068 : (Jvm.Cond.soleField "ChildSaysModel" "laws") ∈ lw_all := lw_g (lw_at lw_m9 2 rfl) rfl
theorem q2069 : (Jvm.Cond.laysFinal "ChildSaysModel" "ChildSaysModel" "lawName" "[J") ∈ lw_all := lw_g (lw_at lw_m9 3 rfl) rfl
theorem q2070 : (Jvm.Cond.soleField "ChildSaysModel" "lawName") ∈ lw_all := lw_g (lw_at lw_m9 4 rfl) rfl
theorem q2071 : (Jvm.Cond.laysFinal "ChildSaysModel" "ChildSaysModel" "lawSung" "[I") ∈ lw_all := lw_g (lw_at lw_m9 5 rfl) rfl
theorem q2072 : (Jvm.Cond.soleField "ChildSaysModel" "lawSung") ∈ lw_all := lw_g (lw_at lw_m9 6 rfl) rfl
theorem q2073 : (Jvm.Cond.laysFinal "ChildSaysModel" "ChildSaysModel" "lawMain" "[I") ∈ lw_all := lw_g (lw_at lw_m9 7 rfl) rfl
theorem q2074 : (Jvm.Cond.soleField "ChildSaysModel" "lawMain") ∈ lw_all := lw_g (lw_at lw_m9 8 rfl) rfl
theorem q2075 : (Jvm.Cond.laysFinal "ChildSaysModel" "ChildSaysModel" "lawExcept" "[I") ∈ lw_all := lw_g (lw_at lw_m9 9 rfl) rfl
theorem q2076 : (Jvm.Cond.soleField "ChildSaysModel" "lawExcept") ∈ lw_all := lw_g (lw_at lw_m9 10 rfl) rfl
theorem q2077 : (Jvm.Cond.laysFinal "ChildSaysModel" "ChildSaysModel" "lawWords" "[I") ∈ lw_all := lw_g (lw_at lw_m9 11 rfl) rfl
theorem q2078 : (Jvm.Cond.soleField "ChildSaysModel" "lawWords") ∈ lw_all := lw_g (lw_at lw_m9 12 rfl) rfl
theorem q2079 : (Jvm.Cond.laysFinal "ChildSaysModel" "ChildSaysModel" "head" "[I") ∈ lw_all := lw_g (lw_at lw_m9 13 rfl) rfl
theorem q2080 : (Jvm.Cond.soleField "ChildSaysModel" "head") ∈ lw_all := lw_g (lw_at lw_m9 14 rfl) rfl
theorem q2081 : (Jvm.Cond.laysFinal "ChildSaysModel" "ChildSaysModel" "mend" "[I") ∈ lw_all := lw_g (lw_at lw_m9 15 rfl) rfl
theorem q2082 : (Jvm.Cond.soleField "ChildSaysModel" "mend") ∈ lw_all := lw_g (lw_at lw_m9 16 rfl) rfl
theorem q2083 : (Jvm.Cond.laysFinal "ChildSaysModel" "ChildSaysModel" "tune" "[I") ∈ lw_all := lw_g (lw_at lw_m9 17 rfl) rfl
theorem q2084 : (Jvm.Cond.soleField "ChildSaysModel" "tune") ∈ lw_all := lw_g (lw_at lw_m9 18 rfl) rfl
theorem q2085 : (Jvm.Cond.lays "ChildSaysModel" "ChildSaysModel" "in" "I") ∈ lw_all := lw_g (lw_at lw_m9 19 rfl) rfl
theorem q2086 : (Jvm.Cond.soleField "ChildSaysModel" "in") ∈ lw_all := lw_g (lw_at lw_m9 20 rfl) rfl
theorem q2087 : (Jvm.Cond.laysFinal "ChildSaysModel" "ChildSaysModel" "readRow" "[I") ∈ lw_all := lw_g (lw_at lw_m9 21 rfl) rfl
theorem q2088 : (Jvm.Cond.soleField "ChildSaysModel" "readRow") ∈ lw_all := lw_g (lw_at lw_m9 22 rfl) rfl
theorem q2089 : (Jvm.Cond.lays "ChildSaysModel" "ChildSaysModel" "readMain" "I") ∈ lw_all := lw_g (lw_at lw_m9 23 rfl) rfl
theorem q2090 : (Jvm.Cond.soleField "ChildSaysModel" "readMain") ∈ lw_all := lw_g (lw_at lw_m9 24 rfl) rfl
theorem q2091 : (Jvm.Cond.lays "ChildSaysModel" "ChildSaysModel" "readExcept" "I") ∈ lw_all := lw_g (lw_at lw_m9 25 rfl) rfl
theorem q2092 : (Jvm.Cond.soleField "ChildSaysModel" "readExcept") ∈ lw_all := lw_g (lw_at lw_m9 26 rfl) rfl
theorem q2093 : (Jvm.Cond.laysFinal "ChildSaysModel" "ChildSaysModel" "refused" "[I") ∈ lw_all := lw_g (lw_at lw_m9 27 rfl) rfl
theorem q2094 : (Jvm.Cond.soleField "ChildSaysModel" "refused") ∈ lw_all := lw_g (lw_at lw_m9 28 rfl) rfl
theorem q2095 : (Jvm.Cond.laysFinal "ChildSaysModel" "ChildSaysModel" "year" "[I") ∈ lw_all := lw_g (lw_at lw_m9 29 rfl) rfl
theorem q2096 : (Jvm.Cond.soleField "ChildSaysModel" "year") ∈ lw_all := lw_g (lw_at lw_m9 30 rfl) rfl
theorem q2097 : (Jvm.Cond.laysFinal "ChildSaysModel" "ChildSaysModel" "orderOf" "[I") ∈ lw_all := lw_g (lw_at lw_m9 31 rfl) rfl
theorem q2098 : (Jvm.Cond.soleField "ChildSaysModel" "orderOf") ∈ lw_all := lw_g (lw_at lw_m9 32 rfl) rfl
theorem q2099 : (Jvm.Cond.laysFinal "ChildSaysModel" "ChildSaysModel" "main" "[I") ∈ lw_all := lw_g (lw_at lw_m9 33 rfl) rfl
theorem q2100 : (Jvm.Cond.soleField "ChildSaysModel" "main") ∈ lw_all := lw_g (lw_at lw_m9 34 rfl) rfl
theorem q2101 : (Jvm.Cond.laysFinal "ChildSaysModel" "ChildSaysModel" "except" "[I") ∈ lw_all := lw_g (lw_at lw_m9 35 rfl) rfl
theorem q2102 : (Jvm.Cond.soleField "ChildSaysModel" "except") ∈ lw_all := lw_g (lw_at lw_m9 36 rfl) rfl
theorem q2103 : (Jvm.Cond.laysFinal "ChildSaysModel" "ChildSaysModel" "sung" "[I") ∈ lw_all := lw_g (lw_at lw_m9 37 rfl) rfl
theorem q2104 : (Jvm.Cond.soleField "ChildSaysModel" "sung") ∈ lw_all := lw_g (lw_at lw_m9 38 rfl) rfl
theorem q2105 : (Jvm.Cond.laysFinal "ChildSaysModel" "ChildSaysModel" "rows" "[I") ∈ lw_all := lw_g (lw_at lw_m9 39 rfl) rfl
theorem q2106 : (Jvm.Cond.soleField "ChildSaysModel" "rows") ∈ lw_all := lw_g (lw_at lw_m9 40 rfl) rfl
theorem q2107 : (Jvm.Cond.laysFinal "ChildSaysModel" "ChildSaysModel" "bookMany" "[I") ∈ lw_all := lw_g (lw_at lw_m9 41 rfl) rfl
theorem q2108 : (Jvm.Cond.soleField "ChildSaysModel" "bookMany") ∈ lw_all := lw_g (lw_at lw_m9 42 rfl) rfl
theorem q2109 : (Jvm.Cond.laysFinal "ChildSaysModel" "ChildSaysModel" "bookRow" "[I") ∈ lw_all := lw_g (lw_at lw_m9 43 rfl) rfl
theorem q2110 : (Jvm.Cond.soleField "ChildSaysModel" "bookRow") ∈ lw_all := lw_g (lw_at lw_m9 44 rfl) rfl
theorem q2111 : (Jvm.Cond.lays "ChildSaysModel" "ChildSaysModel" "undoFirst" "I") ∈ lw_all := lw_g (lw_at lw_m9 45 rfl) rfl
theorem q2112 : (Jvm.Cond.soleField "ChildSaysModel" "undoFirst") ∈ lw_all := lw_g (lw_at lw_m9 46 rfl) rfl
theorem q2113 : (Jvm.Cond.lays "ChildSaysModel" "ChildSaysModel" "undos" "I") ∈ lw_all := lw_g (lw_at lw_m9 47 rfl) rfl
theorem q2114 : (Jvm.Cond.soleField "ChildSaysModel" "undos") ∈ lw_all := lw_g (lw_at lw_m9 48 rfl) rfl
theorem q2115 : (Jvm.Cond.lays "ChildSaysModel" "ChildSaysModel" "seeds" "J") ∈ lw_all := lw_g (lw_at lw_m9 49 rfl) rfl
theorem q2116 : (Jvm.Cond.soleField "ChildSaysModel" "seeds") ∈ lw_all := lw_g (lw_at lw_m9 50 rfl) rfl
theorem q2117 : (Jvm.Cond.laysFinal "ChildSaysModel" "ChildSaysModel" "told" "[I") ∈ lw_all := lw_g (lw_at lw_m9 51 rfl) rfl
theorem q2118 : (Jvm.Cond.soleField "ChildSaysModel" "told") ∈ lw_all := lw_g (lw_at lw_m9 52 rfl) rfl
theorem q2119 : (Jvm.Cond.lays "ChildSaysModel" "ChildSaysModel" "toldMain" "I") ∈ lw_all := lw_g (lw_at lw_m9 53 rfl) rfl
theorem q2120 : (Jvm.Cond.soleField "ChildSaysModel" "toldMain") ∈ lw_all := lw_g (lw_at lw_m9 54 rfl) rfl
theorem q2121 : (Jvm.Cond.lays "ChildSaysModel" "ChildSaysModel" "toldExcept" "I") ∈ lw_all := lw_g (lw_at lw_m9 55 rfl) rfl
theorem q2122 : (Jvm.Cond.soleField "ChildSaysModel" "toldExcept") ∈ lw_all := lw_g (lw_at lw_m9 56 rfl) rfl
theorem q2123 : (Jvm.Cond.lays "ChildSaysModel" "ChildSaysModel" "isSung" "Z") ∈ lw_all := lw_g (lw_at lw_m9 57 rfl) rfl
theorem q2124 : (Jvm.Cond.soleField "ChildSaysModel" "isSung") ∈ lw_all := lw_g (lw_at lw_m9 58 rfl) rfl
theorem q2125 : (Jvm.Cond.laysFinal "ChildSaysModel" "ChildSaysModel" "said" "[I") ∈ lw_all := lw_g (lw_at lw_m9 59 rfl) rfl
theorem q2126 : (Jvm.Cond.soleField "ChildSaysModel" "said") ∈ lw_all := lw_g (lw_at lw_m9 60 rfl) rfl
theorem q2127 : (Jvm.Cond.lays "ChildSaysModel" "ChildSaysModel" "saidMain" "I") ∈ lw_all := lw_g (lw_at lw_m9 61 rfl) rfl
theorem q2128 : (Jvm.Cond.soleField "ChildSaysModel" "saidMain") ∈ lw_all := lw_g (lw_at lw_m9 62 rfl) rfl
theorem q2129 : (Jvm.Cond.lays "ChildSaysModel" "ChildSaysModel" "saidExcept" "I") ∈ lw_all := lw_g (lw_at lw_m9 63 rfl) rfl
theorem q2130 : (Jvm.Cond.soleField "ChildSaysModel" "saidExcept") ∈ lw_all := lw_g (lw_at lw_m9 64 rfl) rfl
theorem q2131 : (Jvm.Cond.lays "ChildSaysModel" "ChildSaysModel" "kind" "I") ∈ lw_all := lw_g (lw_at lw_m9 65 rfl) rfl
theorem q2132 : (Jvm.Cond.soleField "ChildSaysModel" "kind") ∈ lw_all := lw_g (lw_at lw_m9 66 rfl) rfl
theorem q2133 : (Jvm.Cond.lays "ChildSaysModel" "ChildSaysModel" "holding" "I") ∈ lw_all := lw_g (lw_at lw_m9 67 rfl) rfl
theorem q2134 : (Jvm.Cond.soleField "ChildSaysModel" "holding") ∈ lw_all := lw_g (lw_at lw_m9 68 rfl) rfl
theorem q2135 : (Jvm.Cond.laysFinal "ChildSaysModel" "ChildSaysModel" "seat" "[I") ∈ lw_all := lw_g (lw_at lw_m9 69 rfl) rfl
theorem q2136 : (Jvm.Cond.soleField "ChildSaysModel" "seat") ∈ lw_all := lw_g (lw_at lw_m9 70 rfl) rfl
theorem q2137 : (Jvm.Cond.lays "ChildSaysModel" "ChildSaysModel" "seats" "I") ∈ lw_all := lw_g (lw_at lw_m9 71 rfl) rfl
theorem q2138 : (Jvm.Cond.soleField "ChildSaysModel" "seats") ∈ lw_all := lw_g (lw_at lw_m9 72 rfl) rfl
theorem q2139 : (Jvm.Cond.laysFinal "ChildSaysModel" "ChildSaysModel" "sitKind" "[I") ∈ lw_all := lw_g (lw_at lw_m9 73 rfl) rfl
theorem q2140 : (Jvm.Cond.soleField "ChildSaysModel" "sitKind") ∈ lw_all := lw_g (lw_at lw_m9 74 rfl) rfl
theorem q2141 : (Jvm.Cond.laysFinal "ChildSaysModel" "ChildSaysModel" "sitMain" "[I") ∈ lw_all := lw_g (lw_at lw_m9 75 rfl) rfl
theorem q2142 : (Jvm.Cond.soleField "ChildSaysModel" "sitMain") ∈ lw_all := lw_g (lw_at lw_m9 76 rfl) rfl
theorem q2143 : (Jvm.Cond.laysFinal "ChildSaysModel" "ChildSaysModel" "sitExcept" "[I") ∈ lw_all := lw_g (lw_at lw_m9 77 rfl) rfl
theorem q2144 : (Jvm.Cond.soleField "ChildSaysModel" "sitExcept") ∈ lw_all := lw_g (lw_at lw_m9 78 rfl) rfl
theorem q2145 : (Jvm.Cond.laysFinal "ChildSaysModel" "ChildSaysModel" "sitRow" "[I") ∈ lw_all := lw_g (lw_at lw_m9 79 rfl) rfl
theorem q2146 : (Jvm.Cond.soleField "ChildSaysModel" "sitRow") ∈ lw_all := lw_g (lw_at lw_m9 80 rfl) rfl
theorem q2147 : (Jvm.Cond.laysFinal "ChildSaysModel" "ChildSaysModel" "history" "[I") ∈ lw_all := lw_g (lw_at lw_m9 81 rfl) rfl
theorem q2148 : (Jvm.Cond.soleField "ChildSaysModel" "history") ∈ lw_all := lw_g (lw_at lw_m9 82 rfl) rfl
theorem q2149 : (Jvm.Cond.laysFinal "ChildSaysModel" "ChildSaysModel" "historyBy" "[I") ∈ lw_all := lw_g (lw_at lw_m9 83 rfl) rfl
theorem q2150 : (Jvm.Cond.soleField "ChildSaysModel" "historyBy") ∈ lw_all := lw_g (lw_at lw_m9 84 rfl) rfl
theorem q2151 : (Jvm.Cond.laysFinal "ChildSaysModel" "ChildSaysModel" "historyFirst" "[I") ∈ lw_all := lw_g (lw_at lw_m9 85 rfl) rfl
theorem q2152 : (Jvm.Cond.soleField "ChildSaysModel" "historyFirst") ∈ lw_all := lw_g (lw_at lw_m9 86 rfl) rfl
theorem q2153 : (Jvm.Cond.laysFinal "ChildSaysModel" "ChildSaysModel" "perm" "[I") ∈ lw_all := lw_g (lw_at lw_m9 87 rfl) rfl
theorem q2154 : (Jvm.Cond.soleField "ChildSaysModel" "perm") ∈ lw_all := lw_g (lw_at lw_m9 88 rfl) rfl
theorem q2155 : (Jvm.Cond.laysFinal "ChildSaysModel" "ChildSaysModel" "bestPerm" "[I") ∈ lw_all := lw_g (lw_at lw_m9 89 rfl) rfl
theorem q2156 : (Jvm.Cond.soleField "ChildSaysModel" "bestPerm") ∈ lw_all := lw_g (lw_at lw_m9 90 rfl) rfl
theorem q2157 : (Jvm.Cond.lays "ChildSaysModel" "ChildSaysModel" "permMany" "I") ∈ lw_all := lw_g (lw_at lw_m9 91 rfl) rfl
theorem q2158 : (Jvm.Cond.soleField "ChildSaysModel" "permMany") ∈ lw_all := lw_g (lw_at lw_m9 92 rfl) rfl
theorem q2159 : (Jvm.Cond.lays "ChildSaysModel" "ChildSaysModel" "asking" "I") ∈ lw_all := lw_g (lw_at lw_m9 93 rfl) rfl
theorem q2160 : (Jvm.Cond.soleField "ChildSaysModel" "asking") ∈ lw_all := lw_g (lw_at lw_m9 94 rfl) rfl
theorem q2161 : (Jvm.Cond.lays "ChildSaysModel" "ChildSaysModel" "askedOf" "I") ∈ lw_all := lw_g (lw_at lw_m9 95 rfl) rfl
theorem q2162 : (Jvm.Cond.soleField "ChildSaysModel" "askedOf") ∈ lw_all := lw_g (lw_at lw_m9 96 rfl) rfl
theorem q2163 : (Jvm.Cond.lays "ChildSaysModel" "ChildSaysModel" "exchanges" "I") ∈ lw_all := lw_g (lw_at lw_m9 97 rfl) rfl
theorem q2164 : (Jvm.Cond.soleField "ChildSaysModel" "exchanges") ∈ lw_all := lw_g (lw_at lw_m9 98 rfl) rfl
theorem q2165 : (Jvm.Cond.laysFinal "ChildSaysModel" "ChildSaysModel" "out" "[I") ∈ lw_all := lw_g (lw_at lw_m9 99 rfl) rfl
theorem q2166 : (Jvm.Cond.soleField "ChildSaysModel" "out") ∈ lw_all := lw_g (lw_at lw_m9 100 rfl) rfl
theorem q2167 : (Jvm.Cond.lays "ChildSaysModel" "ChildSaysModel" "outs" "I") ∈ lw_all := lw_g (lw_at lw_m9 101 rfl) rfl
theorem q2168 : (Jvm.Cond.soleField "ChildSaysModel" "outs") ∈ lw_all := lw_g (lw_at lw_m9 102 rfl) rfl
theorem q2169 : (Jvm.Cond.superclass "ChildSaysModel" "java/lang/Object") ∈ lw_all := lw_g (lw_at lw_m9 103 rfl) rfl
theorem q2170 : (Jvm.Cond.arrayClass Jvm.ClassFile.FieldType.long) ∈ lw_all := lw_g (lw_at lw_m9 104 rfl) rfl
theorem q2171 : (Jvm.Cond.methodLink "ChildSaysLaw" (17 : Nat) ({ cls := "ChildSaysModel", name := "feed", desc := "(IIIII)I" } : Jvm.MethodName)) ∈ lw_all := lw_g (lw_at lw_m9 105 rfl) rfl
theorem q2172 : (Jvm.Cond.instanceMethod ({ cls := "ChildSaysModel", name := "feed", desc := "(IIIII)I" } : Jvm.MethodName)) ∈ lw_all := lw_g (lw_at lw_m9 106 rfl) rfl
theorem q2173 : (Jvm.Cond.selects "ChildSaysModel" ({ cls := "ChildSaysModel", name := "feed", desc := "(IIIII)I" } : Jvm.MethodName) ({ cls := "ChildSaysModel", name := "feed", desc := "(IIIII)I" } : Jvm.MethodName)) ∈ lw_all := lw_g (lw_at lw_m9 107 rfl) rfl
theorem q2174 : (Jvm.Cond.code ({ cls := "ChildSaysModel", name := "feed", desc := "(IIIII)I" } : Jvm.MethodName) prog_21_method_4_code (6 : Nat) (Option.some Jvm.ClassFile.FieldType.int)) ∈ lw_all := lw_g (lw_at lw_m9 108 rfl) rfl
theorem q2175 : (Jvm.Cond.methodLink "ChildSaysModel" (254 : Nat) ({ cls := "ChildSaysModel", name := "refuses", desc := "(I)I" } : Jvm.MethodName)) ∈ lw_all := lw_g (lw_at lw_m9 109 rfl) rfl
theorem q2176 : (Jvm.Cond.privateMethod ({ cls := "ChildSaysModel", name := "refuses", desc := "(I)I" } : Jvm.MethodName)) ∈ lw_tbl := lw_at lw_m9 110 rfl
theorem q2177 : (Jvm.Cond.instanceMethod ({ cls := "ChildSaysModel", name := "refuses", desc := "(I)I" } : Jvm.MethodName)) ∈ lw_all := lw_g (lw_at lw_m9 111 rfl) rfl
theorem q2178 : (Jvm.Cond.code ({ cls := "ChildSaysModel", name := "refuses", desc := "(I)I" } : Jvm.MethodName) prog_21_method_36_code (2 : Nat) (Option.some Jvm.ClassFile.FieldType.int)) ∈ lw_all := lw_g (lw_at lw_m9 112 rfl) rfl
theorem q2179 : (Jvm.Cond.methodLink "ChildSaysModel" (258 : Nat) ({ cls := "ChildSaysModel", name := "put", desc := "(I)V" } : Jvm.MethodName)) ∈ lw_all := lw_g (lw_at lw_m9 113 rfl) rfl
theorem q2180 : (Jvm.Cond.privateMethod ({ cls := "ChildSaysModel", name := "put", desc := "(I)V" } : Jvm.MethodName)) ∈ lw_tbl := lw_at lw_m9 114 rfl
theorem q2181 : (Jvm.Cond.instanceMethod ({ cls := "ChildSaysModel", name := "put", desc := "(I)V" } : Jvm.MethodName)) ∈ lw_all := lw_g (lw_at lw_m9 115 rfl) rfl
theorem q2182 : (Jvm.Cond.code ({ cls := "ChildSaysModel", name := "put", desc := "(I)V" } : Jvm.MethodName) prog_21_method_3_code (3 : Nat) (Option.none : Option Jvm.ClassFile.FieldType)) ∈ lw_all := lw_g (lw_at lw_m9 116 rfl) rfl
theorem q2183 : (Jvm.Cond.methodLink "ChildSaysLaw" (22 : Nat) ({ cls := "ChildSaysModel", name := "end", desc := "(I)Z" } : Jvm.MethodName)) ∈ lw_all := lw_g (lw_at lw_m9 117 rfl) rfl
theorem q2184 : (Jvm.Cond.instanceMethod ({ cls := "ChildSaysModel", name := "end", desc := "(I)Z" } : Jvm.MethodName)) ∈ lw_all := lw_g (lw_at lw_m9 118 rfl) rfl
theorem q2185 : (Jvm.Cond.selects "ChildSaysModel" ({ cls := "ChildSaysModel", name := "end", desc := "(I)Z" } : Jvm.MethodName) ({ cls := "ChildSaysModel", name := "end", desc := "(I)Z" } : Jvm.MethodName)) ∈ lw_all := lw_g (lw_at lw_m9 119 rfl) rfl
theorem q2186 : (Jvm.Cond.code ({ cls := "ChildSaysModel", name := "end", desc := "(I)Z" } : Jvm.MethodName) prog_21_method_5_code (2 : Nat) (Option.some Jvm.ClassFile.FieldType.boolean)) ∈ lw_all := lw_g (lw_at lw_m9 120 rfl) rfl
theorem q2187 : (Jvm.Cond.methodLink "ChildSaysLaw" (27 : Nat) ({ cls := "ChildSaysModel", name := "town", desc := "()I" } : Jvm.MethodName)) ∈ lw_all := lw_g (lw_at lw_m9 121 rfl) rfl
theorem q2188 : (Jvm.Cond.instanceMethod ({ cls := "ChildSaysModel", name := "town", desc := "()I" } : Jvm.MethodName)) ∈ lw_all := lw_g (lw_at lw_m9 122 rfl) rfl
theorem q2189 : (Jvm.Cond.selects "ChildSaysModel" ({ cls := "ChildSaysModel", name := "town", desc := "()I" } : Jvm.MethodName) ({ cls := "ChildSaysModel", name := "town", desc := "()I" } : Jvm.MethodName)) ∈ lw_all := lw_g (lw_at lw_m9 123 rfl) rfl
theorem q2190 : (Jvm.Cond.code ({ cls := "ChildSaysModel", name := "town", desc := "()I" } : Jvm.MethodName) prog_21_method_34_code (2 : Nat) (Option.some Jvm.ClassFile.FieldType.int)) ∈ lw_all := lw_g (lw_at lw_m9 124 rfl) rfl
theorem q2191 : (Jvm.Cond.methodLink "ChildSaysModel" (384 : Nat) ({ cls := "ChildSaysModel", name := "takesTape", desc := "()V" } : Jvm.MethodName)) ∈ lw_all := lw_g (lw_at lw_m9 125 rfl) rfl
theorem q2192 : (Jvm.Cond.privateMethod ({ cls := "ChildSaysModel", name := "takesTape", desc := "()V" } : Jvm.MethodName)) ∈ lw_tbl := lw_at lw_m9 126 rfl
theorem q2193 : (Jvm.Cond.instanceMethod ({ cls := "ChildSaysModel", name := "takesTape", desc := "()V" } : Jvm.MethodName)) ∈ lw_all := lw_g (lw_at lw_m9 127 rfl) rfl
theorem q2194 : (Jvm.Cond.code ({ cls := "ChildSaysModel", name := "takesTape", desc := "()V" } : Jvm.MethodName) prog_21_method_33_code (1 : Nat) (Option.none : Option Jvm.ClassFile.FieldType)) ∈ lw_all := lw_g (lw_at lw_m9 128 rfl) rfl
theorem q2195 : (Jvm.Cond.methodLink "ChildSaysModel" (279 : Nat) ({ cls := "ChildSaysModel", name := "ahead", desc := "()V" } : Jvm.MethodName)) ∈ lw_all := lw_g (lw_at lw_m9 129 rfl) rfl
theorem q2196 : (Jvm.Cond.privateMethod ({ cls := "ChildSaysModel", name := "ahead", desc := "()V" } : Jvm.MethodName)) ∈ lw_tbl := lw_at lw_m9 130 rfl
theorem q2197 : (Jvm.Cond.instanceMethod ({ cls := "ChildSaysModel", name := "ahead", desc := "()V" } : Jvm.MethodName)) ∈ lw_all := lw_g (lw_at lw_m9 131 rfl) rfl
theorem q2198 : (Jvm.Cond.code ({ cls := "ChildSaysModel", name := "ahead", desc := "()V" } : Jvm.MethodName) prog_21_method_10_code (6 : Nat) (Option.none : Option Jvm.ClassFile.FieldType)) ∈ lw_all := lw_g (lw_at lw_m9 132 rfl) rfl
theorem q2199 : (Jvm.Cond.methodLink "ChildSaysModel" (266 : Nat) ({ cls := "ChildSaysModel", name := "isLetter", desc := "(I)Z" } : Jvm.MethodName)) ∈ lw_all := lw_g (lw_at lw_m9 133 rfl) rfl
theorem q2200 : (Jvm.Cond.static ({ cls := "ChildSaysModel", name := "isLetter", desc := "(I)Z" } : Jvm.MethodName)) ∈ lw_all := lw_g (lw_at lw_m9 134 rfl) rfl
theorem q2201 : (Jvm.Cond.code ({ cls := "ChildSaysModel", name := "isLetter", desc := "(I)Z" } : Jvm.MethodName) prog_21_method_7_code (1 : Nat) (Option.some Jvm.ClassFile.FieldType.boolean)) ∈ lw_all := lw_g (lw_at lw_m9 135 rfl) rfl
theorem q2202 : (Jvm.Cond.methodLink "ChildSaysModel" (270 : Nat) ({ cls := "ChildSaysModel", name := "isDigit", desc := "(I)Z" } : Jvm.MethodName)) ∈ lw_all := lw_g (lw_at lw_m9 136 rfl) rfl
theorem q2203 : (Jvm.Cond.static ({ cls := "ChildSaysModel", name := "isDigit", desc := "(I)Z" } : Jvm.MethodName)) ∈ lw_all := lw_g (lw_at lw_m9 137 rfl) rfl
theorem q2204 : (Jvm.Cond.code ({ cls := "ChildSaysModel", name := "isDigit", desc := "(I)Z" } : Jvm.MethodName) prog_21_method_8_code (1 : Nat) (Option.some Jvm.ClassFile.FieldType.boolean)) ∈ lw_all := lw_g (lw_at lw_m9 138 rfl) rfl
theorem q2205 : (Jvm.Cond.methodLink "ChildSaysModel" (387 : Nat) ({ cls := "ChildSaysModel", name := "statement", desc := "()V" } : Jvm.MethodName)) ∈ lw_all := lw_g (lw_at lw_m9 139 rfl) rfl
theorem q2206 : (Jvm.Cond.privateMethod ({ cls := "ChildSaysModel", name := "statement", desc := "()V" } : Jvm.MethodName)) ∈ lw_tbl := lw_at lw_m9 140 rfl
theorem q2207 : (Jvm.Cond.instanceMethod ({ cls := "ChildSaysModel", name := "statement", desc := "()V" } : Jvm.MethodName)) ∈ lw_all := lw_g (lw_at lw_m9 141 rfl) rfl
theorem q2208 : (Jvm.Cond.code ({ cls := "ChildSaysModel", name := "statement", desc := "()V" } : Jvm.MethodName) prog_21_method_30_code (1 : Nat) (Option.none : Option Jvm.ClassFile.FieldType)) ∈ lw_all := lw_g (lw_at lw_m9 142 rfl) rfl
theorem q2209 : (Jvm.Cond.methodLink "ChildSaysModel" (273 : Nat) ({ cls := "ChildSaysModel", name := "lex", desc := "()V" } : Jvm.MethodName)) ∈ lw_all := lw_g (lw_at lw_m9 143 rfl) rfl
theorem q2210 : (Jvm.Cond.privateMethod ({ cls := "ChildSaysModel", name := "lex", desc := "()V" } : Jvm.MethodName)) ∈ lw_tbl := lw_at lw_m9 144 rfl
theorem q2211 : (Jvm.Cond.instanceMethod ({ cls := "ChildSaysModel", name := "lex", desc := "()V" } : Jvm.MethodName)) ∈ lw_all := lw_g (lw_at lw_m9 145 rfl) rfl
theorem q2212 : (Jvm.Cond.code ({ cls := "ChildSaysModel", name := "lex", desc := "()V" } : Jvm.MethodName) prog_21_method_9_code (1 : Nat) (Option.none : Option Jvm.ClassFile.FieldType)) ∈ lw_all := lw_g (lw_at lw_m9 146 rfl) rfl
theorem q2213 : (Jvm.Cond.methodLink "ChildSaysModel" (262 : Nat) ({ cls := "ChildSaysModel", name := "blame", desc := "(II)V" } : Jvm.MethodName)) ∈ lw_all := lw_g (lw_at lw_m9 147 rfl) rfl
theorem q2214 : (Jvm.Cond.privateMethod ({ cls := "ChildSaysModel", name := "blame", desc := "(II)V" } : Jvm.MethodName)) ∈ lw_tbl := lw_at lw_m9 148 rfl
theorem q2215 : (Jvm.Cond.instanceMethod ({ cls := "ChildSaysModel", name := "blame", desc := "(II)V" } : Jvm.MethodName)) ∈ lw_all := lw_g (lw_at lw_m9 149 rfl) rfl
theorem q2216 : (Jvm.Cond.code ({ cls := "ChildSaysModel", name := "blame", desc := "(II)V" } : Jvm.MethodName) prog_21_method_6_code (3 : Nat) (Option.none : Option Jvm.ClassFile.FieldType)) ∈ lw_all := lw_g (lw_at lw_m9 150 rfl) rfl
theorem q2217 : (Jvm.Cond.constantLong "ChildSaysModel" (282 : Nat) (2003792484 : Int64)) ∈ lw_all := lw_g (lw_at lw_m9 151 rfl) rfl
theorem q2218 : (Jvm.Cond.methodLink "ChildSaysModel" (328 : Nat) ({ cls := "ChildSaysModel", name := "isWord", desc := "(J)Z" } : Jvm.MethodName)) ∈ lw_all := lw_g (lw_at lw_m9 152 rfl) rfl
theorem q2219 : (Jvm.Cond.privateMethod ({ cls := "ChildSaysModel", name := "isWord", desc := "(J)Z" } : Jvm.MethodName)) ∈ lw_tbl := lw_at lw_m9 153 rfl
theorem q2220 : (Jvm.Cond.instanceMethod ({ cls := "ChildSaysModel", name := "isWord", desc := "(J)Z" } : Jvm.MethodName)) ∈ lw_all := lw_g (lw_at lw_m9 154 rfl) rfl
theorem q2221 : (Jvm.Cond.code ({ cls := "ChildSaysModel", name := "isWord", desc := "(J)Z" } : Jvm.MethodName) prog_21_method_12_code (3 : Nat) (Option.some Jvm.ClassFile.FieldType.boolean)) ∈ lw_all := lw_g (lw_at lw_m9 155 rfl) rfl
theorem q2222 : (Jvm.Cond.methodLink "ChildSaysModel" (367 : Nat) ({ cls := "ChildSaysModel", name := "wording", desc := "()V" } : Jvm.MethodName)) ∈ lw_all := lw_g (lw_at lw_m9 156 rfl) rfl
theorem q2223 : (Jvm.Cond.privateMethod ({ cls := "ChildSaysModel", name := "wording", desc := "()V" } : Jvm.MethodName)) ∈ lw_tbl := lw_at lw_m9 157 rfl
theorem q2224 : (Jvm.Cond.instanceMethod ({ cls := "ChildSaysModel", name := "wording", desc := "()V" } : Jvm.MethodName)) ∈ lw_all := lw_g (lw_at lw_m9 158 rfl) rfl
theorem q2225 : (Jvm.Cond.code ({ cls := "ChildSaysModel", name := "wording", desc := "()V" } : Jvm.MethodName) prog_21_method_24_code (2 : Nat) (Option.none : Option Jvm.ClassFile.FieldType)) ∈ lw_all := lw_g (lw_at lw_m9 159 rfl) rfl
theorem q2226 : (Jvm.Cond.methodLink "ChildSaysModel" (342 : Nat) ({ cls := "ChildSaysModel", name := "counts", desc := "(Z)Z" } : Jvm.MethodName)) ∈ lw_all := lw_g (lw_at lw_m9 160 rfl) rfl
theorem q2227 : (Jvm.Cond.privateMethod ({ cls := "ChildSaysModel", name := "counts", desc := "(Z)Z" } : Jvm.MethodName)) ∈ lw_tbl := lw_at lw_m9 161 rfl
theorem q2228 : (Jvm.Cond.instanceMethod ({ cls := "ChildSaysModel", name := "counts", desc := "(Z)Z" } : Jvm.MethodName)) ∈ lw_all := lw_g (lw_at lw_m9 162 rfl) rfl
theorem q2229 : (Jvm.Cond.code ({ cls := "ChildSaysModel", name := "counts", desc := "(Z)Z" } : Jvm.MethodName) prog_21_method_19_code (2 : Nat) (Option.some Jvm.ClassFile.FieldType.boolean)) ∈ lw_all := lw_g (lw_at lw_m9 163 rfl) rfl
theorem q2230 : (Jvm.Cond.methodLink "ChildSaysModel" (346 : Nat) ({ cls := "ChildSaysModel", name := "fresh", desc := "()J" } : Jvm.MethodName)) ∈ lw_all := lw_g (lw_at lw_m9 164 rfl) rfl
theorem q2231 : (Jvm.Cond.privateMethod ({ cls := "ChildSaysModel", name := "fresh", desc := "()J" } : Jvm.MethodName)) ∈ lw_tbl := lw_at lw_m9 165 rfl
theorem q2232 : (Jvm.Cond.instanceMethod ({ cls := "ChildSaysModel", name := "fresh", desc := "()J" } : Jvm.MethodName)) ∈ lw_all := lw_g (lw_at lw_m9 166 rfl) rfl
theorem q2233 : (Jvm.Cond.code ({ cls := "ChildSaysModel", name := "fresh", desc := "()J" } : Jvm.MethodName) prog_21_method_21_code (3 : Nat) (Option.some Jvm.ClassFile.FieldType.long)) ∈ lw_all := lw_g (lw_at lw_m9 167 rfl) rfl
theorem q2234 : (Jvm.Cond.methodLink "ChildSaysModel" (332 : Nat) ({ cls := "ChildSaysModel", name := "isOwn", desc := "(J)Z" } : Jvm.MethodName)) ∈ lw_all := lw_g (lw_at lw_m9 168 rfl) rfl
theorem q2235 : (Jvm.Cond.privateMethod ({ cls := "ChildSaysModel", name := "isOwn", desc := "(J)Z" } : Jvm.MethodName)) ∈ lw_tbl := lw_at lw_m9 169 rfl
theorem q2236 : (Jvm.Cond.instanceMethod ({ cls := "ChildSaysModel", name := "isOwn", desc := "(J)Z" } : Jvm.MethodName)) ∈ lw_all := lw_g (lw_at lw_m9 170 rfl) rfl
theorem q2237 : (Jvm.Cond.code ({ cls := "ChildSaysModel", name := "isOwn", desc := "(J)Z" } : Jvm.MethodName) prog_21_method_14_code (3 : Nat) (Option.some Jvm.ClassFile.FieldType.boolean)) ∈ lw_all := lw_g (lw_at lw_m9 171 rfl) rfl
theorem q2238 : (Jvm.Cond.constantLong "ChildSaysModel" (284 : Nat) (422607680627 : Int64)) ∈ lw_all := lw_g (lw_at lw_m9 172 rfl) rfl
theorem q2239 : (Jvm.Cond.constantLong "ChildSaysModel" (286 : Nat) (126922548733043 : Int64)) ∈ lw_all := lw_g (lw_at lw_m9 173 rfl) rfl
theorem q2240 : (Jvm.Cond.constantLong "ChildSaysModel" (288 : Nat) (512970880104 : Int64)) ∈ lw_all := lw_g (lw_at lw_m9 174 rfl) rfl
theorem q2241 : (Jvm.Cond.constantLong "ChildSaysModel" (290 : Nat) (474148660594 : Int64)) ∈ lw_all := lw_g (lw_at lw_m9 175 rfl) rfl
theorem q2242 : (Jvm.Cond.constantLong "ChildSaysModel" (292 : Nat) (126943972648308 : Int64)) ∈ lw_all := lw_g (lw_at lw_m9 176 rfl) rfl
theorem q2243 : (Jvm.Cond.constantLong "ChildSaysModel" (294 : Nat) (24947 : Int64)) ∈ lw_all := lw_g (lw_at lw_m9 177 rfl) rfl
theorem q2244 : (Jvm.Cond.constantLong "ChildSaysModel" (296 : Nat) (426953501796 : Int64)) ∈ lw_all := lw_g (lw_at lw_m9 178 rfl) rfl
theorem q2245 : (Jvm.Cond.constantLong "ChildSaysModel" (298 : Nat) (28518 : Int64)) ∈ lw_all := lw_g (lw_at lw_m9 179 rfl) rfl
theorem q2246 : (Jvm.Cond.constantLong "ChildSaysModel" (300 : Nat) (448545973363 : Int64)) ∈ lw_all := lw_g (lw_at lw_m9 180 rfl) rfl
theorem q2247 : (Jvm.Cond.constantLong "ChildSaysModel" (302 : Nat) (7102839 : Int64)) ∈ lw_all := lw_g (lw_at lw_m9 181 rfl) rfl
theorem q2248 : (Jvm.Cond.constantLong "ChildSaysModel" (304 : Nat) (1937075815 : Int64)) ∈ lw_all := lw_g (lw_at lw_m9 182 rfl) rfl
theorem q2249 : (Jvm.Cond.constantLong "ChildSaysModel" (306 : Nat) (1935767923 : Int64)) ∈ lw_all := lw_g (lw_at lw_m9 183 rfl) rfl
theorem q2250 : (Jvm.Cond.constantLong "ChildSaysModel" (308 : Nat) (6452596 : Int64)) ∈ lw_all := lw_g (lw_at lw_m9 184 rfl) rfl
theorem q2251 : (Jvm.Cond.constantLong "ChildSaysModel" (310 : Nat) (1751474532 : Int64)) ∈ lw_all := lw_g (lw_at lw_m9 185 rfl) rfl
theorem q2252 : (Jvm.Cond.constantLong "ChildSaysModel" (312 : Nat) (1835363940 : Int64)) ∈ lw_all := lw_g (lw_at lw_m9 186 rfl) rfl
theorem q2253 : (Jvm.Cond.constantLong "ChildSaysModel" (314 : Nat) (1953853029 : Int64)) ∈ lw_all := lw_g (lw_at lw_m9 187 rfl) rfl
theorem q2254 : (Jvm.Cond.methodLink "ChildSaysModel" (335 : Nat) ({ cls := "ChildSaysModel", name := "named", desc := "(IJ)I" } : Jvm.MethodName)) ∈ lw_all := lw_g (lw_at lw_m9 188 rfl) rfl
theorem q2255 : (Jvm.Cond.privateMethod ({ cls := "ChildSaysModel", name := "named", desc := "(IJ)I" } : Jvm.MethodName)) ∈ lw_tbl := lw_at lw_m9 189 rfl
theorem q2256 : (Jvm.Cond.instanceMethod ({ cls := "ChildSaysModel", name := "named", desc := "(IJ)I" } : Jvm.MethodName)) ∈ lw_all := lw_g (lw_at lw_m9 190 rfl) rfl
theorem q2257 : (Jvm.Cond.code ({ cls := "ChildSaysModel", name := "named", desc := "(IJ)I" } : Jvm.MethodName) prog_21_method_17_code (5 : Nat) (Option.some Jvm.ClassFile.FieldType.int)) ∈ lw_all := lw_g (lw_at lw_m9 191 rfl) rfl
theorem q2258 : (Jvm.Cond.methodLink "ChildSaysModel" (316 : Nat) ({ cls := "ChildSaysModel", name := "manyOf", desc := "(II)I" } : Jvm.MethodName)) ∈ lw_all := lw_g (lw_at lw_m9 192 rfl) rfl
theorem q2259 : (Jvm.Cond.privateMethod ({ cls := "ChildSaysModel", name := "manyOf", desc := "(II)I" } : Jvm.MethodName)) ∈ lw_tbl := lw_at lw_m9 193 rfl
theorem q2260 : (Jvm.Cond.instanceMethod ({ cls := "ChildSaysModel", name := "manyOf", desc := "(II)I" } : Jvm.MethodName)) ∈ lw_all := lw_g (lw_at lw_m9 194 rfl) rfl
theorem q2261 : (Jvm.Cond.code ({ cls := "ChildSaysModel", name := "manyOf", desc := "(II)I" } : Jvm.MethodName) prog_21_method_15_code (3 : Nat) (Option.some Jvm.ClassFile.FieldType.int)) ∈ lw_all := lw_g (lw_at lw_m9 195 rfl) rfl
theorem q2262 : (Jvm.Cond.methodLink "ChildSaysModel" (320 : Nat) ({ cls := "ChildSaysModel", name := "nameOf", desc := "(III)J" } : Jvm.MethodName)) ∈ lw_all := lw_g (lw_at lw_m9 196 rfl) rfl
theorem q2263 : (Jvm.Cond.privateMethod ({ cls := "ChildSaysModel", name := "nameOf", desc := "(III)J" } : Jvm.MethodName)) ∈ lw_tbl := lw_at lw_m9 197 rfl
theorem q2264 : (Jvm.Cond.instanceMethod ({ cls := "ChildSaysModel", name := "nameOf", desc := "(III)J" } : Jvm.MethodName)) ∈ lw_all := lw_g (lw_at lw_m9 198 rfl) rfl
theorem q2265 : (Jvm.Cond.code ({ cls := "ChildSaysModel", name := "nameOf", desc := "(III)J" } : Jvm.MethodName) prog_21_method_16_code (4 : Nat) (Option.some Jvm.ClassFile.FieldType.long)) ∈ lw_all := lw_g (lw_at lw_m9 199 rfl) rfl
theorem q2266 : (Jvm.Cond.methodLink "ChildSaysModel" (350 : Nat) ({ cls := "ChildSaysModel", name := "must", desc := "(J)V" } : Jvm.MethodName)) ∈ lw_all := lw_g (lw_at lw_m9 200 rfl) rfl
theorem q2267 : (Jvm.Cond.privateMethod ({ cls := "ChildSaysModel", name := "must", desc := "(J)V" } : Jvm.MethodName)) ∈ lw_tbl := lw_at lw_m9 201 rfl
theorem q2268 : (Jvm.Cond.instanceMethod ({ cls := "ChildSaysModel", name := "must", desc := "(J)V" } : Jvm.MethodName)) ∈ lw_all := lw_g (lw_at lw_m9 202 rfl) rfl
theorem q2269 : (Jvm.Cond.code ({ cls := "ChildSaysModel", name := "must", desc := "(J)V" } : Jvm.MethodName) prog_21_method_20_code (3 : Nat) (Option.none : Option Jvm.ClassFile.FieldType)) ∈ lw_all := lw_g (lw_at lw_m9 203 rfl) rfl
theorem q2270 : (Jvm.Cond.methodLink "ChildSaysModel" (354 : Nat) ({ cls := "ChildSaysModel", name := "number", desc := "(II)I" } : Jvm.MethodName)) ∈ lw_all := lw_g (lw_at lw_m9 204 rfl) rfl
theorem q2271 : (Jvm.Cond.privateMethod ({ cls := "ChildSaysModel", name := "number", desc := "(II)I" } : Jvm.MethodName)) ∈ lw_tbl := lw_at lw_m9 205 rfl
theorem q2272 : (Jvm.Cond.instanceMethod ({ cls := "ChildSaysModel", name := "number", desc := "(II)I" } : Jvm.MethodName)) ∈ lw_all := lw_g (lw_at lw_m9 206 rfl) rfl
theorem q2273 : (Jvm.Cond.code ({ cls := "ChildSaysModel", name := "number", desc := "(II)I" } : Jvm.MethodName) prog_21_method_18_code (4 : Nat) (Option.some Jvm.ClassFile.FieldType.int)) ∈ lw_all := lw_g (lw_at lw_m9 207 rfl) rfl
theorem q2274 : (Jvm.Cond.methodLink "ChildSaysModel" (324 : Nat) ({ cls := "ChildSaysModel", name := "is", desc := "(III)Z" } : Jvm.MethodName)) ∈ lw_all := lw_g (lw_at lw_m9 208 rfl) rfl
theorem q2275 : (Jvm.Cond.static ({ cls := "ChildSaysModel", name := "is", desc := "(III)Z" } : Jvm.MethodName)) ∈ lw_all := lw_g (lw_at lw_m9 209 rfl) rfl
theorem q2276 : (Jvm.Cond.code ({ cls := "ChildSaysModel", name := "is", desc := "(III)Z" } : Jvm.MethodName) prog_21_method_2_code (3 : Nat) (Option.some Jvm.ClassFile.FieldType.boolean)) ∈ lw_all := lw_g (lw_at lw_m9 210 rfl) rfl
theorem q2277 : (Jvm.Cond.methodLink "ChildSaysModel" (370 : Nat) ({ cls := "ChildSaysModel", name := "streeting", desc := "()V" } : Jvm.MethodName)) ∈ lw_all := lw_g (lw_at lw_m9 211 rfl) rfl
theorem q2278 : (Jvm.Cond.privateMethod ({ cls := "ChildSaysModel", name := "streeting", desc := "()V" } : Jvm.MethodName)) ∈ lw_tbl := lw_at lw_m9 212 rfl
theorem q2279 : (Jvm.Cond.instanceMethod ({ cls := "ChildSaysModel", name := "streeting", desc := "()V" } : Jvm.MethodName)) ∈ lw_all := lw_g (lw_at lw_m9 213 rfl) rfl
theorem q2280 : (Jvm.Cond.code ({ cls := "ChildSaysModel", name := "streeting", desc := "()V" } : Jvm.MethodName) prog_21_method_25_code (4 : Nat) (Option.none : Option Jvm.ClassFile.FieldType)) ∈ lw_all := lw_g (lw_at lw_m9 214 rfl) rfl
theorem q2281 : (Jvm.Cond.methodLink "ChildSaysModel" (339 : Nat) ({ cls := "ChildSaysModel", name := "looked", desc := "(I)I" } : Jvm.MethodName)) ∈ lw_all := lw_g (lw_at lw_m9 215 rfl) rfl
theorem q2282 : (Jvm.Cond.privateMethod ({ cls := "ChildSaysModel", name := "looked", desc := "(I)I" } : Jvm.MethodName)) ∈ lw_tbl := lw_at lw_m9 216 rfl
theorem q2283 : (Jvm.Cond.instanceMethod ({ cls := "ChildSaysModel", name := "looked", desc := "(I)I" } : Jvm.MethodName)) ∈ lw_all := lw_g (lw_at lw_m9 217 rfl) rfl
theorem q2284 : (Jvm.Cond.code ({ cls := "ChildSaysModel", name := "looked", desc := "(I)I" } : Jvm.MethodName) prog_21_method_22_code (3 : Nat) (Option.some Jvm.ClassFile.FieldType.int)) ∈ lw_all := lw_g (lw_at lw_m9 218 rfl) rfl
theorem q2285 : (Jvm.Cond.methodLink "ChildSaysModel" (357 : Nat) ({ cls := "ChildSaysModel", name := "asked", desc := "(I)I" } : Jvm.MethodName)) ∈ lw_all := lw_g (lw_at lw_m9 219 rfl) rfl
theorem q2286 : (Jvm.Cond.privateMethod ({ cls := "ChildSaysModel", name := "asked", desc := "(I)I" } : Jvm.MethodName)) ∈ lw_tbl := lw_at lw_m9 220 rfl
theorem q2287 : (Jvm.Cond.instanceMethod ({ cls := "ChildSaysModel", name := "asked", desc := "(I)I" } : Jvm.MethodName)) ∈ lw_all := lw_g (lw_at lw_m9 221 rfl) rfl
theorem q2288 : (Jvm.Cond.code ({ cls := "ChildSaysModel", name := "asked", desc := "(I)I" } : Jvm.MethodName) prog_21_method_23_code (3 : Nat) (Option.some Jvm.ClassFile.FieldType.int)) ∈ lw_all := lw_g (lw_at lw_m9 222 rfl) rfl
theorem q2289 : (Jvm.Cond.methodLink "ChildSaysModel" (373 : Nat) ({ cls := "ChildSaysModel", name := "childing", desc := "()V" } : Jvm.MethodName)) ∈ lw_all := lw_g (lw_at lw_m9 223 rfl) rfl
theorem q2290 : (Jvm.Cond.privateMethod ({ cls := "ChildSaysModel", name := "childing", desc := "()V" } : Jvm.MethodName)) ∈ lw_tbl := lw_at lw_m9 224 rfl
theorem q2291 : (Jvm.Cond.instanceMethod ({ cls := "ChildSaysModel", name := "childing", desc := "()V" } : Jvm.MethodName)) ∈ lw_all := lw_g (lw_at lw_m9 225 rfl) rfl
theorem q2292 : (Jvm.Cond.code ({ cls := "ChildSaysModel", name := "childing", desc := "()V" } : Jvm.MethodName) prog_21_method_26_code (3 : Nat) (Option.none : Option Jvm.ClassFile.FieldType)) ∈ lw_all := lw_g (lw_at lw_m9 226 rfl) rfl
theorem q2293 : (Jvm.Cond.methodLink "ChildSaysModel" (376 : Nat) ({ cls := "ChildSaysModel", name := "lawing", desc := "()V" } : Jvm.MethodName)) ∈ lw_all := lw_g (lw_at lw_m9 227 rfl) rfl
theorem q2294 : (Jvm.Cond.privateMethod ({ cls := "ChildSaysModel", name := "lawing", desc := "()V" } : Jvm.MethodName)) ∈ lw_tbl := lw_at lw_m9 228 rfl
theorem q2295 : (Jvm.Cond.instanceMethod ({ cls := "ChildSaysModel", name := "lawing", desc := "()V" } : Jvm.MethodName)) ∈ lw_all := lw_g (lw_at lw_m9 229 rfl) rfl
theorem q2296 : (Jvm.Cond.code ({ cls := "ChildSaysModel", name := "lawing", desc := "()V" } : Jvm.MethodName) prog_21_method_29_code (3 : Nat) (Option.none : Option Jvm.ClassFile.FieldType)) ∈ lw_all := lw_g (lw_at lw_m9 230 rfl) rfl
theorem q2297 : (Jvm.Cond.methodLink "ChildSaysModel" (364 : Nat) ({ cls := "ChildSaysModel", name := "rowing", desc := "()V" } : Jvm.MethodName)) ∈ lw_all := lw_g (lw_at lw_m9 231 rfl) rfl
theorem q2298 : (Jvm.Cond.privateMethod ({ cls := "ChildSaysModel", name := "rowing", desc := "()V" } : Jvm.MethodName)) ∈ lw_tbl := lw_at lw_m9 232 rfl
theorem q2299 : (Jvm.Cond.instanceMethod ({ cls := "ChildSaysModel", name := "rowing", desc := "()V" } : Jvm.MethodName)) ∈ lw_all := lw_g (lw_at lw_m9 233 rfl) rfl
theorem q2300 : (Jvm.Cond.code ({ cls := "ChildSaysModel", name := "rowing", desc := "()V" } : Jvm.MethodName) prog_21_method_28_code (2 : Nat) (Option.none : Option Jvm.ClassFile.FieldType)) ∈ lw_all := lw_g (lw_at lw_m9 234 rfl) rfl
theorem q2301 : (Jvm.Cond.methodLink "ChildSaysModel" (360 : Nat) ({ cls := "ChildSaysModel", name := "onePut", desc := "(Z)V" } : Jvm.MethodName)) ∈ lw_all := lw_g (lw_at lw_m9 235 rfl) rfl
theorem q2302 : (Jvm.Cond.privateMethod ({ cls := "ChildSaysModel", name := "onePut", desc := "(Z)V" } : Jvm.MethodName)) ∈ lw_tbl := lw_at lw_m9 236 rfl
theorem q2303 : (Jvm.Cond.instanceMethod ({ cls := "ChildSaysModel", name := "onePut", desc := "(Z)V" } : Jvm.MethodName)) ∈ lw_all := lw_g (lw_at lw_m9 237 rfl) rfl
theorem q2304 : (Jvm.Cond.code ({ cls := "ChildSaysModel", name := "onePut", desc := "(Z)V" } : Jvm.MethodName) prog_21_method_27_code (3 : Nat) (Option.none : Option Jvm.ClassFile.FieldType)) ∈ lw_all := lw_g (lw_at lw_m9 238 rfl) rfl
theorem q2305 : (Jvm.Cond.methodLink "ChildSaysModel" (379 : Nat) ({ cls := "ChildSaysModel", name := "sets", desc := "()V" } : Jvm.MethodName)) ∈ lw_all := lw_g (lw_at lw_m9 239 rfl) rfl
theorem q2306 : (Jvm.Cond.privateMethod ({ cls := "ChildSaysModel", name := "sets", desc := "()V" } : Jvm.MethodName)) ∈ lw_tbl := lw_at lw_m10 0 rfl
theorem q2307 : (Jvm.Cond.instanceMethod ({ cls := "ChildSaysModel", name := "sets", desc := "()V" } : Jvm.MethodName)) ∈ lw_all := lw_g (lw_at lw_m10 1 rfl) rfl
theorem q2308 : (Jvm.Cond.code ({ cls := "ChildSaysModel", name := "sets", desc := "()V" } : Jvm.MethodName) prog_21_method_31_code (4 : Nat) (Option.none : Option Jvm.ClassFile.FieldType)) ∈ lw_all := lw_g (lw_at lw_m10 2 rfl) rfl
theorem q2309 : (Jvm.Cond.methodLink "ChildSaysModel" (390 : Nat) ({ cls := "ChildSaysModel", name := "finishes", desc := "(I)V" } : Jvm.MethodName)) ∈ lw_all := lw_g (lw_at lw_m10 3 rfl) rfl
theorem q2310 : (Jvm.Cond.privateMethod ({ cls := "ChildSaysModel", name := "finishes", desc := "(I)V" } : Jvm.MethodName)) ∈ lw_tbl := lw_at lw_m10 4 rfl
theorem q2311 : (Jvm.Cond.instanceMethod ({ cls := "ChildSaysModel", name := "finishes", desc := "(I)V" } : Jvm.MethodName)) ∈ lw_all := lw_g (lw_at lw_m10 5 rfl) rfl
theorem q2312 : (Jvm.Cond.code ({ cls := "ChildSaysModel", name := "finishes", desc := "(I)V" } : Jvm.MethodName) prog_21_method_32_code (3 : Nat) (Option.none : Option Jvm.ClassFile.FieldType)) ∈ lw_all := lw_g (lw_at lw_m10 6 rfl) rfl
theorem q2313 : (Jvm.Cond.methodLink "ChildSaysModel" (276 : Nat) ({ cls := "ChildSaysModel", name := "isSign", desc := "(I)Z" } : Jvm.MethodName)) ∈ lw_all := lw_g (lw_at lw_m10 7 rfl) rfl
theorem q2314 : (Jvm.Cond.privateMethod ({ cls := "ChildSaysModel", name := "isSign", desc := "(I)Z" } : Jvm.MethodName)) ∈ lw_tbl := lw_at lw_m10 8 rfl
theorem q2315 : (Jvm.Cond.instanceMethod ({ cls := "ChildSaysModel", name := "isSign", desc := "(I)Z" } : Jvm.MethodName)) ∈ lw_all := lw_g (lw_at lw_m10 9 rfl) rfl
theorem q2316 : (Jvm.Cond.code ({ cls := "ChildSaysModel", name := "isSign", desc := "(I)Z" } : Jvm.MethodName) prog_21_method_11_code (2 : Nat) (Option.some Jvm.ClassFile.FieldType.boolean)) ∈ lw_all := lw_g (lw_at lw_m10 10 rfl) rfl
theorem q2317 : (Jvm.Cond.methodLink "ChildSaysModel" (382 : Nat) ({ cls := "ChildSaysModel", name := "must", desc := "(I)V" } : Jvm.MethodName)) ∈ lw_all := lw_g (lw_at lw_m10 11 rfl) rfl
theorem q2318 : (Jvm.Cond.privateMethod ({ cls := "ChildSaysModel", name := "must", desc := "(I)V" } : Jvm.MethodName)) ∈ lw_tbl := lw_at lw_m10 12 rfl
theorem q2319 : (Jvm.Cond.instanceMethod ({ cls := "ChildSaysModel", name := "must", desc := "(I)V" } : Jvm.MethodName)) ∈ lw_all := lw_g (lw_at lw_m10 13 rfl) rfl
theorem q2320 : (Jvm.Cond.code ({ cls := "ChildSaysModel", name := "must", desc := "(I)V" } : Jvm.MethodName) prog_21_method_13_code (2 : Nat) (Option.none : Option Jvm.ClassFile.FieldType)) ∈ lw_all := lw_g (lw_at lw_m10 14 rfl) rfl
theorem q2321 : (Jvm.Cond.methodLink "ChildSaysModel" (393 : Nat) ({ cls := "ChildSaysModel", name := "begin", desc := "()V" } : Jvm.MethodName)) ∈ lw_all := lw_g (lw_at lw_m10 15 rfl) rfl
theorem q2322 : (Jvm.Cond.privateMethod ({ cls := "ChildSaysModel", name := "begin", desc := "()V" } : Jvm.MethodName)) ∈ lw_tbl := lw_at lw_m10 16 rfl
theorem q2323 : (Jvm.Cond.instanceMethod ({ cls := "ChildSaysModel", name := "begin", desc := "()V" } : Jvm.MethodName)) ∈ lw_all := lw_g (lw_at lw_m10 17 rfl) rfl
theorem q2324 : (Jvm.Cond.code ({ cls := "ChildSaysModel", name := "begin", desc := "()V" } : Jvm.MethodName) prog_21_method_44_code (4 : Nat) (Option.none : Option Jvm.ClassFile.FieldType)) ∈ lw_all := lw_g (lw_at lw_m10 18 rfl) rfl
theorem q2325 : (Jvm.Cond.methodLink "ChildSaysLaw" (32 : Nat) ({ cls := "ChildSaysModel", name := "fault", desc := "(I)I" } : Jvm.MethodName)) ∈ lw_all := lw_g (lw_at lw_m10 19 rfl) rfl
theorem q2326 : (Jvm.Cond.instanceMethod ({ cls := "ChildSaysModel", name := "fault", desc := "(I)I" } : Jvm.MethodName)) ∈ lw_all := lw_g (lw_at lw_m10 20 rfl) rfl
theorem q2327 : (Jvm.Cond.selects "ChildSaysModel" ({ cls := "ChildSaysModel", name := "fault", desc := "(I)I" } : Jvm.MethodName) ({ cls := "ChildSaysModel", name := "fault", desc := "(I)I" } : Jvm.MethodName)) ∈ lw_all := lw_g (lw_at lw_m10 21 rfl) rfl
theorem q2328 : (Jvm.Cond.code ({ cls := "ChildSaysModel", name := "fault", desc := "(I)I" } : Jvm.MethodName) prog_21_method_35_code (2 : Nat) (Option.some Jvm.ClassFile.FieldType.int)) ∈ lw_all := lw_g (lw_at lw_m10 22 rfl) rfl
theorem q2329 : (Jvm.Cond.methodLink "ChildSaysLaw" (191 : Nat) ({ cls := "ChildSaysModel", name := "status", desc := "(I)I" } : Jvm.MethodName)) ∈ lw_all := lw_g (lw_at lw_m10 23 rfl) rfl
theorem q2330 : (Jvm.Cond.instanceMethod ({ cls := "ChildSaysModel", name := "status", desc := "(I)I" } : Jvm.MethodName)) ∈ lw_all := lw_g (lw_at lw_m10 24 rfl) rfl
theorem q2331 : (Jvm.Cond.selects "ChildSaysModel" ({ cls := "ChildSaysModel", name := "status", desc := "(I)I" } : Jvm.MethodName) ({ cls := "ChildSaysModel", name := "status", desc := "(I)I" } : Jvm.MethodName)) ∈ lw_all := lw_g (lw_at lw_m10 25 rfl) rfl
theorem q2332 : (Jvm.Cond.code ({ cls := "ChildSaysModel", name := "status", desc := "(I)I" } : Jvm.MethodName) prog_21_method_37_code (2 : Nat) (Option.some Jvm.ClassFile.FieldType.int)) ∈ lw_all := lw_g (lw_at lw_m10 26 rfl) rfl
theorem q2333 : (Jvm.Cond.methodLink "ChildSaysLaw" (110 : Nat) ({ cls := "ChildSaysModel", name := "undo", desc := "()Z" } : Jvm.MethodName)) ∈ lw_all := lw_g (lw_at lw_m10 27 rfl) rfl
theorem q2334 : (Jvm.Cond.instanceMethod ({ cls := "ChildSaysModel", name := "undo", desc := "()Z" } : Jvm.MethodName)) ∈ lw_all := lw_g (lw_at lw_m10 28 rfl) rfl
theorem q2335 : (Jvm.Cond.selects "ChildSaysModel" ({ cls := "ChildSaysModel", name := "undo", desc := "()Z" } : Jvm.MethodName) ({ cls := "ChildSaysModel", name := "undo", desc := "()Z" } : Jvm.MethodName)) ∈ lw_all := lw_g (lw_at lw_m10 29 rfl) rfl
theorem q2336 : (Jvm.Cond.code ({ cls := "ChildSaysModel", name := "undo", desc := "()Z" } : Jvm.MethodName) prog_21_method_47_code (1 : Nat) (Option.some Jvm.ClassFile.FieldType.boolean)) ∈ lw_all := lw_g (lw_at lw_m10 30 rfl) rfl
theorem q2337 : (Jvm.Cond.methodLink "ChildSaysModel" (403 : Nat) ({ cls := "ChildSaysModel", name := "ring", desc := "(I)I" } : Jvm.MethodName)) ∈ lw_all := lw_g (lw_at lw_m10 31 rfl) rfl
theorem q2338 : (Jvm.Cond.privateMethod ({ cls := "ChildSaysModel", name := "ring", desc := "(I)I" } : Jvm.MethodName)) ∈ lw_tbl := lw_at lw_m10 32 rfl
theorem q2339 : (Jvm.Cond.instanceMethod ({ cls := "ChildSaysModel", name := "ring", desc := "(I)I" } : Jvm.MethodName)) ∈ lw_all := lw_g (lw_at lw_m10 33 rfl) rfl
theorem q2340 : (Jvm.Cond.code ({ cls := "ChildSaysModel", name := "ring", desc := "(I)I" } : Jvm.MethodName) prog_21_method_45_code (2 : Nat) (Option.some Jvm.ClassFile.FieldType.int)) ∈ lw_all := lw_g (lw_at lw_m10 34 rfl) rfl
theorem q2341 : (Jvm.Cond.methodLink "ChildSaysModel" (406 : Nat) ({ cls := "ChildSaysModel", name := "copies", desc := "(II)V" } : Jvm.MethodName)) ∈ lw_all := lw_g (lw_at lw_m10 35 rfl) rfl
theorem q2342 : (Jvm.Cond.privateMethod ({ cls := "ChildSaysModel", name := "copies", desc := "(II)V" } : Jvm.MethodName)) ∈ lw_tbl := lw_at lw_m10 36 rfl
theorem q2343 : (Jvm.Cond.instanceMethod ({ cls := "ChildSaysModel", name := "copies", desc := "(II)V" } : Jvm.MethodName)) ∈ lw_all := lw_g (lw_at lw_m10 37 rfl) rfl
theorem q2344 : (Jvm.Cond.code ({ cls := "ChildSaysModel", name := "copies", desc := "(II)V" } : Jvm.MethodName) prog_21_method_43_code (7 : Nat) (Option.none : Option Jvm.ClassFile.FieldType)) ∈ lw_all := lw_g (lw_at lw_m10 38 rfl) rfl
theorem q2345 : (Jvm.Cond.methodLink "ChildSaysLaw" (62 : Nat) ({ cls := "ChildSaysModel", name := "alike", desc := "(II)I" } : Jvm.MethodName)) ∈ lw_all := lw_g (lw_at lw_m10 39 rfl) rfl
theorem q2346 : (Jvm.Cond.instanceMethod ({ cls := "ChildSaysModel", name := "alike", desc := "(II)I" } : Jvm.MethodName)) ∈ lw_all := lw_g (lw_at lw_m10 40 rfl) rfl
theorem q2347 : (Jvm.Cond.selects "ChildSaysModel" ({ cls := "ChildSaysModel", name := "alike", desc := "(II)I" } : Jvm.MethodName) ({ cls := "ChildSaysModel", name := "alike", desc := "(II)I" } : Jvm.MethodName)) ∈ lw_all := lw_g (lw_at lw_m10 41 rfl) rfl
theorem q2348 : (Jvm.Cond.code ({ cls := "ChildSaysModel", name := "alike", desc := "(II)I" } : Jvm.MethodName) prog_21_method_49_code (3 : Nat) (Option.some Jvm.ClassFile.FieldType.int)) ∈ lw_all := lw_g (lw_at lw_m10 42 rfl) rfl
theorem q2349 : (Jvm.Cond.methodLink "ChildSaysModel" (409 : Nat) ({ cls := "ChildSaysModel", name := "isWordOf", desc := "(I)Z" } : Jvm.MethodName)) ∈ lw_all := lw_g (lw_at lw_m10 43 rfl) rfl
theorem q2350 : (Jvm.Cond.privateMethod ({ cls := "ChildSaysModel", name := "isWordOf", desc := "(I)Z" } : Jvm.MethodName)) ∈ lw_tbl := lw_at lw_m10 44 rfl
theorem q2351 : (Jvm.Cond.instanceMethod ({ cls := "ChildSaysModel", name := "isWordOf", desc := "(I)Z" } : Jvm.MethodName)) ∈ lw_all := lw_g (lw_at lw_m10 45 rfl) rfl
theorem q2352 : (Jvm.Cond.code ({ cls := "ChildSaysModel", name := "isWordOf", desc := "(I)Z" } : Jvm.MethodName) prog_21_method_40_code (2 : Nat) (Option.some Jvm.ClassFile.FieldType.boolean)) ∈ lw_all := lw_g (lw_at lw_m10 46 rfl) rfl
theorem q2353 : (Jvm.Cond.methodLink "ChildSaysModel" (412 : Nat) ({ cls := "ChildSaysModel", name := "likes", desc := "(II)I" } : Jvm.MethodName)) ∈ lw_all := lw_g (lw_at lw_m10 47 rfl) rfl
theorem q2354 : (Jvm.Cond.privateMethod ({ cls := "ChildSaysModel", name := "likes", desc := "(II)I" } : Jvm.MethodName)) ∈ lw_tbl := lw_at lw_m10 48 rfl
theorem q2355 : (Jvm.Cond.instanceMethod ({ cls := "ChildSaysModel", name := "likes", desc := "(II)I" } : Jvm.MethodName)) ∈ lw_all := lw_g (lw_at lw_m10 49 rfl) rfl
theorem q2356 : (Jvm.Cond.code ({ cls := "ChildSaysModel", name := "likes", desc := "(II)I" } : Jvm.MethodName) prog_21_method_48_code (5 : Nat) (Option.some Jvm.ClassFile.FieldType.int)) ∈ lw_all := lw_g (lw_at lw_m10 50 rfl) rfl
theorem q2357 : (Jvm.Cond.methodLink "ChildSaysLaw" (67 : Nat) ({ cls := "ChildSaysModel", name := "hears", desc := "(IIZ)I" } : Jvm.MethodName)) ∈ lw_all := lw_g (lw_at lw_m10 51 rfl) rfl
theorem q2358 : (Jvm.Cond.instanceMethod ({ cls := "ChildSaysModel", name := "hears", desc := "(IIZ)I" } : Jvm.MethodName)) ∈ lw_all := lw_g (lw_at lw_m10 52 rfl) rfl
theorem q2359 : (Jvm.Cond.selects "ChildSaysModel" ({ cls := "ChildSaysModel", name := "hears", desc := "(IIZ)I" } : Jvm.MethodName) ({ cls := "ChildSaysModel", name := "hears", desc := "(IIZ)I" } : Jvm.MethodName)) ∈ lw_all := lw_g (lw_at lw_m10 53 rfl) rfl
theorem q2360 : (Jvm.Cond.code ({ cls := "ChildSaysModel", name := "hears", desc := "(IIZ)I" } : Jvm.MethodName) prog_21_method_53_code (4 : Nat) (Option.some Jvm.ClassFile.FieldType.int)) ∈ lw_all := lw_g (lw_at lw_m10 54 rfl) rfl
theorem q2361 : (Jvm.Cond.methodLink "ChildSaysModel" (420 : Nat) ({ cls := "ChildSaysModel", name := "isChild", desc := "(I)Z" } : Jvm.MethodName)) ∈ lw_all := lw_g (lw_at lw_m10 55 rfl) rfl
theorem q2362 : (Jvm.Cond.privateMethod ({ cls := "ChildSaysModel", name := "isChild", desc := "(I)Z" } : Jvm.MethodName)) ∈ lw_tbl := lw_at lw_m10 56 rfl
theorem q2363 : (Jvm.Cond.instanceMethod ({ cls := "ChildSaysModel", name := "isChild", desc := "(I)Z" } : Jvm.MethodName)) ∈ lw_all := lw_g (lw_at lw_m10 57 rfl) rfl
theorem q2364 : (Jvm.Cond.code ({ cls := "ChildSaysModel", name := "isChild", desc := "(I)Z" } : Jvm.MethodName) prog_21_method_39_code (2 : Nat) (Option.some Jvm.ClassFile.FieldType.boolean)) ∈ lw_all := lw_g (lw_at lw_m10 58 rfl) rfl
theorem q2365 : (Jvm.Cond.methodLink "ChildSaysModel" (423 : Nat) ({ cls := "ChildSaysModel", name := "saidBy", desc := "(II)I" } : Jvm.MethodName)) ∈ lw_all := lw_g (lw_at lw_m10 59 rfl) rfl
theorem q2366 : (Jvm.Cond.privateMethod ({ cls := "ChildSaysModel", name := "saidBy", desc := "(II)I" } : Jvm.MethodName)) ∈ lw_tbl := lw_at lw_m10 60 rfl
theorem q2367 : (Jvm.Cond.instanceMethod ({ cls := "ChildSaysModel", name := "saidBy", desc := "(II)I" } : Jvm.MethodName)) ∈ lw_all := lw_g (lw_at lw_m10 61 rfl) rfl
theorem q2368 : (Jvm.Cond.code ({ cls := "ChildSaysModel", name := "saidBy", desc := "(II)I" } : Jvm.MethodName) prog_21_method_52_code (7 : Nat) (Option.some Jvm.ClassFile.FieldType.int)) ∈ lw_all := lw_g (lw_at lw_m10 62 rfl) rfl
theorem q2369 : (Jvm.Cond.methodLink "ChildSaysModel" (415 : Nat) ({ cls := "ChildSaysModel", name := "heardBy", desc := "(II)I" } : Jvm.MethodName)) ∈ lw_all := lw_g (lw_at lw_m10 63 rfl) rfl
theorem q2370 : (Jvm.Cond.privateMethod ({ cls := "ChildSaysModel", name := "heardBy", desc := "(II)I" } : Jvm.MethodName)) ∈ lw_tbl := lw_at lw_m10 64 rfl
theorem q2371 : (Jvm.Cond.instanceMethod ({ cls := "ChildSaysModel", name := "heardBy", desc := "(II)I" } : Jvm.MethodName)) ∈ lw_all := lw_g (lw_at lw_m10 65 rfl) rfl
theorem q2372 : (Jvm.Cond.code ({ cls := "ChildSaysModel", name := "heardBy", desc := "(II)I" } : Jvm.MethodName) prog_21_method_50_code (4 : Nat) (Option.some Jvm.ClassFile.FieldType.int)) ∈ lw_all := lw_g (lw_at lw_m10 66 rfl) rfl
theorem q2373 : (Jvm.Cond.methodLink "ChildSaysModel" (418 : Nat) ({ cls := "ChildSaysModel", name := "knows", desc := "(II)Z" } : Jvm.MethodName)) ∈ lw_all := lw_g (lw_at lw_m10 67 rfl) rfl
theorem q2374 : (Jvm.Cond.privateMethod ({ cls := "ChildSaysModel", name := "knows", desc := "(II)Z" } : Jvm.MethodName)) ∈ lw_tbl := lw_at lw_m10 68 rfl
theorem q2375 : (Jvm.Cond.instanceMethod ({ cls := "ChildSaysModel", name := "knows", desc := "(II)Z" } : Jvm.MethodName)) ∈ lw_all := lw_g (lw_at lw_m10 69 rfl) rfl
theorem q2376 : (Jvm.Cond.code ({ cls := "ChildSaysModel", name := "knows", desc := "(II)Z" } : Jvm.MethodName) prog_21_method_51_code (3 : Nat) (Option.some Jvm.ClassFile.FieldType.boolean)) ∈ lw_all := lw_g (lw_at lw_m10 70 rfl) rfl
theorem q2377 : (Jvm.Cond.methodLink "ChildSaysLaw" (71 : Nat) ({ cls := "ChildSaysModel", name := "says", desc := "(III)I" } : Jvm.MethodName)) ∈ lw_all := lw_g (lw_at lw_m10 71 rfl) rfl
theorem q2378 : (Jvm.Cond.instanceMethod ({ cls := "ChildSaysModel", name := "says", desc := "(III)I" } : Jvm.MethodName)) ∈ lw_all := lw_g (lw_at lw_m10 72 rfl) rfl
theorem q2379 : (Jvm.Cond.selects "ChildSaysModel" ({ cls := "ChildSaysModel", name := "says", desc := "(III)I" } : Jvm.MethodName) ({ cls := "ChildSaysModel", name := "says", desc := "(III)I" } : Jvm.MethodName)) ∈ lw_all := lw_g (lw_at lw_m10 73 rfl) rfl
theorem q2380 : (Jvm.Cond.code ({ cls := "ChildSaysModel", name := "says", desc := "(III)I" } : Jvm.MethodName) prog_21_method_57_code (4 : Nat) (Option.some Jvm.ClassFile.FieldType.int)) ∈ lw_all := lw_g (lw_at lw_m10 74 rfl) rfl
theorem q2381 : (Jvm.Cond.methodLink "ChildSaysModel" (429 : Nat) ({ cls := "ChildSaysModel", name := "isStanding", desc := "(I)Z" } : Jvm.MethodName)) ∈ lw_all := lw_g (lw_at lw_m10 75 rfl) rfl
theorem q2382 : (Jvm.Cond.privateMethod ({ cls := "ChildSaysModel", name := "isStanding", desc := "(I)Z" } : Jvm.MethodName)) ∈ lw_tbl := lw_at lw_m10 76 rfl
theorem q2383 : (Jvm.Cond.instanceMethod ({ cls := "ChildSaysModel", name := "isStanding", desc := "(I)Z" } : Jvm.MethodName)) ∈ lw_all := lw_g (lw_at lw_m10 77 rfl) rfl
theorem q2384 : (Jvm.Cond.code ({ cls := "ChildSaysModel", name := "isStanding", desc := "(I)Z" } : Jvm.MethodName) prog_21_method_42_code (2 : Nat) (Option.some Jvm.ClassFile.FieldType.boolean)) ∈ lw_all := lw_g (lw_at lw_m10 78 rfl) rfl
theorem q2385 : (Jvm.Cond.methodLink "ChildSaysModel" (396 : Nat) ({ cls := "ChildSaysModel", name := "isLaw", desc := "(I)Z" } : Jvm.MethodName)) ∈ lw_all := lw_g (lw_at lw_m10 79 rfl) rfl
theorem q2386 : (Jvm.Cond.privateMethod ({ cls := "ChildSaysModel", name := "isLaw", desc := "(I)Z" } : Jvm.MethodName)) ∈ lw_tbl := lw_at lw_m10 80 rfl
theorem q2387 : (Jvm.Cond.instanceMethod ({ cls := "ChildSaysModel", name := "isLaw", desc := "(I)Z" } : Jvm.MethodName)) ∈ lw_all := lw_g (lw_at lw_m10 81 rfl) rfl
theorem q2388 : (Jvm.Cond.code ({ cls := "ChildSaysModel", name := "isLaw", desc := "(I)Z" } : Jvm.MethodName) prog_21_method_38_code (2 : Nat) (Option.some Jvm.ClassFile.FieldType.boolean)) ∈ lw_all := lw_g (lw_at lw_m10 82 rfl) rfl
theorem q2389 : (Jvm.Cond.methodLink "ChildSaysModel" (399 : Nat) ({ cls := "ChildSaysModel", name := "stands", desc := "(II)Z" } : Jvm.MethodName)) ∈ lw_all := lw_g (lw_at lw_m10 83 rfl) rfl
theorem q2390 : (Jvm.Cond.privateMethod ({ cls := "ChildSaysModel", name := "stands", desc := "(II)Z" } : Jvm.MethodName)) ∈ lw_tbl := lw_at lw_m10 84 rfl
theorem q2391 : (Jvm.Cond.instanceMethod ({ cls := "ChildSaysModel", name := "stands", desc := "(II)Z" } : Jvm.MethodName)) ∈ lw_all := lw_g (lw_at lw_m10 85 rfl) rfl
theorem q2392 : (Jvm.Cond.code ({ cls := "ChildSaysModel", name := "stands", desc := "(II)Z" } : Jvm.MethodName) prog_21_method_41_code (3 : Nat) (Option.some Jvm.ClassFile.FieldType.boolean)) ∈ lw_all := lw_g (lw_at lw_m10 86 rfl) rfl
theorem q2393 : (Jvm.Cond.methodLink "ChildSaysModel" (432 : Nat) ({ cls := "ChildSaysModel", name := "loads", desc := "(II)V" } : Jvm.MethodName)) ∈ lw_all := lw_g (lw_at lw_m10 87 rfl) rfl
theorem q2394 : (Jvm.Cond.privateMethod ({ cls := "ChildSaysModel", name := "loads", desc := "(II)V" } : Jvm.MethodName)) ∈ lw_tbl := lw_at lw_m10 88 rfl
theorem q2395 : (Jvm.Cond.instanceMethod ({ cls := "ChildSaysModel", name := "loads", desc := "(II)V" } : Jvm.MethodName)) ∈ lw_all := lw_g (lw_at lw_m10 89 rfl) rfl
theorem q2396 : (Jvm.Cond.code ({ cls := "ChildSaysModel", name := "loads", desc := "(II)V" } : Jvm.MethodName) prog_21_method_54_code (5 : Nat) (Option.none : Option Jvm.ClassFile.FieldType)) ∈ lw_all := lw_g (lw_at lw_m10 90 rfl) rfl
theorem q2397 : (Jvm.Cond.methodLink "ChildSaysModel" (435 : Nat) ({ cls := "ChildSaysModel", name := "utters", desc := "(I)V" } : Jvm.MethodName)) ∈ lw_all := lw_g (lw_at lw_m10 91 rfl) rfl
theorem q2398 : (Jvm.Cond.privateMethod ({ cls := "ChildSaysModel", name := "utters", desc := "(I)V" } : Jvm.MethodName)) ∈ lw_tbl := lw_at lw_m10 92 rfl
theorem q2399 : (Jvm.Cond.instanceMethod ({ cls := "ChildSaysModel", name := "utters", desc := "(I)V" } : Jvm.MethodName)) ∈ lw_all := lw_g (lw_at lw_m10 93 rfl) rfl
theorem q2400 : (Jvm.Cond.code ({ cls := "ChildSaysModel", name := "utters", desc := "(I)V" } : Jvm.MethodName) prog_21_method_56_code (7 : Nat) (Option.none : Option Jvm.ClassFile.FieldType)) ∈ lw_all := lw_g (lw_at lw_m10 94 rfl) rfl
theorem q2401 : (Jvm.Cond.methodLink "ChildSaysModel" (426 : Nat) ({ cls := "ChildSaysModel", name := "costs", desc := "(II)I" } : Jvm.MethodName)) ∈ lw_all := lw_g (lw_at lw_m10 95 rfl) rfl
theorem q2402 : (Jvm.Cond.privateMethod ({ cls := "ChildSaysModel", name := "costs", desc := "(II)I" } : Jvm.MethodName)) ∈ lw_tbl := lw_at lw_m10 96 rfl
theorem q2403 : (Jvm.Cond.instanceMethod ({ cls := "ChildSaysModel", name := "costs", desc := "(II)I" } : Jvm.MethodName)) ∈ lw_all := lw_g (lw_at lw_m10 97 rfl) rfl
theorem q2404 : (Jvm.Cond.code ({ cls := "ChildSaysModel", name := "costs", desc := "(II)I" } : Jvm.MethodName) prog_21_method_55_code (4 : Nat) (Option.some Jvm.ClassFile.FieldType.int)) ∈ lw_all := lw_g (lw_at lw_m10 98 rfl) rfl
theorem q2405 : (Jvm.Cond.methodLink "ChildSaysLaw" (75 : Nat) ({ cls := "ChildSaysModel", name := "sits", desc := "(III)I" } : Jvm.MethodName)) ∈ lw_all := lw_g (lw_at lw_m10 99 rfl) rfl
theorem q2406 : (Jvm.Cond.instanceMethod ({ cls := "ChildSaysModel", name := "sits", desc := "(III)I" } : Jvm.MethodName)) ∈ lw_all := lw_g (lw_at lw_m10 100 rfl) rfl
theorem q2407 : (Jvm.Cond.selects "ChildSaysModel" ({ cls := "ChildSaysModel", name := "sits", desc := "(III)I" } : Jvm.MethodName) ({ cls := "ChildSaysModel", name := "sits", desc := "(III)I" } : Jvm.MethodName)) ∈ lw_all := lw_g (lw_at lw_m10 101 rfl) rfl
theorem q2408 : (Jvm.Cond.code ({ cls := "ChildSaysModel", name := "sits", desc := "(III)I" } : Jvm.MethodName) prog_21_method_62_code (5 : Nat) (Option.some Jvm.ClassFile.FieldType.int)) ∈ lw_all := lw_g (lw_at lw_m10 102 rfl) rfl
theorem q2409 : (Jvm.Cond.methodLink "ChildSaysModel" (447 : Nat) ({ cls := "ChildSaysModel", name := "sitsNow", desc := "(I)Z" } : Jvm.MethodName)) ∈ lw_all := lw_g (lw_at lw_m10 103 rfl) rfl
theorem q2410 : (Jvm.Cond.privateMethod ({ cls := "ChildSaysModel", name := "sitsNow", desc := "(I)Z" } : Jvm.MethodName)) ∈ lw_tbl := lw_at lw_m10 104 rfl
theorem q2411 : (Jvm.Cond.instanceMethod ({ cls := "ChildSaysModel", name := "sitsNow", desc := "(I)Z" } : Jvm.MethodName)) ∈ lw_all := lw_g (lw_at lw_m10 105 rfl) rfl
theorem q2412 : (Jvm.Cond.code ({ cls := "ChildSaysModel", name := "sitsNow", desc := "(I)Z" } : Jvm.MethodName) prog_21_method_61_code (2 : Nat) (Option.some Jvm.ClassFile.FieldType.boolean)) ∈ lw_all := lw_g (lw_at lw_m10 106 rfl) rfl
theorem q2413 : (Jvm.Cond.methodLink "ChildSaysModel" (441 : Nat) ({ cls := "ChildSaysModel", name := "seatsOf", desc := "(I)V" } : Jvm.MethodName)) ∈ lw_all := lw_g (lw_at lw_m10 107 rfl) rfl
theorem q2414 : (Jvm.Cond.privateMethod ({ cls := "ChildSaysModel", name := "seatsOf", desc := "(I)V" } : Jvm.MethodName)) ∈ lw_tbl := lw_at lw_m10 108 rfl
theorem q2415 : (Jvm.Cond.instanceMethod ({ cls := "ChildSaysModel", name := "seatsOf", desc := "(I)V" } : Jvm.MethodName)) ∈ lw_all := lw_g (lw_at lw_m10 109 rfl) rfl
theorem q2416 : (Jvm.Cond.code ({ cls := "ChildSaysModel", name := "seatsOf", desc := "(I)V" } : Jvm.MethodName) prog_21_method_58_code (4 : Nat) (Option.none : Option Jvm.ClassFile.FieldType)) ∈ lw_all := lw_g (lw_at lw_m10 110 rfl) rfl
theorem q2417 : (Jvm.Cond.methodLink "ChildSaysModel" (444 : Nat) ({ cls := "ChildSaysModel", name := "sittingOf", desc := "(II)V" } : Jvm.MethodName)) ∈ lw_all := lw_g (lw_at lw_m10 111 rfl) rfl
theorem q2418 : (Jvm.Cond.privateMethod ({ cls := "ChildSaysModel", name := "sittingOf", desc := "(II)V" } : Jvm.MethodName)) ∈ lw_tbl := lw_at lw_m10 112 rfl
theorem q2419 : (Jvm.Cond.instanceMethod ({ cls := "ChildSaysModel", name := "sittingOf", desc := "(II)V" } : Jvm.MethodName)) ∈ lw_all := lw_g (lw_at lw_m10 113 rfl) rfl
theorem q2420 : (Jvm.Cond.code ({ cls := "ChildSaysModel", name := "sittingOf", desc := "(II)V" } : Jvm.MethodName) prog_21_method_60_code (8 : Nat) (Option.none : Option Jvm.ClassFile.FieldType)) ∈ lw_all := lw_g (lw_at lw_m10 114 rfl) rfl
theorem q2421 : (Jvm.Cond.methodLink "ChildSaysModel" (438 : Nat) ({ cls := "ChildSaysModel", name := "runsInto", desc := "(I)I" } : Jvm.MethodName)) ∈ lw_all := lw_g (lw_at lw_m10 115 rfl) rfl
theorem q2422 : (Jvm.Cond.privateMethod ({ cls := "ChildSaysModel", name := "runsInto", desc := "(I)I" } : Jvm.MethodName)) ∈ lw_tbl := lw_at lw_m10 116 rfl
theorem q2423 : (Jvm.Cond.instanceMethod ({ cls := "ChildSaysModel", name := "runsInto", desc := "(I)I" } : Jvm.MethodName)) ∈ lw_all := lw_g (lw_at lw_m10 117 rfl) rfl
theorem q2424 : (Jvm.Cond.code ({ cls := "ChildSaysModel", name := "runsInto", desc := "(I)I" } : Jvm.MethodName) prog_21_method_59_code (4 : Nat) (Option.some Jvm.ClassFile.FieldType.int)) ∈ lw_all := lw_g (lw_at lw_m10 118 rfl) rfl
theorem q2425 : (Jvm.Cond.methodLink "ChildSaysLaw" (79 : Nat) ({ cls := "ChildSaysModel", name := "sitting", desc := "(II)I" } : Jvm.MethodName)) ∈ lw_all := lw_g (lw_at lw_m10 119 rfl) rfl
theorem q2426 : (Jvm.Cond.instanceMethod ({ cls := "ChildSaysModel", name := "sitting", desc := "(II)I" } : Jvm.MethodName)) ∈ lw_all := lw_g (lw_at lw_m10 120 rfl) rfl
theorem q2427 : (Jvm.Cond.selects "ChildSaysModel" ({ cls := "ChildSaysModel", name := "sitting", desc := "(II)I" } : Jvm.MethodName) ({ cls := "ChildSaysModel", name := "sitting", desc := "(II)I" } : Jvm.MethodName)) ∈ lw_all := lw_g (lw_at lw_m10 121 rfl) rfl
theorem q2428 : (Jvm.Cond.code ({ cls := "ChildSaysModel", name := "sitting", desc := "(II)I" } : Jvm.MethodName) prog_21_method_63_code (5 : Nat) (Option.some Jvm.ClassFile.FieldType.int)) ∈ lw_all := lw_g (lw_at lw_m10 122 rfl) rfl
theorem q2429 : (Jvm.Cond.methodLink "ChildSaysLaw" (83 : Nat) ({ cls := "ChildSaysModel", name := "tell", desc := "(II)I" } : Jvm.MethodName)) ∈ lw_all := lw_g (lw_at lw_m10 123 rfl) rfl
theorem q2430 : (Jvm.Cond.instanceMethod ({ cls := "ChildSaysModel", name := "tell", desc := "(II)I" } : Jvm.MethodName)) ∈ lw_all := lw_g (lw_at lw_m10 124 rfl) rfl
theorem q2431 : (Jvm.Cond.selects "ChildSaysModel" ({ cls := "ChildSaysModel", name := "tell", desc := "(II)I" } : Jvm.MethodName) ({ cls := "ChildSaysModel", name := "tell", desc := "(II)I" } : Jvm.MethodName)) ∈ lw_all := lw_g (lw_at lw_m10 125 rfl) rfl
theorem q2432 : (Jvm.Cond.code ({ cls := "ChildSaysModel", name := "tell", desc := "(II)I" } : Jvm.MethodName) prog_21_method_68_code (4 : Nat) (Option.some Jvm.ClassFile.FieldType.int)) ∈ lw_all := lw_g (lw_at lw_m10 126 rfl) rfl
theorem q2433 : (Jvm.Cond.methodLink "ChildSaysModel" (457 : Nat) ({ cls := "ChildSaysModel", name := "keeps", desc := "()V" } : Jvm.MethodName)) ∈ lw_all := lw_g (lw_at lw_m10 127 rfl) rfl
theorem q2434 : (Jvm.Cond.privateMethod ({ cls := "ChildSaysModel", name := "keeps", desc := "()V" } : Jvm.MethodName)) ∈ lw_tbl := lw_at lw_m10 128 rfl
theorem q2435 : (Jvm.Cond.instanceMethod ({ cls := "ChildSaysModel", name := "keeps", desc := "()V" } : Jvm.MethodName)) ∈ lw_all := lw_g (lw_at lw_m10 129 rfl) rfl
theorem q2436 : (Jvm.Cond.code ({ cls := "ChildSaysModel", name := "keeps", desc := "()V" } : Jvm.MethodName) prog_21_method_46_code (1 : Nat) (Option.none : Option Jvm.ClassFile.FieldType)) ∈ lw_all := lw_g (lw_at lw_m10 130 rfl) rfl
theorem q2437 : (Jvm.Cond.methodLink "ChildSaysModel" (454 : Nat) ({ cls := "ChildSaysModel", name := "becomesSaid", desc := "(IIII)V" } : Jvm.MethodName)) ∈ lw_all := lw_g (lw_at lw_m10 131 rfl) rfl
theorem q2438 : (Jvm.Cond.privateMethod ({ cls := "ChildSaysModel", name := "becomesSaid", desc := "(IIII)V" } : Jvm.MethodName)) ∈ lw_tbl := lw_at lw_m10 132 rfl
theorem q2439 : (Jvm.Cond.instanceMethod ({ cls := "ChildSaysModel", name := "becomesSaid", desc := "(IIII)V" } : Jvm.MethodName)) ∈ lw_all := lw_g (lw_at lw_m10 133 rfl) rfl
theorem q2440 : (Jvm.Cond.code ({ cls := "ChildSaysModel", name := "becomesSaid", desc := "(IIII)V" } : Jvm.MethodName) prog_21_method_65_code (8 : Nat) (Option.none : Option Jvm.ClassFile.FieldType)) ∈ lw_all := lw_g (lw_at lw_m10 134 rfl) rfl
theorem q2441 : (Jvm.Cond.methodLink "ChildSaysModel" (450 : Nat) ({ cls := "ChildSaysModel", name := "notes", desc := "(IIII)V" } : Jvm.MethodName)) ∈ lw_all := lw_g (lw_at lw_m10 135 rfl) rfl
theorem q2442 : (Jvm.Cond.privateMethod ({ cls := "ChildSaysModel", name := "notes", desc := "(IIII)V" } : Jvm.MethodName)) ∈ lw_tbl := lw_at lw_m10 136 rfl
theorem q2443 : (Jvm.Cond.instanceMethod ({ cls := "ChildSaysModel", name := "notes", desc := "(IIII)V" } : Jvm.MethodName)) ∈ lw_all := lw_g (lw_at lw_m10 137 rfl) rfl
theorem q2444 : (Jvm.Cond.code ({ cls := "ChildSaysModel", name := "notes", desc := "(IIII)V" } : Jvm.MethodName) prog_21_method_64_code (6 : Nat) (Option.none : Option Jvm.ClassFile.FieldType)) ∈ lw_all := lw_g (lw_at lw_m10 138 rfl) rfl
theorem q2445 : (Jvm.Cond.methodLink "ChildSaysLaw" (87 : Nat) ({ cls := "ChildSaysModel", name := "anew", desc := "(I)I" } : Jvm.MethodName)) ∈ lw_all := lw_g (lw_at lw_m10 139 rfl) rfl
theorem q2446 : (Jvm.Cond.instanceMethod ({ cls := "ChildSaysModel", name := "anew", desc := "(I)I" } : Jvm.MethodName)) ∈ lw_all := lw_g (lw_at lw_m10 140 rfl) rfl
theorem q2447 : (Jvm.Cond.selects "ChildSaysModel" ({ cls := "ChildSaysModel", name := "anew", desc := "(I)I" } : Jvm.MethodName) ({ cls := "ChildSaysModel", name := "anew", desc := "(I)I" } : Jvm.MethodName)) ∈ lw_all := lw_g (lw_at lw_m10 141 rfl) rfl
theorem q2448 : (Jvm.Cond.code ({ cls := "ChildSaysModel", name := "anew", desc := "(I)I" } : Jvm.MethodName) prog_21_method_69_code (2 : Nat) (Option.some Jvm.ClassFile.FieldType.int)) ∈ lw_all := lw_g (lw_at lw_m10 142 rfl) rfl
theorem q2449 : (Jvm.Cond.methodLink "ChildSaysModel" (460 : Nat) ({ cls := "ChildSaysModel", name := "renews", desc := "(II)V" } : Jvm.MethodName)) ∈ lw_all := lw_g (lw_at lw_m10 143 rfl) rfl
theorem q2450 : (Jvm.Cond.privateMethod ({ cls := "ChildSaysModel", name := "renews", desc := "(II)V" } : Jvm.MethodName)) ∈ lw_tbl := lw_at lw_m10 144 rfl
theorem q2451 : (Jvm.Cond.instanceMethod ({ cls := "ChildSaysModel", name := "renews", desc := "(II)V" } : Jvm.MethodName)) ∈ lw_all := lw_g (lw_at lw_m10 145 rfl) rfl
theorem q2452 : (Jvm.Cond.code ({ cls := "ChildSaysModel", name := "renews", desc := "(II)V" } : Jvm.MethodName) prog_21_method_66_code (6 : Nat) (Option.none : Option Jvm.ClassFile.FieldType)) ∈ lw_all := lw_g (lw_at lw_m10 146 rfl) rfl
theorem q2453 : (Jvm.Cond.methodLink "ChildSaysModel" (463 : Nat) ({ cls := "ChildSaysModel", name := "standing", desc := "(I)I" } : Jvm.MethodName)) ∈ lw_all := lw_g (lw_at lw_m10 147 rfl) rfl
theorem q2454 : (Jvm.Cond.privateMethod ({ cls := "ChildSaysModel", name := "standing", desc := "(I)I" } : Jvm.MethodName)) ∈ lw_tbl := lw_at lw_m10 148 rfl
theorem q2455 : (Jvm.Cond.instanceMethod ({ cls := "ChildSaysModel", name := "standing", desc := "(I)I" } : Jvm.MethodName)) ∈ lw_all := lw_g (lw_at lw_m10 149 rfl) rfl
theorem q2456 : (Jvm.Cond.code ({ cls := "ChildSaysModel", name := "standing", desc := "(I)I" } : Jvm.MethodName) prog_21_method_67_code (4 : Nat) (Option.some Jvm.ClassFile.FieldType.int)) ∈ lw_all := lw_g (lw_at lw_m10 150 rfl) rfl
theorem q2457 : (Jvm.Cond.methodLink "ChildSaysLaw" (91 : Nat) ({ cls := "ChildSaysModel", name := "council", desc := "(I)I" } : Jvm.MethodName)) ∈ lw_all := lw_g (lw_at lw_m10 151 rfl) rfl
theorem q2458 : (Jvm.Cond.instanceMethod ({ cls := "ChildSaysModel", name := "council", desc := "(I)I" } : Jvm.MethodName)) ∈ lw_all := lw_g (lw_at lw_m10 152 rfl) rfl
theorem q2459 : (Jvm.Cond.selects "ChildSaysModel" ({ cls := "ChildSaysModel", name := "council", desc := "(I)I" } : Jvm.MethodName) ({ cls := "ChildSaysModel", name := "council", desc := "(I)I" } : Jvm.MethodName)) ∈ lw_all := lw_g (lw_at lw_m10 153 rfl) rfl
theorem q2460 : (Jvm.Cond.code ({ cls := "ChildSaysModel", name := "council", desc := "(I)I" } : Jvm.MethodName) prog_21_method_70_code (3 : Nat) (Option.some Jvm.ClassFile.FieldType.int)) ∈ lw_all := lw_g (lw_at lw_m10 154 rfl) rfl
theorem q2461 : (Jvm.Cond.methodLink "ChildSaysLaw" (96 : Nat) ({ cls := "ChildSaysModel", name := "sing", desc := "(IZ)Z" } : Jvm.MethodName)) ∈ lw_all := lw_g (lw_at lw_m10 155 rfl) rfl
theorem q2462 : (Jvm.Cond.instanceMethod ({ cls := "ChildSaysModel", name := "sing", desc := "(IZ)Z" } : Jvm.MethodName)) ∈ lw_all := lw_g (lw_at lw_m10 156 rfl) rfl
theorem q2463 : (Jvm.Cond.selects "ChildSaysModel" ({ cls := "ChildSaysModel", name := "sing", desc := "(IZ)Z" } : Jvm.MethodName) ({ cls := "ChildSaysModel", name := "sing", desc := "(IZ)Z" } : Jvm.MethodName)) ∈ lw_all := lw_g (lw_at lw_m10 157 rfl) rfl
theorem q2464 : (Jvm.Cond.code ({ cls := "ChildSaysModel", name := "sing", desc := "(IZ)Z" } : Jvm.MethodName) prog_21_method_71_code (3 : Nat) (Option.some Jvm.ClassFile.FieldType.boolean)) ∈ lw_all := lw_g (lw_at lw_m10 158 rfl) rfl
theorem q2465 : (Jvm.Cond.methodLink "ChildSaysLaw" (101 : Nat) ({ cls := "ChildSaysModel", name := "swap", desc := "(II)Z" } : Jvm.MethodName)) ∈ lw_all := lw_g (lw_at lw_m10 159 rfl) rfl
theorem q2466 : (Jvm.Cond.instanceMethod ({ cls := "ChildSaysModel", name := "swap", desc := "(II)Z" } : Jvm.MethodName)) ∈ lw_all := lw_g (lw_at lw_m10 160 rfl) rfl
theorem q2467 : (Jvm.Cond.selects "ChildSaysModel" ({ cls := "ChildSaysModel", name := "swap", desc := "(II)Z" } : Jvm.MethodName) ({ cls := "ChildSaysModel", name := "swap", desc := "(II)Z" } : Jvm.MethodName)) ∈ lw_all := lw_g (lw_at lw_m10 161 rfl) rfl
theorem q2468 : (Jvm.Cond.code ({ cls := "ChildSaysModel", name := "swap", desc := "(II)Z" } : Jvm.MethodName) prog_21_method_72_code (4 : Nat) (Option.some Jvm.ClassFile.FieldType.boolean)) ∈ lw_all := lw_g (lw_at lw_m10 162 rfl) rfl
theorem q2469 : (Jvm.Cond.methodLink "ChildSaysLaw" (105 : Nat) ({ cls := "ChildSaysModel", name := "years", desc := "(I)I" } : Jvm.MethodName)) ∈ lw_all := lw_g (lw_at lw_m10 163 rfl) rfl
theorem q2470 : (Jvm.Cond.instanceMethod ({ cls := "ChildSaysModel", name := "years", desc := "(I)I" } : Jvm.MethodName)) ∈ lw_all := lw_g (lw_at lw_m10 164 rfl) rfl
theorem q2471 : (Jvm.Cond.selects "ChildSaysModel" ({ cls := "ChildSaysModel", name := "years", desc := "(I)I" } : Jvm.MethodName) ({ cls := "ChildSaysModel", name := "years", desc := "(I)I" } : Jvm.MethodName)) ∈ lw_all := lw_g (lw_at lw_m10 165 rfl) rfl
theorem q2472 : (Jvm.Cond.code ({ cls := "ChildSaysModel", name := "years", desc := "(I)I" } : Jvm.MethodName) prog_21_method_75_code (3 : Nat) (Option.some Jvm.ClassFile.FieldType.int)) ∈ lw_all := lw_g (lw_at lw_m10 166 rfl) rfl
theorem q2473 : (Jvm.Cond.methodLink "ChildSaysModel" (477 : Nat) ({ cls := "ChildSaysModel", name := "yearGoes", desc := "(I)V" } : Jvm.MethodName)) ∈ lw_all := lw_g (lw_at lw_m10 167 rfl) rfl
theorem q2474 : (Jvm.Cond.privateMethod ({ cls := "ChildSaysModel", name := "yearGoes", desc := "(I)V" } : Jvm.MethodName)) ∈ lw_tbl := lw_at lw_m10 168 rfl
theorem q2475 : (Jvm.Cond.instanceMethod ({ cls := "ChildSaysModel", name := "yearGoes", desc := "(I)V" } : Jvm.MethodName)) ∈ lw_all := lw_g (lw_at lw_m10 169 rfl) rfl
theorem q2476 : (Jvm.Cond.code ({ cls := "ChildSaysModel", name := "yearGoes", desc := "(I)V" } : Jvm.MethodName) prog_21_method_74_code (2 : Nat) (Option.none : Option Jvm.ClassFile.FieldType)) ∈ lw_all := lw_g (lw_at lw_m10 170 rfl) rfl
theorem q2477 : (Jvm.Cond.methodLink "ChildSaysModel" (474 : Nat) ({ cls := "ChildSaysModel", name := "draw", desc := "(I)I" } : Jvm.MethodName)) ∈ lw_all := lw_g (lw_at lw_m10 171 rfl) rfl
theorem q2478 : (Jvm.Cond.privateMethod ({ cls := "ChildSaysModel", name := "draw", desc := "(I)I" } : Jvm.MethodName)) ∈ lw_tbl := lw_at lw_m10 172 rfl
theorem q2479 : (Jvm.Cond.instanceMethod ({ cls := "ChildSaysModel", name := "draw", desc := "(I)I" } : Jvm.MethodName)) ∈ lw_all := lw_g (lw_at lw_m10 173 rfl) rfl
theorem q2480 : (Jvm.Cond.code ({ cls := "ChildSaysModel", name := "draw", desc := "(I)I" } : Jvm.MethodName) prog_21_method_73_code (2 : Nat) (Option.some Jvm.ClassFile.FieldType.int)) ∈ lw_all := lw_g (lw_at lw_m10 174 rfl) rfl
theorem q2481 : (Jvm.Cond.constantLong "ChildSaysModel" (466 : Nat) (1103515245 : Int64)) ∈ lw_all := lw_g (lw_at lw_m10 175 rfl) rfl
theorem q2482 : (Jvm.Cond.constantLong "ChildSaysModel" (468 : Nat) (12345 : Int64)) ∈ lw_all := lw_g (lw_at lw_m10 176 rfl) rfl
theorem q2483 : (Jvm.Cond.constantLong "ChildSaysModel" (470 : Nat) (2147483648 : Int64)) ∈ lw_all := lw_g (lw_at lw_m10 177 rfl) rfl
theorem q2484 : (Jvm.Cond.constantLong "ChildSaysModel" (472 : Nat) (64 : Int64)) ∈ lw_all := lw_g (lw_at lw_m10 178 rfl) rfl
theorem q2485 : (Jvm.Cond.methodLink "ChildSaysLaw" (114 : Nat) ({ cls := "ChildSaysModel", name := "seed", desc := "(I)Z" } : Jvm.MethodName)) ∈ lw_all := lw_g (lw_at lw_m10 179 rfl) rfl
theorem q2486 : (Jvm.Cond.instanceMethod ({ cls := "ChildSaysModel", name := "seed", desc := "(I)Z" } : Jvm.MethodName)) ∈ lw_all := lw_g (lw_at lw_m10 180 rfl) rfl
theorem q2487 : (Jvm.Cond.selects "ChildSaysModel" ({ cls := "ChildSaysModel", name := "seed", desc := "(I)Z" } : Jvm.MethodName) ({ cls := "ChildSaysModel", name := "seed", desc := "(I)Z" } : Jvm.MethodName)) ∈ lw_all := lw_g (lw_at lw_m10 181 rfl) rfl
theorem q2488 : (Jvm.Cond.code ({ cls := "ChildSaysModel", name := "seed", desc := "(I)Z" } : Jvm.MethodName) prog_21_method_76_code (2 : Nat) (Option.some Jvm.ClassFile.FieldType.boolean)) ∈ lw_all := lw_g (lw_at lw_m10 182 rfl) rfl
theorem q2489 : (Jvm.Cond.methodLink "ChildSaysLaw" (118 : Nat) ({ cls := "ChildSaysModel", name := "book", desc := "(II)I" } : Jvm.MethodName)) ∈ lw_all := lw_g (lw_at lw_m10 183 rfl) rfl
theorem q2490 : (Jvm.Cond.instanceMethod ({ cls := "ChildSaysModel", name := "book", desc := "(II)I" } : Jvm.MethodName)) ∈ lw_all := lw_g (lw_at lw_m10 184 rfl) rfl
theorem q2491 : (Jvm.Cond.selects "ChildSaysModel" ({ cls := "ChildSaysModel", name := "book", desc := "(II)I" } : Jvm.MethodName) ({ cls := "ChildSaysModel", name := "book", desc := "(II)I" } : Jvm.MethodName)) ∈ lw_all := lw_g (lw_at lw_m10 185 rfl) rfl
theorem q2492 : (Jvm.Cond.code ({ cls := "ChildSaysModel", name := "book", desc := "(II)I" } : Jvm.MethodName) prog_21_method_77_code (3 : Nat) (Option.some Jvm.ClassFile.FieldType.int)) ∈ lw_all := lw_g (lw_at lw_m10 186 rfl) rfl
theorem q2493 : (Jvm.Cond.methodLink "ChildSaysLaw" (36 : Nat) ({ cls := "ChildSaysModel", name := "has", desc := "(I)I" } : Jvm.MethodName)) ∈ lw_all := lw_g (lw_at lw_m10 187 rfl) rfl
theorem q2494 : (Jvm.Cond.instanceMethod ({ cls := "ChildSaysModel", name := "has", desc := "(I)I" } : Jvm.MethodName)) ∈ lw_all := lw_g (lw_at lw_m10 188 rfl) rfl
theorem q2495 : (Jvm.Cond.selects "ChildSaysModel" ({ cls := "ChildSaysModel", name := "has", desc := "(I)I" } : Jvm.MethodName) ({ cls := "ChildSaysModel", name := "has", desc := "(I)I" } : Jvm.MethodName)) ∈ lw_all := lw_g (lw_at lw_m10 189 rfl) rfl
theorem q2496 : (Jvm.Cond.code ({ cls := "ChildSaysModel", name := "has", desc := "(I)I" } : Jvm.MethodName) prog_21_method_78_code (2 : Nat) (Option.some Jvm.ClassFile.FieldType.int)) ∈ lw_all := lw_g (lw_at lw_m10 190 rfl) rfl
theorem q2497 : (Jvm.Cond.methodLink "ChildSaysLaw" (41 : Nat) ({ cls := "ChildSaysModel", name := "letter", desc := "(III)I" } : Jvm.MethodName)) ∈ lw_all := lw_g (lw_at lw_m10 191 rfl) rfl
theorem q2498 : (Jvm.Cond.instanceMethod ({ cls := "ChildSaysModel", name := "letter", desc := "(III)I" } : Jvm.MethodName)) ∈ lw_all := lw_g (lw_at lw_m10 192 rfl) rfl
theorem q2499 : (Jvm.Cond.selects "ChildSaysModel" ({ cls := "ChildSaysModel", name := "letter", desc := "(III)I" } : Jvm.MethodName) ({ cls := "ChildSaysModel", name := "letter", desc := "(III)I" } : Jvm.MethodName)) ∈ lw_all := lw_g (lw_at lw_m10 193 rfl) rfl
theorem q2500 : (Jvm.Cond.code ({ cls := "ChildSaysModel", name := "letter", desc := "(III)I" } : Jvm.MethodName) prog_21_method_79_code (9 : Nat) (Option.some Jvm.ClassFile.FieldType.int)) ∈ lw_all := lw_g (lw_at lw_m10 194 rfl) rfl
theorem q2501 : (Jvm.Cond.constantLong "ChildSaysModel" (480 : Nat) (255 : Int64)) ∈ lw_all := lw_g (lw_at lw_m10 195 rfl) rfl
theorem q2502 : (Jvm.Cond.methodLink "ChildSaysLaw" (46 : Nat) ({ cls := "ChildSaysModel", name := "word", desc := "(II)I" } : Jvm.MethodName)) ∈ lw_all := lw_g (lw_at lw_m10 196 rfl) rfl
theorem q2503 : (Jvm.Cond.instanceMethod ({ cls := "ChildSaysModel", name := "word", desc := "(II)I" } : Jvm.MethodName)) ∈ lw_all := lw_g (lw_at lw_m10 197 rfl) rfl
theorem q2504 : (Jvm.Cond.selects "ChildSaysModel" ({ cls := "ChildSaysModel", name := "word", desc := "(II)I" } : Jvm.MethodName) ({ cls := "ChildSaysModel", name := "word", desc := "(II)I" } : Jvm.MethodName)) ∈ lw_all := lw_g (lw_at lw_m10 198 rfl) rfl
theorem q2505 : (Jvm.Cond.code ({ cls := "ChildSaysModel", name := "word", desc := "(II)I" } : Jvm.MethodName) prog_21_method_81_code (6 : Nat) (Option.some Jvm.ClassFile.FieldType.int)) ∈ lw_all := lw_g (lw_at lw_m10 199 rfl) rfl
theorem q2506 : (Jvm.Cond.methodLink "ChildSaysModel" (482 : Nat) ({ cls := "ChildSaysModel", name := "hasWord", desc := "(II)Z" } : Jvm.MethodName)) ∈ lw_all := lw_g (lw_at lw_m10 200 rfl) rfl
theorem q2507 : (Jvm.Cond.privateMethod ({ cls := "ChildSaysModel", name := "hasWord", desc := "(II)Z" } : Jvm.MethodName)) ∈ lw_tbl := lw_at lw_m10 201 rfl
theorem q2508 : (Jvm.Cond.instanceMethod ({ cls := "ChildSaysModel", name := "hasWord", desc := "(II)Z" } : Jvm.MethodName)) ∈ lw_all := lw_g (lw_at lw_m10 202 rfl) rfl
theorem q2509 : (Jvm.Cond.code ({ cls := "ChildSaysModel", name := "hasWord", desc := "(II)Z" } : Jvm.MethodName) prog_21_method_80_code (4 : Nat) (Option.some Jvm.ClassFile.FieldType.boolean)) ∈ lw_all := lw_g (lw_at lw_m10 203 rfl) rfl
theorem q2510 : (Jvm.Cond.methodLink "ChildSaysLaw" (50 : Nat) ({ cls := "ChildSaysModel", name := "child", desc := "(II)I" } : Jvm.MethodName)) ∈ lw_all := lw_g (lw_at lw_m10 204 rfl) rfl
theorem q2511 : (Jvm.Cond.instanceMethod ({ cls := "ChildSaysModel", name := "child", desc := "(II)I" } : Jvm.MethodName)) ∈ lw_all := lw_g (lw_at lw_m10 205 rfl) rfl
theorem q2512 : (Jvm.Cond.selects "ChildSaysModel" ({ cls := "ChildSaysModel", name := "child", desc := "(II)I" } : Jvm.MethodName) ({ cls := "ChildSaysModel", name := "child", desc := "(II)I" } : Jvm.MethodName)) ∈ lw_all := lw_g (lw_at lw_m10 206 rfl) rfl
theorem q2513 : (Jvm.Cond.code ({ cls := "ChildSaysModel", name := "child", desc := "(II)I" } : Jvm.MethodName) prog_21_method_84_code (5 : Nat) (Option.some Jvm.ClassFile.FieldType.int)) ∈ lw_all := lw_g (lw_at lw_m10 207 rfl) rfl
theorem q2514 : (Jvm.Cond.methodLink "ChildSaysModel" (485 : Nat) ({ cls := "ChildSaysModel", name := "standsBy", desc := "(II)Z" } : Jvm.MethodName)) ∈ lw_all := lw_g (lw_at lw_m10 208 rfl) rfl
theorem q2515 : (Jvm.Cond.privateMethod ({ cls := "ChildSaysModel", name := "standsBy", desc := "(II)Z" } : Jvm.MethodName)) ∈ lw_tbl := lw_at lw_m10 209 rfl
theorem q2516 : (Jvm.Cond.instanceMethod ({ cls := "ChildSaysModel", name := "standsBy", desc := "(II)Z" } : Jvm.MethodName)) ∈ lw_all := lw_g (lw_at lw_m10 210 rfl) rfl
theorem q2517 : (Jvm.Cond.code ({ cls := "ChildSaysModel", name := "standsBy", desc := "(II)Z" } : Jvm.MethodName) prog_21_method_82_code (3 : Nat) (Option.some Jvm.ClassFile.FieldType.boolean)) ∈ lw_all := lw_g (lw_at lw_m10 211 rfl) rfl
theorem q2518 : (Jvm.Cond.methodLink "ChildSaysLaw" (54 : Nat) ({ cls := "ChildSaysModel", name := "law", desc := "(II)I" } : Jvm.MethodName)) ∈ lw_all := lw_g (lw_at lw_m10 212 rfl) rfl
theorem q2519 : (Jvm.Cond.instanceMethod ({ cls := "ChildSaysModel", name := "law", desc := "(II)I" } : Jvm.MethodName)) ∈ lw_all := lw_g (lw_at lw_m10 213 rfl) rfl
theorem q2520 : (Jvm.Cond.selects "ChildSaysModel" ({ cls := "ChildSaysModel", name := "law", desc := "(II)I" } : Jvm.MethodName) ({ cls := "ChildSaysModel", name := "law", desc := "(II)I" } : Jvm.MethodName)) ∈ lw_all := lw_g (lw_at lw_m10 214 rfl) rfl
theorem q2521 : (Jvm.Cond.code ({ cls := "ChildSaysModel", name := "law", desc := "(II)I" } : Jvm.MethodName) prog_21_method_85_code (5 : Nat) (Option.some Jvm.ClassFile.FieldType.int)) ∈ lw_all := lw_g (lw_at lw_m10 215 rfl) rfl
theorem q2522 : (Jvm.Cond.methodLink "ChildSaysModel" (488 : Nat) ({ cls := "ChildSaysModel", name := "childrenOf", desc := "(I)I" } : Jvm.MethodName)) ∈ lw_all := lw_g (lw_at lw_m10 216 rfl) rfl
theorem q2523 : (Jvm.Cond.privateMethod ({ cls := "ChildSaysModel", name := "childrenOf", desc := "(I)I" } : Jvm.MethodName)) ∈ lw_tbl := lw_at lw_m10 217 rfl
theorem q2524 : (Jvm.Cond.instanceMethod ({ cls := "ChildSaysModel", name := "childrenOf", desc := "(I)I" } : Jvm.MethodName)) ∈ lw_all := lw_g (lw_at lw_m10 218 rfl) rfl
theorem q2525 : (Jvm.Cond.code ({ cls := "ChildSaysModel", name := "childrenOf", desc := "(I)I" } : Jvm.MethodName) prog_21_method_83_code (4 : Nat) (Option.some Jvm.ClassFile.FieldType.int)) ∈ lw_all := lw_g (lw_at lw_m10 219 rfl) rfl
theorem q2526 : (Jvm.Cond.methodLink "ChildSaysLaw" (58 : Nat) ({ cls := "ChildSaysModel", name := "order", desc := "(I)I" } : Jvm.MethodName)) ∈ lw_all := lw_g (lw_at lw_m10 220 rfl) rfl
theorem q2527 : (Jvm.Cond.instanceMethod ({ cls := "ChildSaysModel", name := "order", desc := "(I)I" } : Jvm.MethodName)) ∈ lw_all := lw_g (lw_at lw_m10 221 rfl) rfl
theorem q2528 : (Jvm.Cond.selects "ChildSaysModel" ({ cls := "ChildSaysModel", name := "order", desc := "(I)I" } : Jvm.MethodName) ({ cls := "ChildSaysModel", name := "order", desc := "(I)I" } : Jvm.MethodName)) ∈ lw_all := lw_g (lw_at lw_m10 222 rfl) rfl
theorem q2529 : (Jvm.Cond.code ({ cls := "ChildSaysModel", name := "order", desc := "(I)I" } : Jvm.MethodName) prog_21_method_86_code (2 : Nat) (Option.some Jvm.ClassFile.FieldType.int)) ∈ lw_all := lw_g (lw_at lw_m10 223 rfl) rfl
theorem q2530 : (Jvm.Cond.methodLink "ChildSaysLaw" (122 : Nat) ({ cls := "ChildSaysModel", name := "odds", desc := "(I)I" } : Jvm.MethodName)) ∈ lw_all := lw_g (lw_at lw_m10 224 rfl) rfl
theorem q2531 : (Jvm.Cond.instanceMethod ({ cls := "ChildSaysModel", name := "odds", desc := "(I)I" } : Jvm.MethodName)) ∈ lw_all := lw_g (lw_at lw_m10 225 rfl) rfl
theorem q2532 : (Jvm.Cond.selects "ChildSaysModel" ({ cls := "ChildSaysModel", name := "odds", desc := "(I)I" } : Jvm.MethodName) ({ cls := "ChildSaysModel", name := "odds", desc := "(I)I" } : Jvm.MethodName)) ∈ lw_all := lw_g (lw_at lw_m10 226 rfl) rfl
theorem q2533 : (Jvm.Cond.code ({ cls := "ChildSaysModel", name := "odds", desc := "(I)I" } : Jvm.MethodName) prog_21_method_87_code (2 : Nat) (Option.some Jvm.ClassFile.FieldType.int)) ∈ lw_all := lw_g (lw_at lw_m10 227 rfl) rfl
theorem q2534 : (Jvm.Cond.methodLink "ChildSaysLaw" (126 : Nat) ({ cls := "ChildSaysModel", name := "becomes", desc := "(IIZ)I" } : Jvm.MethodName)) ∈ lw_all := lw_g (lw_at lw_m10 228 rfl) rfl
theorem q2535 : (Jvm.Cond.instanceMethod ({ cls := "ChildSaysModel", name := "becomes", desc := "(IIZ)I" } : Jvm.MethodName)) ∈ lw_all := lw_g (lw_at lw_m10 229 rfl) rfl
theorem q2536 : (Jvm.Cond.selects "ChildSaysModel" ({ cls := "ChildSaysModel", name := "becomes", desc := "(IIZ)I" } : Jvm.MethodName) ({ cls := "ChildSaysModel", name := "becomes", desc := "(IIZ)I" } : Jvm.MethodName)) ∈ lw_all := lw_g (lw_at lw_m10 230 rfl) rfl
theorem q2537 : (Jvm.Cond.code ({ cls := "ChildSaysModel", name := "becomes", desc := "(IIZ)I" } : Jvm.MethodName) prog_21_method_91_code (7 : Nat) (Option.some Jvm.ClassFile.FieldType.int)) ∈ lw_all := lw_g (lw_at lw_m10 231 rfl) rfl
theorem q2538 : (Jvm.Cond.methodLink "ChildSaysModel" (494 : Nat) ({ cls := "ChildSaysModel", name := "recalled", desc := "(I)I" } : Jvm.MethodName)) ∈ lw_all := lw_g (lw_at lw_m10 232 rfl) rfl
theorem q2539 : (Jvm.Cond.privateMethod ({ cls := "ChildSaysModel", name := "recalled", desc := "(I)I" } : Jvm.MethodName)) ∈ lw_tbl := lw_at lw_m10 233 rfl
theorem q2540 : (Jvm.Cond.instanceMethod ({ cls := "ChildSaysModel", name := "recalled", desc := "(I)I" } : Jvm.MethodName)) ∈ lw_all := lw_g (lw_at lw_m10 234 rfl) rfl
theorem q2541 : (Jvm.Cond.code ({ cls := "ChildSaysModel", name := "recalled", desc := "(I)I" } : Jvm.MethodName) prog_21_method_90_code (3 : Nat) (Option.some Jvm.ClassFile.FieldType.int)) ∈ lw_all := lw_g (lw_at lw_m10 235 rfl) rfl
theorem q2542 : (Jvm.Cond.methodLink "ChildSaysModel" (491 : Nat) ({ cls := "ChildSaysModel", name := "isRemembered", desc := "(I)Z" } : Jvm.MethodName)) ∈ lw_all := lw_g (lw_at lw_m10 236 rfl) rfl
theorem q2543 : (Jvm.Cond.privateMethod ({ cls := "ChildSaysModel", name := "isRemembered", desc := "(I)Z" } : Jvm.MethodName)) ∈ lw_tbl := lw_at lw_m10 237 rfl
theorem q2544 : (Jvm.Cond.instanceMethod ({ cls := "ChildSaysModel", name := "isRemembered", desc := "(I)Z" } : Jvm.MethodName)) ∈ lw_all := lw_g (lw_at lw_m10 238 rfl) rfl
theorem q2545 : (Jvm.Cond.code ({ cls := "ChildSaysModel", name := "isRemembered", desc := "(I)Z" } : Jvm.MethodName) prog_21_method_89_code (3 : Nat) (Option.some Jvm.ClassFile.FieldType.boolean)) ∈ lw_all := lw_g (lw_at lw_m10 239 rfl) rfl
theorem q2546 : (Jvm.Cond.methodLink "ChildSaysModel" (497 : Nat) ({ cls := "ChildSaysModel", name := "remembers", desc := "(I)V" } : Jvm.MethodName)) ∈ lw_all := lw_g (lw_at lw_m11 0 rfl) rfl
theorem q2547 : (Jvm.Cond.privateMethod ({ cls := "ChildSaysModel", name := "remembers", desc := "(I)V" } : Jvm.MethodName)) ∈ lw_tbl := lw_at lw_m11 1 rfl
theorem q2548 : (Jvm.Cond.instanceMethod ({ cls := "ChildSaysModel", name := "remembers", desc := "(I)V" } : Jvm.MethodName)) ∈ lw_all := lw_g (lw_at lw_m11 2 rfl) rfl
theorem q2549 : (Jvm.Cond.code ({ cls := "ChildSaysModel", name := "remembers", desc := "(I)V" } : Jvm.MethodName) prog_21_method_88_code (3 : Nat) (Option.none : Option Jvm.ClassFile.FieldType)) ∈ lw_all := lw_g (lw_at lw_m11 3 rfl) rfl
theorem q2550 : (Jvm.Cond.methodLink "ChildSaysLaw" (130 : Nat) ({ cls := "ChildSaysModel", name := "round", desc := "(III)I" } : Jvm.MethodName)) ∈ lw_all := lw_g (lw_at lw_m11 4 rfl) rfl
theorem q2551 : (Jvm.Cond.instanceMethod ({ cls := "ChildSaysModel", name := "round", desc := "(III)I" } : Jvm.MethodName)) ∈ lw_all := lw_g (lw_at lw_m11 5 rfl) rfl
theorem q2552 : (Jvm.Cond.selects "ChildSaysModel" ({ cls := "ChildSaysModel", name := "round", desc := "(III)I" } : Jvm.MethodName) ({ cls := "ChildSaysModel", name := "round", desc := "(III)I" } : Jvm.MethodName)) ∈ lw_all := lw_g (lw_at lw_m11 6 rfl) rfl
theorem q2553 : (Jvm.Cond.code ({ cls := "ChildSaysModel", name := "round", desc := "(III)I" } : Jvm.MethodName) prog_21_method_94_code (6 : Nat) (Option.some Jvm.ClassFile.FieldType.int)) ∈ lw_all := lw_g (lw_at lw_m11 7 rfl) rfl
theorem q2554 : (Jvm.Cond.methodLink "ChildSaysModel" (500 : Nat) ({ cls := "ChildSaysModel", name := "saysAsTold", desc := "()V" } : Jvm.MethodName)) ∈ lw_all := lw_g (lw_at lw_m11 8 rfl) rfl
theorem q2555 : (Jvm.Cond.privateMethod ({ cls := "ChildSaysModel", name := "saysAsTold", desc := "()V" } : Jvm.MethodName)) ∈ lw_tbl := lw_at lw_m11 9 rfl
theorem q2556 : (Jvm.Cond.instanceMethod ({ cls := "ChildSaysModel", name := "saysAsTold", desc := "()V" } : Jvm.MethodName)) ∈ lw_all := lw_g (lw_at lw_m11 10 rfl) rfl
theorem q2557 : (Jvm.Cond.code ({ cls := "ChildSaysModel", name := "saysAsTold", desc := "()V" } : Jvm.MethodName) prog_21_method_93_code (2 : Nat) (Option.none : Option Jvm.ClassFile.FieldType)) ∈ lw_all := lw_g (lw_at lw_m11 11 rfl) rfl
theorem q2558 : (Jvm.Cond.methodLink "ChildSaysModel" (503 : Nat) ({ cls := "ChildSaysModel", name := "tellsBack", desc := "()V" } : Jvm.MethodName)) ∈ lw_all := lw_g (lw_at lw_m11 12 rfl) rfl
theorem q2559 : (Jvm.Cond.privateMethod ({ cls := "ChildSaysModel", name := "tellsBack", desc := "()V" } : Jvm.MethodName)) ∈ lw_tbl := lw_at lw_m11 13 rfl
theorem q2560 : (Jvm.Cond.instanceMethod ({ cls := "ChildSaysModel", name := "tellsBack", desc := "()V" } : Jvm.MethodName)) ∈ lw_all := lw_g (lw_at lw_m11 14 rfl) rfl
theorem q2561 : (Jvm.Cond.code ({ cls := "ChildSaysModel", name := "tellsBack", desc := "()V" } : Jvm.MethodName) prog_21_method_92_code (2 : Nat) (Option.none : Option Jvm.ClassFile.FieldType)) ∈ lw_all := lw_g (lw_at lw_m11 15 rfl) rfl
theorem q2562 : (Jvm.Cond.methodLink "ChildSaysLaw" (134 : Nat) ({ cls := "ChildSaysModel", name := "best", desc := "(II)I" } : Jvm.MethodName)) ∈ lw_all := lw_g (lw_at lw_m11 16 rfl) rfl
theorem q2563 : (Jvm.Cond.instanceMethod ({ cls := "ChildSaysModel", name := "best", desc := "(II)I" } : Jvm.MethodName)) ∈ lw_all := lw_g (lw_at lw_m11 17 rfl) rfl
theorem q2564 : (Jvm.Cond.selects "ChildSaysModel" ({ cls := "ChildSaysModel", name := "best", desc := "(II)I" } : Jvm.MethodName) ({ cls := "ChildSaysModel", name := "best", desc := "(II)I" } : Jvm.MethodName)) ∈ lw_all := lw_g (lw_at lw_m11 18 rfl) rfl
theorem q2565 : (Jvm.Cond.code ({ cls := "ChildSaysModel", name := "best", desc := "(II)I" } : Jvm.MethodName) prog_21_method_99_code (7 : Nat) (Option.some Jvm.ClassFile.FieldType.int)) ∈ lw_all := lw_g (lw_at lw_m11 19 rfl) rfl
theorem q2566 : (Jvm.Cond.methodLink "ChildSaysModel" (509 : Nat) ({ cls := "ChildSaysModel", name := "firstPerm", desc := "(I)V" } : Jvm.MethodName)) ∈ lw_all := lw_g (lw_at lw_m11 20 rfl) rfl
theorem q2567 : (Jvm.Cond.privateMethod ({ cls := "ChildSaysModel", name := "firstPerm", desc := "(I)V" } : Jvm.MethodName)) ∈ lw_tbl := lw_at lw_m11 21 rfl
theorem q2568 : (Jvm.Cond.instanceMethod ({ cls := "ChildSaysModel", name := "firstPerm", desc := "(I)V" } : Jvm.MethodName)) ∈ lw_all := lw_g (lw_at lw_m11 22 rfl) rfl
theorem q2569 : (Jvm.Cond.code ({ cls := "ChildSaysModel", name := "firstPerm", desc := "(I)V" } : Jvm.MethodName) prog_21_method_97_code (3 : Nat) (Option.none : Option Jvm.ClassFile.FieldType)) ∈ lw_all := lw_g (lw_at lw_m11 23 rfl) rfl
theorem q2570 : (Jvm.Cond.methodLink "ChildSaysModel" (512 : Nat) ({ cls := "ChildSaysModel", name := "wholeBy", desc := "(I)I" } : Jvm.MethodName)) ∈ lw_all := lw_g (lw_at lw_m11 24 rfl) rfl
theorem q2571 : (Jvm.Cond.privateMethod ({ cls := "ChildSaysModel", name := "wholeBy", desc := "(I)I" } : Jvm.MethodName)) ∈ lw_tbl := lw_at lw_m11 25 rfl
theorem q2572 : (Jvm.Cond.instanceMethod ({ cls := "ChildSaysModel", name := "wholeBy", desc := "(I)I" } : Jvm.MethodName)) ∈ lw_all := lw_g (lw_at lw_m11 26 rfl) rfl
theorem q2573 : (Jvm.Cond.code ({ cls := "ChildSaysModel", name := "wholeBy", desc := "(I)I" } : Jvm.MethodName) prog_21_method_98_code (4 : Nat) (Option.some Jvm.ClassFile.FieldType.int)) ∈ lw_all := lw_g (lw_at lw_m11 27 rfl) rfl
theorem q2574 : (Jvm.Cond.methodLink "ChildSaysModel" (515 : Nat) ({ cls := "ChildSaysModel", name := "nextPerm", desc := "()Z" } : Jvm.MethodName)) ∈ lw_all := lw_g (lw_at lw_m11 28 rfl) rfl
theorem q2575 : (Jvm.Cond.privateMethod ({ cls := "ChildSaysModel", name := "nextPerm", desc := "()Z" } : Jvm.MethodName)) ∈ lw_tbl := lw_at lw_m11 29 rfl
theorem q2576 : (Jvm.Cond.instanceMethod ({ cls := "ChildSaysModel", name := "nextPerm", desc := "()Z" } : Jvm.MethodName)) ∈ lw_all := lw_g (lw_at lw_m11 30 rfl) rfl
theorem q2577 : (Jvm.Cond.code ({ cls := "ChildSaysModel", name := "nextPerm", desc := "()Z" } : Jvm.MethodName) prog_21_method_95_code (5 : Nat) (Option.some Jvm.ClassFile.FieldType.boolean)) ∈ lw_all := lw_g (lw_at lw_m11 31 rfl) rfl
theorem q2578 : (Jvm.Cond.methodLink "ChildSaysModel" (506 : Nat) ({ cls := "ChildSaysModel", name := "changes", desc := "(II)V" } : Jvm.MethodName)) ∈ lw_all := lw_g (lw_at lw_m11 32 rfl) rfl
theorem q2579 : (Jvm.Cond.privateMethod ({ cls := "ChildSaysModel", name := "changes", desc := "(II)V" } : Jvm.MethodName)) ∈ lw_tbl := lw_at lw_m11 33 rfl
theorem q2580 : (Jvm.Cond.instanceMethod ({ cls := "ChildSaysModel", name := "changes", desc := "(II)V" } : Jvm.MethodName)) ∈ lw_all := lw_g (lw_at lw_m11 34 rfl) rfl
theorem q2581 : (Jvm.Cond.code ({ cls := "ChildSaysModel", name := "changes", desc := "(II)V" } : Jvm.MethodName) prog_21_method_96_code (4 : Nat) (Option.none : Option Jvm.ClassFile.FieldType)) ∈ lw_all := lw_g (lw_at lw_m11 35 rfl) rfl
theorem q2582 : (Jvm.Cond.methodLink "ChildSaysLaw" (138 : Nat) ({ cls := "ChildSaysModel", name := "mended", desc := "(II)I" } : Jvm.MethodName)) ∈ lw_all := lw_g (lw_at lw_m11 36 rfl) rfl
theorem q2583 : (Jvm.Cond.instanceMethod ({ cls := "ChildSaysModel", name := "mended", desc := "(II)I" } : Jvm.MethodName)) ∈ lw_all := lw_g (lw_at lw_m11 37 rfl) rfl
theorem q2584 : (Jvm.Cond.selects "ChildSaysModel" ({ cls := "ChildSaysModel", name := "mended", desc := "(II)I" } : Jvm.MethodName) ({ cls := "ChildSaysModel", name := "mended", desc := "(II)I" } : Jvm.MethodName)) ∈ lw_all := lw_g (lw_at lw_m11 38 rfl) rfl
theorem q2585 : (Jvm.Cond.code ({ cls := "ChildSaysModel", name := "mended", desc := "(II)I" } : Jvm.MethodName) prog_21_method_102_code (4 : Nat) (Option.some Jvm.ClassFile.FieldType.int)) ∈ lw_all := lw_g (lw_at lw_m11 39 rfl) rfl
theorem q2586 : (Jvm.Cond.methodLink "ChildSaysModel" (526 : Nat) ({ cls := "ChildSaysModel", name := "exchanged", desc := "()I" } : Jvm.MethodName)) ∈ lw_all := lw_g (lw_at lw_m11 40 rfl) rfl
theorem q2587 : (Jvm.Cond.privateMethod ({ cls := "ChildSaysModel", name := "exchanged", desc := "()I" } : Jvm.MethodName)) ∈ lw_tbl := lw_at lw_m11 41 rfl
theorem q2588 : (Jvm.Cond.instanceMethod ({ cls := "ChildSaysModel", name := "exchanged", desc := "()I" } : Jvm.MethodName)) ∈ lw_all := lw_g (lw_at lw_m11 42 rfl) rfl
theorem q2589 : (Jvm.Cond.code ({ cls := "ChildSaysModel", name := "exchanged", desc := "()I" } : Jvm.MethodName) prog_21_method_101_code (9 : Nat) (Option.some Jvm.ClassFile.FieldType.int)) ∈ lw_all := lw_g (lw_at lw_m11 43 rfl) rfl
theorem q2590 : (Jvm.Cond.methodLink "ChildSaysModel" (522 : Nat) ({ cls := "ChildSaysModel", name := "goodness", desc := "()I" } : Jvm.MethodName)) ∈ lw_all := lw_g (lw_at lw_m11 44 rfl) rfl
theorem q2591 : (Jvm.Cond.privateMethod ({ cls := "ChildSaysModel", name := "goodness", desc := "()I" } : Jvm.MethodName)) ∈ lw_tbl := lw_at lw_m11 45 rfl
theorem q2592 : (Jvm.Cond.instanceMethod ({ cls := "ChildSaysModel", name := "goodness", desc := "()I" } : Jvm.MethodName)) ∈ lw_all := lw_g (lw_at lw_m11 46 rfl) rfl
theorem q2593 : (Jvm.Cond.code ({ cls := "ChildSaysModel", name := "goodness", desc := "()I" } : Jvm.MethodName) prog_21_method_100_code (1 : Nat) (Option.some Jvm.ClassFile.FieldType.int)) ∈ lw_all := lw_g (lw_at lw_m11 47 rfl) rfl
theorem q2594 : (Jvm.Cond.methodLink "ChildSaysModel" (519 : Nat) ({ cls := "ChildSaysModel", name := "wholeOf", desc := "(I)I" } : Jvm.MethodName)) ∈ lw_all := lw_g (lw_at lw_m11 48 rfl) rfl
theorem q2595 : (Jvm.Cond.privateMethod ({ cls := "ChildSaysModel", name := "wholeOf", desc := "(I)I" } : Jvm.MethodName)) ∈ lw_tbl := lw_at lw_m11 49 rfl
theorem q2596 : (Jvm.Cond.instanceMethod ({ cls := "ChildSaysModel", name := "wholeOf", desc := "(I)I" } : Jvm.MethodName)) ∈ lw_all := lw_g (lw_at lw_m11 50 rfl) rfl
theorem q2597 : (Jvm.Cond.code ({ cls := "ChildSaysModel", name := "wholeOf", desc := "(I)I" } : Jvm.MethodName) prog_21_method_103_code (4 : Nat) (Option.some Jvm.ClassFile.FieldType.int)) ∈ lw_all := lw_g (lw_at lw_m11 51 rfl) rfl
theorem q2598 : (Jvm.Cond.methodLink "ChildSaysLaw" (142 : Nat) ({ cls := "ChildSaysModel", name := "forty", desc := "(II)I" } : Jvm.MethodName)) ∈ lw_all := lw_g (lw_at lw_m11 52 rfl) rfl
theorem q2599 : (Jvm.Cond.instanceMethod ({ cls := "ChildSaysModel", name := "forty", desc := "(II)I" } : Jvm.MethodName)) ∈ lw_all := lw_g (lw_at lw_m11 53 rfl) rfl
theorem q2600 : (Jvm.Cond.selects "ChildSaysModel" ({ cls := "ChildSaysModel", name := "forty", desc := "(II)I" } : Jvm.MethodName) ({ cls := "ChildSaysModel", name := "forty", desc := "(II)I" } : Jvm.MethodName)) ∈ lw_all := lw_g (lw_at lw_m11 54 rfl) rfl
theorem q2601 : (Jvm.Cond.code ({ cls := "ChildSaysModel", name := "forty", desc := "(II)I" } : Jvm.MethodName) prog_21_method_104_code (8 : Nat) (Option.some Jvm.ClassFile.FieldType.int)) ∈ lw_all := lw_g (lw_at lw_m11 55 rfl) rfl
theorem q2602 : (Jvm.Cond.methodLink "ChildSaysLaw" (146 : Nat) ({ cls := "ChildSaysModel", name := "sorted", desc := "(II)I" } : Jvm.MethodName)) ∈ lw_all := lw_g (lw_at lw_m11 56 rfl) rfl
theorem q2603 : (Jvm.Cond.instanceMethod ({ cls := "ChildSaysModel", name := "sorted", desc := "(II)I" } : Jvm.MethodName)) ∈ lw_all := lw_g (lw_at lw_m11 57 rfl) rfl
theorem q2604 : (Jvm.Cond.selects "ChildSaysModel" ({ cls := "ChildSaysModel", name := "sorted", desc := "(II)I" } : Jvm.MethodName) ({ cls := "ChildSaysModel", name := "sorted", desc := "(II)I" } : Jvm.MethodName)) ∈ lw_all := lw_g (lw_at lw_m11 58 rfl) rfl
theorem q2605 : (Jvm.Cond.code ({ cls := "ChildSaysModel", name := "sorted", desc := "(II)I" } : Jvm.MethodName) prog_21_method_105_code (5 : Nat) (Option.some Jvm.ClassFile.FieldType.int)) ∈ lw_all := lw_g (lw_at lw_m11 59 rfl) rfl
theorem q2606 : (Jvm.Cond.methodLink "ChildSaysLaw" (150 : Nat) ({ cls := "ChildSaysModel", name := "apart", desc := "(I)I" } : Jvm.MethodName)) ∈ lw_all := lw_g (lw_at lw_m11 60 rfl) rfl
theorem q2607 : (Jvm.Cond.instanceMethod ({ cls := "ChildSaysModel", name := "apart", desc := "(I)I" } : Jvm.MethodName)) ∈ lw_all := lw_g (lw_at lw_m11 61 rfl) rfl
theorem q2608 : (Jvm.Cond.selects "ChildSaysModel" ({ cls := "ChildSaysModel", name := "apart", desc := "(I)I" } : Jvm.MethodName) ({ cls := "ChildSaysModel", name := "apart", desc := "(I)I" } : Jvm.MethodName)) ∈ lw_all := lw_g (lw_at lw_m11 62 rfl) rfl
theorem q2609 : (Jvm.Cond.code ({ cls := "ChildSaysModel", name := "apart", desc := "(I)I" } : Jvm.MethodName) prog_21_method_112_code (2 : Nat) (Option.some Jvm.ClassFile.FieldType.int)) ∈ lw_all := lw_g (lw_at lw_m11 63 rfl) rfl
theorem q2610 : (Jvm.Cond.methodLink "ChildSaysModel" (544 : Nat) ({ cls := "ChildSaysModel", name := "pairAt", desc := "(IZ)I" } : Jvm.MethodName)) ∈ lw_all := lw_g (lw_at lw_m11 64 rfl) rfl
theorem q2611 : (Jvm.Cond.privateMethod ({ cls := "ChildSaysModel", name := "pairAt", desc := "(IZ)I" } : Jvm.MethodName)) ∈ lw_tbl := lw_at lw_m11 65 rfl
theorem q2612 : (Jvm.Cond.instanceMethod ({ cls := "ChildSaysModel", name := "pairAt", desc := "(IZ)I" } : Jvm.MethodName)) ∈ lw_all := lw_g (lw_at lw_m11 66 rfl) rfl
theorem q2613 : (Jvm.Cond.code ({ cls := "ChildSaysModel", name := "pairAt", desc := "(IZ)I" } : Jvm.MethodName) prog_21_method_111_code (6 : Nat) (Option.some Jvm.ClassFile.FieldType.int)) ∈ lw_all := lw_g (lw_at lw_m11 67 rfl) rfl
theorem q2614 : (Jvm.Cond.methodLink "ChildSaysModel" (538 : Nat) ({ cls := "ChildSaysModel", name := "isApart", desc := "(II)Z" } : Jvm.MethodName)) ∈ lw_all := lw_g (lw_at lw_m11 68 rfl) rfl
theorem q2615 : (Jvm.Cond.privateMethod ({ cls := "ChildSaysModel", name := "isApart", desc := "(II)Z" } : Jvm.MethodName)) ∈ lw_tbl := lw_at lw_m11 69 rfl
theorem q2616 : (Jvm.Cond.instanceMethod ({ cls := "ChildSaysModel", name := "isApart", desc := "(II)Z" } : Jvm.MethodName)) ∈ lw_all := lw_g (lw_at lw_m11 70 rfl) rfl
theorem q2617 : (Jvm.Cond.code ({ cls := "ChildSaysModel", name := "isApart", desc := "(II)Z" } : Jvm.MethodName) prog_21_method_106_code (3 : Nat) (Option.some Jvm.ClassFile.FieldType.boolean)) ∈ lw_all := lw_g (lw_at lw_m11 71 rfl) rfl
theorem q2618 : (Jvm.Cond.methodLink "ChildSaysModel" (541 : Nat) ({ cls := "ChildSaysModel", name := "isAgainst", desc := "(II)Z" } : Jvm.MethodName)) ∈ lw_all := lw_g (lw_at lw_m11 72 rfl) rfl
theorem q2619 : (Jvm.Cond.privateMethod ({ cls := "ChildSaysModel", name := "isAgainst", desc := "(II)Z" } : Jvm.MethodName)) ∈ lw_tbl := lw_at lw_m11 73 rfl
theorem q2620 : (Jvm.Cond.instanceMethod ({ cls := "ChildSaysModel", name := "isAgainst", desc := "(II)Z" } : Jvm.MethodName)) ∈ lw_all := lw_g (lw_at lw_m11 74 rfl) rfl
theorem q2621 : (Jvm.Cond.code ({ cls := "ChildSaysModel", name := "isAgainst", desc := "(II)Z" } : Jvm.MethodName) prog_21_method_110_code (5 : Nat) (Option.some Jvm.ClassFile.FieldType.boolean)) ∈ lw_all := lw_g (lw_at lw_m11 75 rfl) rfl
theorem q2622 : (Jvm.Cond.methodLink "ChildSaysModel" (532 : Nat) ({ cls := "ChildSaysModel", name := "nevers", desc := "(I)I" } : Jvm.MethodName)) ∈ lw_all := lw_g (lw_at lw_m11 76 rfl) rfl
theorem q2623 : (Jvm.Cond.privateMethod ({ cls := "ChildSaysModel", name := "nevers", desc := "(I)I" } : Jvm.MethodName)) ∈ lw_tbl := lw_at lw_m11 77 rfl
theorem q2624 : (Jvm.Cond.instanceMethod ({ cls := "ChildSaysModel", name := "nevers", desc := "(I)I" } : Jvm.MethodName)) ∈ lw_all := lw_g (lw_at lw_m11 78 rfl) rfl
theorem q2625 : (Jvm.Cond.code ({ cls := "ChildSaysModel", name := "nevers", desc := "(I)I" } : Jvm.MethodName) prog_21_method_108_code (4 : Nat) (Option.some Jvm.ClassFile.FieldType.int)) ∈ lw_all := lw_g (lw_at lw_m11 79 rfl) rfl
theorem q2626 : (Jvm.Cond.methodLink "ChildSaysModel" (529 : Nat) ({ cls := "ChildSaysModel", name := "isNever", desc := "(I)Z" } : Jvm.MethodName)) ∈ lw_all := lw_g (lw_at lw_m11 80 rfl) rfl
theorem q2627 : (Jvm.Cond.privateMethod ({ cls := "ChildSaysModel", name := "isNever", desc := "(I)Z" } : Jvm.MethodName)) ∈ lw_tbl := lw_at lw_m11 81 rfl
theorem q2628 : (Jvm.Cond.instanceMethod ({ cls := "ChildSaysModel", name := "isNever", desc := "(I)Z" } : Jvm.MethodName)) ∈ lw_all := lw_g (lw_at lw_m11 82 rfl) rfl
theorem q2629 : (Jvm.Cond.code ({ cls := "ChildSaysModel", name := "isNever", desc := "(I)Z" } : Jvm.MethodName) prog_21_method_107_code (2 : Nat) (Option.some Jvm.ClassFile.FieldType.boolean)) ∈ lw_all := lw_g (lw_at lw_m11 83 rfl) rfl
theorem q2630 : (Jvm.Cond.methodLink "ChildSaysModel" (535 : Nat) ({ cls := "ChildSaysModel", name := "nextPlain", desc := "(II)I" } : Jvm.MethodName)) ∈ lw_all := lw_g (lw_at lw_m11 84 rfl) rfl
theorem q2631 : (Jvm.Cond.privateMethod ({ cls := "ChildSaysModel", name := "nextPlain", desc := "(II)I" } : Jvm.MethodName)) ∈ lw_tbl := lw_at lw_m11 85 rfl
theorem q2632 : (Jvm.Cond.instanceMethod ({ cls := "ChildSaysModel", name := "nextPlain", desc := "(II)I" } : Jvm.MethodName)) ∈ lw_all := lw_g (lw_at lw_m11 86 rfl) rfl
theorem q2633 : (Jvm.Cond.code ({ cls := "ChildSaysModel", name := "nextPlain", desc := "(II)I" } : Jvm.MethodName) prog_21_method_109_code (4 : Nat) (Option.some Jvm.ClassFile.FieldType.int)) ∈ lw_all := lw_g (lw_at lw_m11 87 rfl) rfl
theorem q2634 : (Jvm.Cond.methodLink "ChildSaysLaw" (154 : Nat) ({ cls := "ChildSaysModel", name := "against", desc := "(I)I" } : Jvm.MethodName)) ∈ lw_all := lw_g (lw_at lw_m11 88 rfl) rfl
theorem q2635 : (Jvm.Cond.instanceMethod ({ cls := "ChildSaysModel", name := "against", desc := "(I)I" } : Jvm.MethodName)) ∈ lw_all := lw_g (lw_at lw_m11 89 rfl) rfl
theorem q2636 : (Jvm.Cond.selects "ChildSaysModel" ({ cls := "ChildSaysModel", name := "against", desc := "(I)I" } : Jvm.MethodName) ({ cls := "ChildSaysModel", name := "against", desc := "(I)I" } : Jvm.MethodName)) ∈ lw_all := lw_g (lw_at lw_m11 90 rfl) rfl
theorem q2637 : (Jvm.Cond.code ({ cls := "ChildSaysModel", name := "against", desc := "(I)I" } : Jvm.MethodName) prog_21_method_113_code (2 : Nat) (Option.some Jvm.ClassFile.FieldType.int)) ∈ lw_all := lw_g (lw_at lw_m11 91 rfl) rfl
theorem q2638 : (Jvm.Cond.methodLink "ChildSaysLaw" (159 : Nat) ({ cls := "ChildSaysModel", name := "once", desc := "(IIII)I" } : Jvm.MethodName)) ∈ lw_all := lw_g (lw_at lw_m11 92 rfl) rfl
theorem q2639 : (Jvm.Cond.instanceMethod ({ cls := "ChildSaysModel", name := "once", desc := "(IIII)I" } : Jvm.MethodName)) ∈ lw_all := lw_g (lw_at lw_m11 93 rfl) rfl
theorem q2640 : (Jvm.Cond.selects "ChildSaysModel" ({ cls := "ChildSaysModel", name := "once", desc := "(IIII)I" } : Jvm.MethodName) ({ cls := "ChildSaysModel", name := "once", desc := "(IIII)I" } : Jvm.MethodName)) ∈ lw_all := lw_g (lw_at lw_m11 94 rfl) rfl
theorem q2641 : (Jvm.Cond.code ({ cls := "ChildSaysModel", name := "once", desc := "(IIII)I" } : Jvm.MethodName) prog_21_method_114_code (11 : Nat) (Option.some Jvm.ClassFile.FieldType.int)) ∈ lw_all := lw_g (lw_at lw_m11 95 rfl) rfl
theorem q2642 : (Jvm.Cond.methodLink "ChildSaysLaw" (163 : Nat) ({ cls := "ChildSaysModel", name := "meaning", desc := "(I)I" } : Jvm.MethodName)) ∈ lw_all := lw_g (lw_at lw_m11 96 rfl) rfl
theorem q2643 : (Jvm.Cond.instanceMethod ({ cls := "ChildSaysModel", name := "meaning", desc := "(I)I" } : Jvm.MethodName)) ∈ lw_all := lw_g (lw_at lw_m11 97 rfl) rfl
theorem q2644 : (Jvm.Cond.selects "ChildSaysModel" ({ cls := "ChildSaysModel", name := "meaning", desc := "(I)I" } : Jvm.MethodName) ({ cls := "ChildSaysModel", name := "meaning", desc := "(I)I" } : Jvm.MethodName)) ∈ lw_all := lw_g (lw_at lw_m11 98 rfl) rfl
theorem q2645 : (Jvm.Cond.code ({ cls := "ChildSaysModel", name := "meaning", desc := "(I)I" } : Jvm.MethodName) prog_21_method_116_code (2 : Nat) (Option.some Jvm.ClassFile.FieldType.int)) ∈ lw_all := lw_g (lw_at lw_m11 99 rfl) rfl
theorem q2646 : (Jvm.Cond.constant "ChildSaysModel" (548 : Nat) (1000000000 : Int32)) ∈ lw_all := lw_g (lw_at lw_m11 100 rfl) rfl
theorem q2647 : (Jvm.Cond.methodLink "ChildSaysModel" (549 : Nat) ({ cls := "ChildSaysModel", name := "saidMeans", desc := "()I" } : Jvm.MethodName)) ∈ lw_all := lw_g (lw_at lw_m11 101 rfl) rfl
theorem q2648 : (Jvm.Cond.privateMethod ({ cls := "ChildSaysModel", name := "saidMeans", desc := "()I" } : Jvm.MethodName)) ∈ lw_tbl := lw_at lw_m11 102 rfl
theorem q2649 : (Jvm.Cond.instanceMethod ({ cls := "ChildSaysModel", name := "saidMeans", desc := "()I" } : Jvm.MethodName)) ∈ lw_all := lw_g (lw_at lw_m11 103 rfl) rfl
theorem q2650 : (Jvm.Cond.code ({ cls := "ChildSaysModel", name := "saidMeans", desc := "()I" } : Jvm.MethodName) prog_21_method_115_code (4 : Nat) (Option.some Jvm.ClassFile.FieldType.int)) ∈ lw_all := lw_g (lw_at lw_m11 104 rfl) rfl
theorem q2651 : (Jvm.Cond.methodLink "ChildSaysLaw" (167 : Nat) ({ cls := "ChildSaysModel", name := "harm", desc := "(I)I" } : Jvm.MethodName)) ∈ lw_all := lw_g (lw_at lw_m11 105 rfl) rfl
theorem q2652 : (Jvm.Cond.instanceMethod ({ cls := "ChildSaysModel", name := "harm", desc := "(I)I" } : Jvm.MethodName)) ∈ lw_all := lw_g (lw_at lw_m11 106 rfl) rfl
theorem q2653 : (Jvm.Cond.selects "ChildSaysModel" ({ cls := "ChildSaysModel", name := "harm", desc := "(I)I" } : Jvm.MethodName) ({ cls := "ChildSaysModel", name := "harm", desc := "(I)I" } : Jvm.MethodName)) ∈ lw_all := lw_g (lw_at lw_m11 107 rfl) rfl
theorem q2654 : (Jvm.Cond.code ({ cls := "ChildSaysModel", name := "harm", desc := "(I)I" } : Jvm.MethodName) prog_21_method_117_code (7 : Nat) (Option.some Jvm.ClassFile.FieldType.int)) ∈ lw_all := lw_g (lw_at lw_m11 108 rfl) rfl
theorem q2655 : (Jvm.Cond.methodLink "ChildSaysLaw" (171 : Nat) ({ cls := "ChildSaysModel", name := "needs", desc := "(II)I" } : Jvm.MethodName)) ∈ lw_all := lw_g (lw_at lw_m11 109 rfl) rfl
theorem q2656 : (Jvm.Cond.instanceMethod ({ cls := "ChildSaysModel", name := "needs", desc := "(II)I" } : Jvm.MethodName)) ∈ lw_all := lw_g (lw_at lw_m11 110 rfl) rfl
theorem q2657 : (Jvm.Cond.selects "ChildSaysModel" ({ cls := "ChildSaysModel", name := "needs", desc := "(II)I" } : Jvm.MethodName) ({ cls := "ChildSaysModel", name := "needs", desc := "(II)I" } : Jvm.MethodName)) ∈ lw_all := lw_g (lw_at lw_m11 111 rfl) rfl
theorem q2658 : (Jvm.Cond.code ({ cls := "ChildSaysModel", name := "needs", desc := "(II)I" } : Jvm.MethodName) prog_21_method_118_code (5 : Nat) (Option.some Jvm.ClassFile.FieldType.int)) ∈ lw_all := lw_g (lw_at lw_m11 112 rfl) rfl
theorem q2659 : (Jvm.Cond.methodLink "ChildSaysLaw" (175 : Nat) ({ cls := "ChildSaysModel", name := "runs", desc := "(III)I" } : Jvm.MethodName)) ∈ lw_all := lw_g (lw_at lw_m11 113 rfl) rfl
theorem q2660 : (Jvm.Cond.instanceMethod ({ cls := "ChildSaysModel", name := "runs", desc := "(III)I" } : Jvm.MethodName)) ∈ lw_all := lw_g (lw_at lw_m11 114 rfl) rfl
theorem q2661 : (Jvm.Cond.selects "ChildSaysModel" ({ cls := "ChildSaysModel", name := "runs", desc := "(III)I" } : Jvm.MethodName) ({ cls := "ChildSaysModel", name := "runs", desc := "(III)I" } : Jvm.MethodName)) ∈ lw_all := lw_g (lw_at lw_m11 115 rfl) rfl
theorem q2662 : (Jvm.Cond.code ({ cls := "ChildSaysModel", name := "runs", desc := "(III)I" } : Jvm.MethodName) prog_21_method_120_code (9 : Nat) (Option.some Jvm.ClassFile.FieldType.int)) ∈ lw_all := lw_g (lw_at lw_m11 116 rfl) rfl
theorem q2663 : (Jvm.Cond.methodLink "ChildSaysModel" (552 : Nat) ({ cls := "ChildSaysModel", name := "isAsNow", desc := "(II)Z" } : Jvm.MethodName)) ∈ lw_all := lw_g (lw_at lw_m11 117 rfl) rfl
theorem q2664 : (Jvm.Cond.privateMethod ({ cls := "ChildSaysModel", name := "isAsNow", desc := "(II)Z" } : Jvm.MethodName)) ∈ lw_tbl := lw_at lw_m11 118 rfl
theorem q2665 : (Jvm.Cond.instanceMethod ({ cls := "ChildSaysModel", name := "isAsNow", desc := "(II)Z" } : Jvm.MethodName)) ∈ lw_all := lw_g (lw_at lw_m11 119 rfl) rfl
theorem q2666 : (Jvm.Cond.code ({ cls := "ChildSaysModel", name := "isAsNow", desc := "(II)Z" } : Jvm.MethodName) prog_21_method_119_code (5 : Nat) (Option.some Jvm.ClassFile.FieldType.boolean)) ∈ lw_all := lw_g (lw_at lw_m11 120 rfl) rfl
theorem q2667 : (Jvm.Cond.methodLink "ChildSaysLaw" (179 : Nat) ({ cls := "ChildSaysModel", name := "image", desc := "()I" } : Jvm.MethodName)) ∈ lw_all := lw_g (lw_at lw_m11 121 rfl) rfl
theorem q2668 : (Jvm.Cond.instanceMethod ({ cls := "ChildSaysModel", name := "image", desc := "()I" } : Jvm.MethodName)) ∈ lw_all := lw_g (lw_at lw_m11 122 rfl) rfl
theorem q2669 : (Jvm.Cond.selects "ChildSaysModel" ({ cls := "ChildSaysModel", name := "image", desc := "()I" } : Jvm.MethodName) ({ cls := "ChildSaysModel", name := "image", desc := "()I" } : Jvm.MethodName)) ∈ lw_all := lw_g (lw_at lw_m11 123 rfl) rfl
theorem q2670 : (Jvm.Cond.code ({ cls := "ChildSaysModel", name := "image", desc := "()I" } : Jvm.MethodName) prog_21_method_122_code (3 : Nat) (Option.some Jvm.ClassFile.FieldType.int)) ∈ lw_all := lw_g (lw_at lw_m11 124 rfl) rfl
theorem q2671 : (Jvm.Cond.methodLink "ChildSaysModel" (555 : Nat) ({ cls := "ChildSaysModel", name := "writes", desc := "(I)V" } : Jvm.MethodName)) ∈ lw_all := lw_g (lw_at lw_m11 125 rfl) rfl
theorem q2672 : (Jvm.Cond.privateMethod ({ cls := "ChildSaysModel", name := "writes", desc := "(I)V" } : Jvm.MethodName)) ∈ lw_tbl := lw_at lw_m11 126 rfl
theorem q2673 : (Jvm.Cond.instanceMethod ({ cls := "ChildSaysModel", name := "writes", desc := "(I)V" } : Jvm.MethodName)) ∈ lw_all := lw_g (lw_at lw_m11 127 rfl) rfl
theorem q2674 : (Jvm.Cond.code ({ cls := "ChildSaysModel", name := "writes", desc := "(I)V" } : Jvm.MethodName) prog_21_method_121_code (2 : Nat) (Option.none : Option Jvm.ClassFile.FieldType)) ∈ lw_all := lw_g (lw_at lw_m11 128 rfl) rfl
theorem q2675 : (Jvm.Cond.methodLink "ChildSaysLaw" (183 : Nat) ({ cls := "ChildSaysModel", name := "octet", desc := "(I)I" } : Jvm.MethodName)) ∈ lw_all := lw_g (lw_at lw_m11 129 rfl) rfl
theorem q2676 : (Jvm.Cond.instanceMethod ({ cls := "ChildSaysModel", name := "octet", desc := "(I)I" } : Jvm.MethodName)) ∈ lw_all := lw_g (lw_at lw_m11 130 rfl) rfl
theorem q2677 : (Jvm.Cond.selects "ChildSaysModel" ({ cls := "ChildSaysModel", name := "octet", desc := "(I)I" } : Jvm.MethodName) ({ cls := "ChildSaysModel", name := "octet", desc := "(I)I" } : Jvm.MethodName)) ∈ lw_all := lw_g (lw_at lw_m11 131 rfl) rfl
theorem q2678 : (Jvm.Cond.code ({ cls := "ChildSaysModel", name := "octet", desc := "(I)I" } : Jvm.MethodName) prog_21_method_123_code (2 : Nat) (Option.some Jvm.ClassFile.FieldType.int)) ∈ lw_all := lw_g (lw_at lw_m11 132 rfl) rfl
theorem q2679 : (Jvm.Cond.methodLink "ChildSaysLaw" (187 : Nat) ({ cls := "ChildSaysModel", name := "on", desc := "()Z" } : Jvm.MethodName)) ∈ lw_all := lw_g (lw_at lw_m11 133 rfl) rfl
theorem q2680 : (Jvm.Cond.instanceMethod ({ cls := "ChildSaysModel", name := "on", desc := "()Z" } : Jvm.MethodName)) ∈ lw_all := lw_g (lw_at lw_m11 134 rfl) rfl
theorem q2681 : (Jvm.Cond.selects "ChildSaysModel" ({ cls := "ChildSaysModel", name := "on", desc := "()Z" } : Jvm.MethodName) ({ cls := "ChildSaysModel", name := "on", desc := "()Z" } : Jvm.MethodName)) ∈ lw_all := lw_g (lw_at lw_m11 135 rfl) rfl
theorem q2682 : (Jvm.Cond.code ({ cls := "ChildSaysModel", name := "on", desc := "()Z" } : Jvm.MethodName) prog_21_method_126_code (5 : Nat) (Option.some Jvm.ClassFile.FieldType.boolean)) ∈ lw_all := lw_g (lw_at lw_m11 136 rfl) rfl
theorem q2683 : (Jvm.Cond.methodLink "ChildSaysModel" (561 : Nat) ({ cls := "ChildSaysModel", name := "isImage", desc := "(I)Z" } : Jvm.MethodName)) ∈ lw_all := lw_g (lw_at lw_m11 137 rfl) rfl
theorem q2684 : (Jvm.Cond.privateMethod ({ cls := "ChildSaysModel", name := "isImage", desc := "(I)Z" } : Jvm.MethodName)) ∈ lw_tbl := lw_at lw_m11 138 rfl
theorem q2685 : (Jvm.Cond.instanceMethod ({ cls := "ChildSaysModel", name := "isImage", desc := "(I)Z" } : Jvm.MethodName)) ∈ lw_all := lw_g (lw_at lw_m11 139 rfl) rfl
theorem q2686 : (Jvm.Cond.code ({ cls := "ChildSaysModel", name := "isImage", desc := "(I)Z" } : Jvm.MethodName) prog_21_method_125_code (5 : Nat) (Option.some Jvm.ClassFile.FieldType.boolean)) ∈ lw_all := lw_g (lw_at lw_m11 140 rfl) rfl
theorem q2687 : (Jvm.Cond.methodLink "ChildSaysModel" (558 : Nat) ({ cls := "ChildSaysModel", name := "lawOn", desc := "(II)I" } : Jvm.MethodName)) ∈ lw_all := lw_g (lw_at lw_m11 141 rfl) rfl
theorem q2688 : (Jvm.Cond.privateMethod ({ cls := "ChildSaysModel", name := "lawOn", desc := "(II)I" } : Jvm.MethodName)) ∈ lw_tbl := lw_at lw_m11 142 rfl
theorem q2689 : (Jvm.Cond.instanceMethod ({ cls := "ChildSaysModel", name := "lawOn", desc := "(II)I" } : Jvm.MethodName)) ∈ lw_all := lw_g (lw_at lw_m11 143 rfl) rfl
theorem q2690 : (Jvm.Cond.code ({ cls := "ChildSaysModel", name := "lawOn", desc := "(II)I" } : Jvm.MethodName) prog_21_method_124_code (5 : Nat) (Option.some Jvm.ClassFile.FieldType.int)) ∈ lw_all := lw_g (lw_at lw_m11 144 rfl) rfl
theorem q2691 : (Jvm.Cond.sameMethod "java/lang/Throwable" "java/lang/Throwable" "fillInStackTrace" "(I)Ljava/lang/Throwable;") ∈ lw_all := lw_g (lw_at lw_m11 145 rfl) rfl
theorem q2692 : (Jvm.Cond.sameMethod "java/lang/AbstractStringBuilder" "java/lang/AbstractStringBuilder" "setLength" "(I)V") ∈ lw_all := lw_g (lw_at lw_m11 146 rfl) rfl
theorem q2693 : (Jvm.Cond.sameMethod "java/lang/AbstractStringBuilder" "java/lang/AbstractStringBuilder" "ensureCapacityInternal" "(I)V") ∈ lw_all := lw_g (lw_at lw_m11 147 rfl) rfl
theorem q2694 : (Jvm.Cond.sameMethod "java/lang/AbstractStringBuilder" "java/lang/AbstractStringBuilder" "newCapacity" "(I)I") ∈ lw_all := lw_g (lw_at lw_m11 148 rfl) rfl
theorem q2695 : (Jvm.Cond.sameMethod "java/lang/AbstractStringBuilder" "java/lang/AbstractStringBuilder" "append" "(C)Ljava/lang/AbstractStringBuilder;") ∈ lw_all := lw_g (lw_at lw_m11 149 rfl) rfl
theorem q2696 : (Jvm.Cond.sameMethod "java/lang/AbstractStringBuilder" "java/lang/AbstractStringBuilder" "inflate" "()V") ∈ lw_all := lw_g (lw_at lw_m11 150 rfl) rfl
theorem q2697 : (Jvm.Cond.sameMethod "java/lang/AbstractStringBuilder" "java/lang/AbstractStringBuilder" "length" "()I") ∈ lw_all := lw_g (lw_at lw_m11 151 rfl) rfl
theorem q2698 : (Jvm.Cond.sameMethod "java/lang/AbstractStringBuilder" "java/lang/AbstractStringBuilder" "charAt" "(I)C") ∈ lw_all := lw_g (lw_at lw_m11 152 rfl) rfl
theorem q2699 : (Jvm.Cond.selects "java/lang/StringBuilder" ({ cls := "java/lang/StringBuilder", name := "charAt", desc := "(I)C" } : Jvm.MethodName) ({ cls := "java/lang/StringBuilder", name := "charAt", desc := "(I)C" } : Jvm.MethodName)) ∈ lw_all := lw_g (lw_at lw_m11 153 rfl) rfl
theorem q2700 : (Jvm.Cond.initialized "java/lang/Object") ∈ lw_all := lw_g (lw_at lw_m11 154 rfl) rfl
theorem q2701 : (Jvm.Cond.castable "ChildSays$Child" "ChildSays$Named") ∈ lw_tbl := lw_at lw_m11 155 rfl
theorem q2702 : (Jvm.Cond.castable "ChildSays$Law" "ChildSays$Named") ∈ lw_tbl := lw_at lw_m11 156 rfl
theorem q2703 : (Jvm.Cond.castable "ChildSays$Street" "ChildSays$Named") ∈ lw_tbl := lw_at lw_m11 157 rfl
theorem q2704 : (Jvm.Cond.castable "ChildSays$Word" "ChildSays$Named") ∈ lw_tbl := lw_at lw_m11 158 rfl
theorem q2705 : (Jvm.Cond.castable "ChildSays$Word" "java/lang/Object") ∈ lw_tbl := lw_at lw_m11 159 rfl
theorem q2706 : (Jvm.Cond.castable "ChildSays$Saying" "java/lang/Object") ∈ lw_tbl := lw_at lw_m11 160 rfl
theorem q2707 : (Jvm.Cond.castable "ChildSays$Law" "java/lang/Object") ∈ lw_tbl := lw_at lw_m11 161 rfl
theorem q2708 : (Jvm.Cond.castable "ChildSays$Row" "java/lang/Object") ∈ lw_tbl := lw_at lw_m11 162 rfl
theorem q2709 : (Jvm.Cond.castable "java/lang/String" "java/lang/Object") ∈ lw_tbl := lw_at lw_m11 163 rfl
theorem q2710 : (Jvm.Cond.castable "ChildSays" "java/lang/Object") ∈ lw_tbl := lw_at lw_m11 164 rfl
theorem q2711 : (Jvm.Cond.castable "ChildSays$Town" "java/lang/Object") ∈ lw_tbl := lw_at lw_m11 165 rfl
theorem q2712 : (Jvm.Cond.castable "java/util/ArrayList" "java/lang/Object") ∈ lw_tbl := lw_at lw_m11 166 rfl
theorem q2713 : (Jvm.Cond.castable "ChildSays$Sitting" "java/lang/Object") ∈ lw_tbl := lw_at lw_m11 167 rfl
theorem q2714 : (Jvm.Cond.castable "ChildSays$Unlike" "java/lang/Object") ∈ lw_tbl := lw_at lw_m11 168 rfl
theorem q2715 : (Jvm.Cond.castable "ChildSays$Round" "java/lang/Object") ∈ lw_tbl := lw_at lw_m11 169 rfl
theorem q2716 : (Jvm.Cond.castable "ChildSays$Put" "java/lang/Object") ∈ lw_tbl := lw_at lw_m11 170 rfl
theorem q2717 : (Jvm.Cond.castable "ChildSays$Order" "java/lang/Object") ∈ lw_tbl := lw_at lw_m11 171 rfl
theorem q2718 : (Jvm.Cond.castable "java/lang/StringBuilder" "java/lang/Object") ∈ lw_tbl := lw_at lw_m11 172 rfl
theorem q2719 : (Jvm.Cond.castable "ChildSaysModel" "java/lang/Object") ∈ lw_tbl := lw_at lw_m11 173 rfl
theorem q2720 : (Jvm.Cond.castable "ChildSays$Reader" "java/lang/Object") ∈ lw_tbl := lw_at lw_m11 174 rfl
theorem q2721 : (Jvm.Cond.castable "ChildSays$Fault" "java/lang/Object") ∈ lw_tbl := lw_at lw_m11 175 rfl
theorem q2722 : (Jvm.Cond.castable "ChildSays$Street" "java/lang/Object") ∈ lw_tbl := lw_at lw_m11 176 rfl
theorem q2723 : (Jvm.Cond.castable "ChildSays$Child" "java/lang/Object") ∈ lw_tbl := lw_at lw_m11 177 rfl
theorem q2724 : (Jvm.Cond.castable "ChildSays$Was" "java/lang/Object") ∈ lw_tbl := lw_at lw_m11 178 rfl
theorem q2725 : (Jvm.Cond.castable "ChildSays$Line" "java/lang/Object") ∈ lw_tbl := lw_at lw_m11 179 rfl
theorem q2726 : (Jvm.Cond.castable "java/lang/Throwable" "java/lang/Object") ∈ lw_tbl := lw_at lw_m11 180 rfl
theorem q2727 : (Jvm.Cond.sameMethod "[Ljava/lang/Object;" "java/lang/Object" "getClass" "()Ljava/lang/Class;") ∈ lw_all := lw_g (lw_at lw_m11 181 rfl) rfl
theorem q2728 : (Jvm.Cond.selects "[Ljava/lang/Object;" ({ cls := "java/lang/Object", name := "getClass", desc := "()Ljava/lang/Class;" } : Jvm.MethodName) ({ cls := "java/lang/Object", name := "getClass", desc := "()Ljava/lang/Class;" } : Jvm.MethodName)) ∈ lw_all := lw_g (lw_at lw_m11 182 rfl) rfl
theorem q2729 : (Jvm.Cond.declares ({ cls := "java/lang/Object", name := "getClass", desc := "()Ljava/lang/Class;" } : Jvm.MethodName)) ∈ lw_tbl := lw_at lw_m11 183 rfl
theorem q2730 : (Jvm.Cond.castable "[C" "java/lang/Object") ∈ lw_tbl := lw_at lw_m11 184 rfl
theorem q2731 : (Jvm.Cond.castable "[I" "java/lang/Object") ∈ lw_tbl := lw_at lw_m11 185 rfl
theorem q2732 : (Jvm.Cond.castable "[LChildSays$Word;" "java/lang/Object") ∈ lw_tbl := lw_at lw_m11 186 rfl
theorem q2733 : (Jvm.Cond.castable "[LChildSays$Saying;" "java/lang/Object") ∈ lw_tbl := lw_at lw_m11 187 rfl
theorem q2734 : (Jvm.Cond.castable "[LChildSays$Law;" "java/lang/Object") ∈ lw_tbl := lw_at lw_m11 188 rfl
theorem q2735 : (Jvm.Cond.castable "[B" "java/lang/Object") ∈ lw_tbl := lw_at lw_m11 189 rfl
theorem q2736 : (Jvm.Cond.castable "[Ljava/lang/Object;" "java/lang/Object") ∈ lw_tbl := lw_at lw_m11 190 rfl
theorem q2737 : (Jvm.Cond.castable "[Z" "java/lang/Object") ∈ lw_tbl := lw_at lw_m11 191 rfl
theorem q2738 : (Jvm.Cond.castable "[LChildSays$Row;" "java/lang/Object") ∈ lw_tbl := lw_at lw_m11 192 rfl
theorem q2739 : (Jvm.Cond.castable "[J" "java/lang/Object") ∈ lw_tbl := lw_at lw_m11 193 rfl
theorem q2740 : (Jvm.Cond.castable "[Ljava/lang/String;" "java/lang/Object") ∈ lw_tbl := lw_at lw_m11 194 rfl
theorem q2741 : (Jvm.Cond.stringRef "ChildSays" (552 : Nat) "word") ∈ lw_tbl := lw_at lw_m11 195 rfl
theorem q2742 : (Jvm.Cond.stringRef "ChildSays" (554 : Nat) "beats") ∈ lw_tbl := lw_at lw_m11 196 rfl
theorem q2743 : (Jvm.Cond.stringRef "ChildSays" (555 : Nat) "sounds") ∈ lw_tbl := lw_at lw_m11 197 rfl
theorem q2744 : (Jvm.Cond.stringRef "ChildSays" (557 : Nat) "worth") ∈ lw_tbl := lw_at lw_m11 198 rfl
theorem q2745 : (Jvm.Cond.stringRef "ChildSays" (558 : Nat) "never") ∈ lw_tbl := lw_at lw_m11 199 rfl
theorem q2746 : (Jvm.Cond.stringRef "ChildSays" (559 : Nat) "street") ∈ lw_tbl := lw_at lw_m11 200 rfl
theorem q2747 : (Jvm.Cond.stringRef "ChildSays" (560 : Nat) "as") ∈ lw_tbl := lw_at lw_m11 201 rfl
theorem q2748 : (Jvm.Cond.stringRef "ChildSays" (562 : Nat) "child") ∈ lw_tbl := lw_at lw_m11 202 rfl
theorem q2749 : (Jvm.Cond.stringRef "ChildSays" (563 : Nat) "of") ∈ lw_tbl := lw_at lw_m11 203 rfl
theorem q2750 : (Jvm.Cond.stringRef "ChildSays" (564 : Nat) "holds") ∈ lw_tbl := lw_at lw_m11 204 rfl
theorem q2751 : (Jvm.Cond.stringRef "ChildSays" (565 : Nat) "law") ∈ lw_tbl := lw_at lw_m11 205 rfl
theorem q2752 : (Jvm.Cond.stringRef "ChildSays" (566 : Nat) "sung") ∈ lw_tbl := lw_at lw_m11 206 rfl
theorem q2753 : (Jvm.Cond.stringRef "ChildSays" (567 : Nat) "says") ∈ lw_tbl := lw_at lw_m11 207 rfl
theorem q2754 : (Jvm.Cond.stringRef "ChildSays" (568 : Nat) "but") ∈ lw_tbl := lw_at lw_m11 208 rfl
theorem q2755 : (Jvm.Cond.stringRef "ChildSays" (569 : Nat) "head") ∈ lw_tbl := lw_at lw_m11 209 rfl
theorem q2756 : (Jvm.Cond.stringRef "ChildSays" (570 : Nat) "mend") ∈ lw_tbl := lw_at lw_m11 210 rfl
theorem q2757 : (Jvm.Cond.stringRef "ChildSays" (571 : Nat) "tune") ∈ lw_tbl := lw_at lw_m11 211 rfl
theorem q2758 : (Jvm.Cond.arrayOver (Jvm.ClassFile.FieldType.object "java/lang/String")) ∈ lw_tbl := lw_at lw_m11 212 rfl
