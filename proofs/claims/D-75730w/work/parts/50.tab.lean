set_option maxRecDepth 100000
theorem q114 : (Jvm.Cond.initialized "TollRoadLaw") ∈ lw_all := lw_g (lw_at lw_m1 0 rfl) rfl
theorem q115 : (Jvm.Cond.initialized "TollRoad") ∈ lw_all := lw_g (lw_at lw_m1 1 rfl) rfl
theorem q116 : (Jvm.Cond.initialized "TollRoad$World") ∈ lw_all := lw_g (lw_at lw_m1 2 rfl) rfl
theorem q117 : (Jvm.Cond.initialized "TollRoad$Network") ∈ lw_all := lw_g (lw_at lw_m1 3 rfl) rfl
theorem q118 : (Jvm.Cond.initialized "java/util/AbstractCollection") ∈ lw_all := lw_g (lw_at lw_m1 4 rfl) rfl
theorem q119 : (Jvm.Cond.initialized "java/util/AbstractList") ∈ lw_all := lw_g (lw_at lw_m1 5 rfl) rfl
theorem q120 : (Jvm.Cond.initialized "java/util/ArrayList") ∈ lw_all := lw_g (lw_at lw_m1 6 rfl) rfl
theorem q121 : (Jvm.Cond.initialized "java/lang/Throwable") ∈ lw_all := lw_g (lw_at lw_m1 7 rfl) rfl
theorem q122 : (Jvm.Cond.initialized "java/lang/Exception") ∈ lw_all := lw_g (lw_at lw_m1 8 rfl) rfl
theorem q124 : (Jvm.Cond.initialized "java/lang/IllegalArgumentException") ∈ lw_all := lw_g (lw_at lw_m1 10 rfl) rfl
theorem q125 : (Jvm.Cond.initialized "java/lang/AbstractStringBuilder") ∈ lw_all := lw_g (lw_at lw_m1 11 rfl) rfl
theorem q126 : (Jvm.Cond.initialized "java/lang/StringBuilder") ∈ lw_all := lw_g (lw_at lw_m1 12 rfl) rfl
theorem q127 : (Jvm.Cond.initialized "java/lang/String") ∈ lw_all := lw_g (lw_at lw_m1 13 rfl) rfl
theorem q129 : (Jvm.Cond.initialized "jdk/internal/util/ArraysSupport") ∈ lw_all := lw_g (lw_at lw_m1 15 rfl) rfl
theorem q130 : (Jvm.Cond.initialized "java/lang/Math") ∈ lw_all := lw_g (lw_at lw_m1 16 rfl) rfl
theorem q131 : (Jvm.Cond.initialized "java/util/Arrays") ∈ lw_all := lw_g (lw_at lw_m1 17 rfl) rfl
theorem q132 : (Jvm.Cond.initialized "java/lang/System") ∈ lw_all := lw_g (lw_at lw_m1 18 rfl) rfl
theorem q133 : (Jvm.Cond.initialized "jdk/internal/util/Preconditions") ∈ lw_all := lw_g (lw_at lw_m1 19 rfl) rfl
theorem q134 : (Jvm.Cond.initialized "java/lang/StringLatin1") ∈ lw_all := lw_g (lw_at lw_m1 20 rfl) rfl
theorem q135 : (Jvm.Cond.initialized "java/lang/Number") ∈ lw_all := lw_g (lw_at lw_m1 21 rfl) rfl
theorem q136 : (Jvm.Cond.initialized "java/lang/Integer") ∈ lw_all := lw_g (lw_at lw_m1 22 rfl) rfl
theorem q137 : (Jvm.Cond.initialized "java/util/AbstractMap") ∈ lw_all := lw_g (lw_at lw_m1 23 rfl) rfl
theorem q138 : (Jvm.Cond.initialized "java/util/HashMap") ∈ lw_all := lw_g (lw_at lw_m1 24 rfl) rfl
theorem q139 : (Jvm.Cond.initialized "TollRoadModel") ∈ lw_all := lw_g (lw_at lw_m1 25 rfl) rfl
theorem q140 : (Jvm.Cond.initialized "java/lang/IllegalStateException") ∈ lw_all := lw_g (lw_at lw_m1 26 rfl) rfl
theorem q141 : (Jvm.Cond.initialized "TollRoad$Parser") ∈ lw_all := lw_g (lw_at lw_m1 27 rfl) rfl
theorem q142 : (Jvm.Cond.initialized "TollRoad$TextError") ∈ lw_all := lw_g (lw_at lw_m1 28 rfl) rfl
theorem q143 : (Jvm.Cond.initialized "TollRoad$Road") ∈ lw_all := lw_g (lw_at lw_m1 29 rfl) rfl
theorem q144 : (Jvm.Cond.initialized "TollRoad$Account") ∈ lw_all := lw_g (lw_at lw_m1 30 rfl) rfl
theorem q145 : (Jvm.Cond.initialized "TollRoad$Vehicle") ∈ lw_all := lw_g (lw_at lw_m1 31 rfl) rfl
theorem q146 : (Jvm.Cond.initialized "TollRoad$Bounds") ∈ lw_all := lw_g (lw_at lw_m1 32 rfl) rfl
theorem q147 : (Jvm.Cond.initialized "TollRoad$Bounds$1") ∈ lw_all := lw_g (lw_at lw_m1 33 rfl) rfl
theorem q148 : (Jvm.Cond.initialized "java/lang/IndexOutOfBoundsException") ∈ lw_all := lw_g (lw_at lw_m1 34 rfl) rfl
theorem q150 : (Jvm.Cond.initialized "java/util/ArrayList$Itr") ∈ lw_all := lw_g (lw_at lw_m1 36 rfl) rfl
theorem q152 : (Jvm.Cond.initialized "java/util/TreeMap") ∈ lw_all := lw_g (lw_at lw_m1 38 rfl) rfl
theorem q153 : (Jvm.Cond.initialized "java/util/Objects") ∈ lw_all := lw_g (lw_at lw_m1 39 rfl) rfl
theorem q154 : (Jvm.Cond.initialized "TollRoad$Search") ∈ lw_all := lw_g (lw_at lw_m1 40 rfl) rfl
theorem q155 : (Jvm.Cond.initialized "TollRoad$Route") ∈ lw_all := lw_g (lw_at lw_m1 41 rfl) rfl
theorem q156 : (Jvm.Cond.initialized "TollRoad$Cheapest") ∈ lw_all := lw_g (lw_at lw_m1 42 rfl) rfl
theorem q157 : (Jvm.Cond.initialized "TollRoad$Read") ∈ lw_all := lw_g (lw_at lw_m1 43 rfl) rfl
theorem q158 : (Jvm.Cond.initialized "java/util/AbstractQueue") ∈ lw_all := lw_g (lw_at lw_m1 44 rfl) rfl
theorem q159 : (Jvm.Cond.initialized "java/util/PriorityQueue") ∈ lw_all := lw_g (lw_at lw_m1 45 rfl) rfl
theorem q160 : (Jvm.Cond.initialized "TollRoad$Order") ∈ lw_all := lw_g (lw_at lw_m1 46 rfl) rfl
theorem q166 : (Jvm.Cond.initialized "java/util/TreeMap$Entry") ∈ lw_all := lw_g (lw_at lw_m1 52 rfl) rfl
theorem q167 : (Jvm.Cond.initialized "java/util/TreeMap$Values") ∈ lw_all := lw_g (lw_at lw_m1 53 rfl) rfl
theorem q168 : (Jvm.Cond.initialized "java/util/HashMap$HashIterator") ∈ lw_all := lw_g (lw_at lw_m1 54 rfl) rfl
theorem q169 : (Jvm.Cond.initialized "java/util/HashMap$EntryIterator") ∈ lw_all := lw_g (lw_at lw_m1 55 rfl) rfl
theorem q171 : (Jvm.Cond.initialized "java/util/TreeMap$PrivateEntryIterator") ∈ lw_all := lw_g (lw_at lw_m1 57 rfl) rfl
theorem q172 : (Jvm.Cond.initialized "java/util/TreeMap$ValueIterator") ∈ lw_all := lw_g (lw_at lw_m1 58 rfl) rfl
theorem q173 : (Jvm.Cond.initialized "TollRoad$Trip") ∈ lw_all := lw_g (lw_at lw_m1 59 rfl) rfl
theorem q174 : (Jvm.Cond.initialized "TollRoad$Bill") ∈ lw_all := lw_g (lw_at lw_m1 60 rfl) rfl
theorem q175 : (Jvm.Cond.initialized "TollRoad$Priced") ∈ lw_all := lw_g (lw_at lw_m1 61 rfl) rfl
theorem q176 : (Jvm.Cond.initialized "TollRoad$Mark") ∈ lw_all := lw_g (lw_at lw_m1 62 rfl) rfl
theorem q177 : (Jvm.Cond.initialized "java/util/HashMap$Node") ∈ lw_all := lw_g (lw_at lw_m1 63 rfl) rfl
theorem q180 : (Jvm.Cond.initialized "java/util/AbstractSet") ∈ lw_all := lw_g (lw_at lw_m1 66 rfl) rfl
theorem q181 : (Jvm.Cond.initialized "java/util/HashMap$EntrySet") ∈ lw_all := lw_g (lw_at lw_m1 67 rfl) rfl
theorem q182 : (Jvm.Cond.classLink "TollRoadLaw" (8 : Nat) "TollRoad") ∈ lw_all := lw_g (lw_at lw_m1 68 rfl) rfl
theorem q183 : (Jvm.Cond.instantiable "TollRoad" (6 : Nat)) ∈ lw_all := lw_g (lw_at lw_m1 69 rfl) rfl
theorem q184 : (Jvm.Cond.methodLink "TollRoadLaw" (126 : Nat) ({ cls := "TollRoad", name := "<init>", desc := "()V" } : Jvm.MethodName)) ∈ lw_all := lw_g (lw_at lw_m1 70 rfl) rfl
theorem q185 : (Jvm.Cond.instanceMethod ({ cls := "TollRoad", name := "<init>", desc := "()V" } : Jvm.MethodName)) ∈ lw_all := lw_g (lw_at lw_m1 71 rfl) rfl
theorem q186 : (Jvm.Cond.code ({ cls := "TollRoad", name := "<init>", desc := "()V" } : Jvm.MethodName) prog_1_method_5_code (1 : Nat) (Option.none : Option Jvm.ClassFile.FieldType)) ∈ lw_all := lw_g (lw_at lw_m1 72 rfl) rfl
theorem q187 : (Jvm.Cond.methodLink "TollRoad" (13 : Nat) ({ cls := "java/lang/Object", name := "<init>", desc := "()V" } : Jvm.MethodName)) ∈ lw_all := lw_g (lw_at lw_m1 73 rfl) rfl
theorem q188 : (Jvm.Cond.instanceMethod ({ cls := "java/lang/Object", name := "<init>", desc := "()V" } : Jvm.MethodName)) ∈ lw_all := lw_g (lw_at lw_m1 74 rfl) rfl
theorem q189 : (Jvm.Cond.code ({ cls := "java/lang/Object", name := "<init>", desc := "()V" } : Jvm.MethodName) object_method_1_code (1 : Nat) (Option.none : Option Jvm.ClassFile.FieldType)) ∈ lw_all := lw_g (lw_at lw_m1 75 rfl) rfl
theorem q190 : (Jvm.Cond.classLink "TollRoad" (16 : Nat) "TollRoad$World") ∈ lw_all := lw_g (lw_at lw_m1 76 rfl) rfl
theorem q191 : (Jvm.Cond.instantiable "TollRoad$World" (8 : Nat)) ∈ lw_all := lw_g (lw_at lw_m1 77 rfl) rfl
theorem q192 : (Jvm.Cond.methodLinkNest "TollRoad" (18 : Nat) ({ cls := "TollRoad$World", name := "<init>", desc := "()V" } : Jvm.MethodName) "TollRoad") ∈ lw_tbl := lw_at lw_m1 78 rfl
theorem q193 : (Jvm.Cond.instanceMethod ({ cls := "TollRoad$World", name := "<init>", desc := "()V" } : Jvm.MethodName)) ∈ lw_all := lw_g (lw_at lw_m1 79 rfl) rfl
theorem q194 : (Jvm.Cond.code ({ cls := "TollRoad$World", name := "<init>", desc := "()V" } : Jvm.MethodName) prog_19_method_1_code (1 : Nat) (Option.none : Option Jvm.ClassFile.FieldType)) ∈ lw_all := lw_g (lw_at lw_m1 80 rfl) rfl
theorem q195 : (Jvm.Cond.methodLink "TollRoad$World" (3 : Nat) ({ cls := "java/lang/Object", name := "<init>", desc := "()V" } : Jvm.MethodName)) ∈ lw_all := lw_g (lw_at lw_m1 81 rfl) rfl
theorem q196 : (Jvm.Cond.classLink "TollRoad$World" (9 : Nat) "TollRoad$Network") ∈ lw_all := lw_g (lw_at lw_m1 82 rfl) rfl
theorem q197 : (Jvm.Cond.instantiable "TollRoad$Network" (4 : Nat)) ∈ lw_all := lw_g (lw_at lw_m1 83 rfl) rfl
theorem q198 : (Jvm.Cond.methodLinkNest "TollRoad$World" (11 : Nat) ({ cls := "TollRoad$Network", name := "<init>", desc := "()V" } : Jvm.MethodName) "TollRoad") ∈ lw_tbl := lw_at lw_m1 84 rfl
theorem q199 : (Jvm.Cond.instanceMethod ({ cls := "TollRoad$Network", name := "<init>", desc := "()V" } : Jvm.MethodName)) ∈ lw_all := lw_g (lw_at lw_m1 85 rfl) rfl
theorem q200 : (Jvm.Cond.code ({ cls := "TollRoad$Network", name := "<init>", desc := "()V" } : Jvm.MethodName) prog_8_method_1_code (1 : Nat) (Option.none : Option Jvm.ClassFile.FieldType)) ∈ lw_all := lw_g (lw_at lw_m1 86 rfl) rfl
theorem q201 : (Jvm.Cond.methodLink "TollRoad$Network" (3 : Nat) ({ cls := "java/lang/Object", name := "<init>", desc := "()V" } : Jvm.MethodName)) ∈ lw_all := lw_g (lw_at lw_m1 87 rfl) rfl
theorem q202 : (Jvm.Cond.classLink "TollRoad$Network" (15 : Nat) "TollRoad$Road") ∈ lw_all := lw_g (lw_at lw_m1 88 rfl) rfl
theorem q203 : (Jvm.Cond.arrayOver (Jvm.ClassFile.FieldType.object "TollRoad$Road")) ∈ lw_tbl := lw_at lw_m1 89 rfl
theorem q204 : (Jvm.Cond.fieldLink "TollRoad$Network" (9 : Nat) "TollRoad$Network" "misses" "[I") ∈ lw_all := lw_g (lw_at lw_m1 90 rfl) rfl
theorem q205 : (Jvm.Cond.fieldLinkNest "TollRoad$Search" (39 : Nat) "TollRoad$Network" "misses" "[I" "TollRoad") ∈ lw_tbl := lw_at lw_m1 91 rfl
theorem q206 : (Jvm.Cond.fieldLinkNest "TollRoad" (405 : Nat) "TollRoad$Network" "misses" "[I" "TollRoad") ∈ lw_tbl := lw_at lw_m1 92 rfl
theorem q207 : (Jvm.Cond.fieldLink "TollRoad$Network" (27 : Nat) "TollRoad$Network" "gantries" "I") ∈ lw_all := lw_g (lw_at lw_m1 93 rfl) rfl
theorem q208 : (Jvm.Cond.fieldLinkNest "TollRoad$Search" (44 : Nat) "TollRoad$Network" "gantries" "I" "TollRoad") ∈ lw_tbl := lw_at lw_m1 94 rfl
theorem q209 : (Jvm.Cond.fieldLinkNest "TollRoad" (41 : Nat) "TollRoad$Network" "gantries" "I" "TollRoad") ∈ lw_tbl := lw_at lw_m1 95 rfl
theorem q210 : (Jvm.Cond.fieldLinkNest "TollRoad$Parser" (105 : Nat) "TollRoad$Network" "gantries" "I" "TollRoad") ∈ lw_tbl := lw_at lw_m1 96 rfl
theorem q211 : (Jvm.Cond.fieldLink "TollRoad$Network" (17 : Nat) "TollRoad$Network" "roads" "[LTollRoad$Road;") ∈ lw_all := lw_g (lw_at lw_m1 97 rfl) rfl
theorem q212 : (Jvm.Cond.fieldLink "TollRoad$Network" (37 : Nat) "TollRoad$Network" "roadCount" "I") ∈ lw_all := lw_g (lw_at lw_m1 98 rfl) rfl
theorem q213 : (Jvm.Cond.fieldLinkNest "TollRoad$Parser" (115 : Nat) "TollRoad$Network" "roadCount" "I" "TollRoad") ∈ lw_tbl := lw_at lw_m1 99 rfl
theorem q214 : (Jvm.Cond.fieldLinkNest "TollRoad" (101 : Nat) "TollRoad$Network" "roadCount" "I" "TollRoad") ∈ lw_tbl := lw_at lw_m1 100 rfl
theorem q224 : (Jvm.Cond.arrayClass Jvm.ClassFile.FieldType.int) ∈ lw_all := lw_g (lw_at lw_m1 110 rfl) rfl
theorem q225 : (Jvm.Cond.classLink "TollRoad$World" (22 : Nat) "TollRoad$Account") ∈ lw_all := lw_g (lw_at lw_m1 111 rfl) rfl
theorem q226 : (Jvm.Cond.arrayOver (Jvm.ClassFile.FieldType.object "TollRoad$Account")) ∈ lw_tbl := lw_at lw_m1 112 rfl
theorem q227 : (Jvm.Cond.classLink "TollRoad$World" (28 : Nat) "java/util/ArrayList") ∈ lw_all := lw_g (lw_at lw_m1 113 rfl) rfl
theorem q228 : (Jvm.Cond.instantiable "java/util/ArrayList" (3 : Nat)) ∈ lw_all := lw_g (lw_at lw_m1 114 rfl) rfl
theorem q229 : (Jvm.Cond.methodLink "TollRoad$World" (30 : Nat) ({ cls := "java/util/ArrayList", name := "<init>", desc := "(I)V" } : Jvm.MethodName)) ∈ lw_all := lw_g (lw_at lw_m1 115 rfl) rfl
theorem q230 : (Jvm.Cond.instanceMethod ({ cls := "java/util/ArrayList", name := "<init>", desc := "(I)V" } : Jvm.MethodName)) ∈ lw_all := lw_g (lw_at lw_m1 116 rfl) rfl
theorem q231 : (Jvm.Cond.code ({ cls := "java/util/ArrayList", name := "<init>", desc := "(I)V" } : Jvm.MethodName) prog_56_method_1_code (2 : Nat) (Option.none : Option Jvm.ClassFile.FieldType)) ∈ lw_all := lw_g (lw_at lw_m1 117 rfl) rfl
theorem q232 : (Jvm.Cond.methodLink "java/util/ArrayList" (1 : Nat) ({ cls := "java/util/AbstractList", name := "<init>", desc := "()V" } : Jvm.MethodName)) ∈ lw_all := lw_g (lw_at lw_m1 118 rfl) rfl
theorem q233 : (Jvm.Cond.instanceMethod ({ cls := "java/util/AbstractList", name := "<init>", desc := "()V" } : Jvm.MethodName)) ∈ lw_all := lw_g (lw_at lw_m1 119 rfl) rfl
theorem q234 : (Jvm.Cond.code ({ cls := "java/util/AbstractList", name := "<init>", desc := "()V" } : Jvm.MethodName) prog_51_method_1_code (1 : Nat) (Option.none : Option Jvm.ClassFile.FieldType)) ∈ lw_all := lw_g (lw_at lw_m1 120 rfl) rfl
theorem q235 : (Jvm.Cond.methodLink "java/util/AbstractList" (1 : Nat) ({ cls := "java/util/AbstractCollection", name := "<init>", desc := "()V" } : Jvm.MethodName)) ∈ lw_all := lw_g (lw_at lw_m1 121 rfl) rfl
theorem q236 : (Jvm.Cond.instanceMethod ({ cls := "java/util/AbstractCollection", name := "<init>", desc := "()V" } : Jvm.MethodName)) ∈ lw_all := lw_g (lw_at lw_m1 122 rfl) rfl
theorem q237 : (Jvm.Cond.code ({ cls := "java/util/AbstractCollection", name := "<init>", desc := "()V" } : Jvm.MethodName) prog_50_method_1_code (1 : Nat) (Option.none : Option Jvm.ClassFile.FieldType)) ∈ lw_all := lw_g (lw_at lw_m1 123 rfl) rfl
theorem q238 : (Jvm.Cond.methodLink "java/util/AbstractCollection" (1 : Nat) ({ cls := "java/lang/Object", name := "<init>", desc := "()V" } : Jvm.MethodName)) ∈ lw_all := lw_g (lw_at lw_m1 124 rfl) rfl
theorem q239 : (Jvm.Cond.classLink "java/util/ArrayList" (7 : Nat) "java/lang/Object") ∈ lw_all := lw_g (lw_at lw_m1 125 rfl) rfl
theorem q240 : (Jvm.Cond.arrayOver (Jvm.ClassFile.FieldType.object "java/lang/Object")) ∈ lw_tbl := lw_at lw_m1 126 rfl
theorem q245 : (Jvm.Cond.castable "java/lang/IllegalArgumentException" "java/lang/IllegalArgumentException") ∈ lw_tbl := lw_at lw_m1 131 rfl
theorem q268 : (Jvm.Cond.methodLink "java/lang/Throwable" (1 : Nat) ({ cls := "java/lang/Object", name := "<init>", desc := "()V" } : Jvm.MethodName)) ∈ lw_all := lw_g (lw_at lw_m1 154 rfl) rfl
theorem q269 : (Jvm.Cond.fieldLink "java/lang/Throwable" (13 : Nat) "java/lang/Throwable" "UNASSIGNED_STACK" "[Ljava/lang/StackTraceElement;") ∈ lw_all := lw_g (lw_at lw_m1 155 rfl) rfl
theorem q271 : (Jvm.Cond.fieldLink "java/lang/Throwable" (20 : Nat) "java/lang/Throwable" "SUPPRESSED_SENTINEL" "Ljava/util/List;") ∈ lw_all := lw_g (lw_at lw_m1 157 rfl) rfl
theorem q273 : (Jvm.Cond.methodLink "java/lang/Throwable" (27 : Nat) ({ cls := "java/lang/Throwable", name := "fillInStackTrace", desc := "()Ljava/lang/Throwable;" } : Jvm.MethodName)) ∈ lw_all := lw_g (lw_at lw_m1 159 rfl) rfl
theorem q300 : (Jvm.Cond.classLink "java/util/ArrayList" (20 : Nat) "java/lang/StringBuilder") ∈ lw_all := lw_g (lw_at lw_m1 186 rfl) rfl
theorem q301 : (Jvm.Cond.instantiable "java/lang/StringBuilder" (4 : Nat)) ∈ lw_all := lw_g (lw_at lw_m1 187 rfl) rfl
theorem q302 : (Jvm.Cond.methodLink "java/util/ArrayList" (22 : Nat) ({ cls := "java/lang/StringBuilder", name := "<init>", desc := "()V" } : Jvm.MethodName)) ∈ lw_all := lw_g (lw_at lw_m1 188 rfl) rfl
theorem q303 : (Jvm.Cond.instanceMethod ({ cls := "java/lang/StringBuilder", name := "<init>", desc := "()V" } : Jvm.MethodName)) ∈ lw_all := lw_g (lw_at lw_m1 189 rfl) rfl
theorem q304 : (Jvm.Cond.code ({ cls := "java/lang/StringBuilder", name := "<init>", desc := "()V" } : Jvm.MethodName) prog_42_method_1_code (1 : Nat) (Option.none : Option Jvm.ClassFile.FieldType)) ∈ lw_all := lw_g (lw_at lw_m1 190 rfl) rfl
theorem q305 : (Jvm.Cond.methodLink "java/lang/StringBuilder" (1 : Nat) ({ cls := "java/lang/AbstractStringBuilder", name := "<init>", desc := "(I)V" } : Jvm.MethodName)) ∈ lw_all := lw_g (lw_at lw_m1 191 rfl) rfl
theorem q306 : (Jvm.Cond.instanceMethod ({ cls := "java/lang/AbstractStringBuilder", name := "<init>", desc := "(I)V" } : Jvm.MethodName)) ∈ lw_all := lw_g (lw_at lw_m1 192 rfl) rfl
theorem q307 : (Jvm.Cond.code ({ cls := "java/lang/AbstractStringBuilder", name := "<init>", desc := "(I)V" } : Jvm.MethodName) prog_23_method_2_code (2 : Nat) (Option.none : Option Jvm.ClassFile.FieldType)) ∈ lw_all := lw_g (lw_at lw_m1 193 rfl) rfl
theorem q308 : (Jvm.Cond.methodLink "java/lang/AbstractStringBuilder" (3 : Nat) ({ cls := "java/lang/Object", name := "<init>", desc := "()V" } : Jvm.MethodName)) ∈ lw_all := lw_g (lw_at lw_m1 194 rfl) rfl
theorem q309 : (Jvm.Cond.fieldLink "java/lang/AbstractStringBuilder" (18 : Nat) "java/lang/String" "COMPACT_STRINGS" "Z") ∈ lw_all := lw_g (lw_at lw_m1 195 rfl) rfl
theorem q311 : (Jvm.Cond.methodLink "java/lang/AbstractStringBuilder" (26 : Nat) ({ cls := "java/lang/StringUTF16", name := "newBytesFor", desc := "(I)[B" } : Jvm.MethodName)) ∈ lw_all := lw_g (lw_at lw_m1 197 rfl) rfl
theorem q318 : (Jvm.Cond.fieldLink "java/lang/AbstractStringBuilder" (15 : Nat) "java/lang/AbstractStringBuilder" "value" "[B") ∈ lw_all := lw_g (lw_at lw_m1 204 rfl) rfl
theorem q319 : (Jvm.Cond.fieldLink "java/lang/AbstractStringBuilder" (22 : Nat) "java/lang/AbstractStringBuilder" "coder" "B") ∈ lw_all := lw_g (lw_at lw_m1 205 rfl) rfl
theorem q320 : (Jvm.Cond.fieldLink "java/lang/String" (1048 : Nat) "java/lang/AbstractStringBuilder" "maybeLatin1" "Z") ∈ lw_all := lw_g (lw_at lw_m1 206 rfl) rfl
theorem q321 : (Jvm.Cond.fieldLink "java/lang/AbstractStringBuilder" (79 : Nat) "java/lang/AbstractStringBuilder" "count" "I") ∈ lw_all := lw_g (lw_at lw_m1 207 rfl) rfl
theorem q330 : (Jvm.Cond.superclass "java/lang/StringBuilder" "java/lang/AbstractStringBuilder") ∈ lw_all := lw_g (lw_at lw_m1 216 rfl) rfl
theorem q331 : (Jvm.Cond.arrayClass Jvm.ClassFile.FieldType.byte) ∈ lw_all := lw_g (lw_at lw_m1 217 rfl) rfl
theorem q333 : (Jvm.Cond.methodLink "java/util/ArrayList" (25 : Nat) ({ cls := "java/lang/StringBuilder", name := "append", desc := "(Ljava/lang/String;)Ljava/lang/StringBuilder;" } : Jvm.MethodName)) ∈ lw_all := lw_g (lw_at lw_m1 219 rfl) rfl
theorem q344 : (Jvm.Cond.methodLink "java/lang/AbstractStringBuilder" (100 : Nat) ({ cls := "java/lang/AbstractStringBuilder", name := "ensureCapacityInternal", desc := "(I)V" } : Jvm.MethodName)) ∈ lw_all := lw_g (lw_at lw_m1 230 rfl) rfl
theorem q345 : (Jvm.Cond.privateMethod ({ cls := "java/lang/AbstractStringBuilder", name := "ensureCapacityInternal", desc := "(I)V" } : Jvm.MethodName)) ∈ lw_tbl := lw_at lw_m1 231 rfl
theorem q346 : (Jvm.Cond.instanceMethod ({ cls := "java/lang/AbstractStringBuilder", name := "ensureCapacityInternal", desc := "(I)V" } : Jvm.MethodName)) ∈ lw_all := lw_g (lw_at lw_m1 232 rfl) rfl
theorem q347 : (Jvm.Cond.code ({ cls := "java/lang/AbstractStringBuilder", name := "ensureCapacityInternal", desc := "(I)V" } : Jvm.MethodName) prog_23_method_9_code (3 : Nat) (Option.none : Option Jvm.ClassFile.FieldType)) ∈ lw_all := lw_g (lw_at lw_m1 233 rfl) rfl
theorem q348 : (Jvm.Cond.methodLink "java/lang/AbstractStringBuilder" (104 : Nat) ({ cls := "java/lang/AbstractStringBuilder", name := "newCapacity", desc := "(I)I" } : Jvm.MethodName)) ∈ lw_all := lw_g (lw_at lw_m1 234 rfl) rfl
theorem q349 : (Jvm.Cond.privateMethod ({ cls := "java/lang/AbstractStringBuilder", name := "newCapacity", desc := "(I)I" } : Jvm.MethodName)) ∈ lw_tbl := lw_at lw_m1 235 rfl
theorem q350 : (Jvm.Cond.instanceMethod ({ cls := "java/lang/AbstractStringBuilder", name := "newCapacity", desc := "(I)I" } : Jvm.MethodName)) ∈ lw_all := lw_g (lw_at lw_m1 236 rfl) rfl
theorem q351 : (Jvm.Cond.code ({ cls := "java/lang/AbstractStringBuilder", name := "newCapacity", desc := "(I)I" } : Jvm.MethodName) prog_23_method_10_code (6 : Nat) (Option.some Jvm.ClassFile.FieldType.int)) ∈ lw_all := lw_g (lw_at lw_m1 237 rfl) rfl
theorem q352 : (Jvm.Cond.methodLink "java/lang/AbstractStringBuilder" (114 : Nat) ({ cls := "jdk/internal/util/ArraysSupport", name := "newLength", desc := "(III)I" } : Jvm.MethodName)) ∈ lw_all := lw_g (lw_at lw_m1 238 rfl) rfl
theorem q353 : (Jvm.Cond.static ({ cls := "jdk/internal/util/ArraysSupport", name := "newLength", desc := "(III)I" } : Jvm.MethodName)) ∈ lw_all := lw_g (lw_at lw_m1 239 rfl) rfl
theorem q354 : (Jvm.Cond.code ({ cls := "jdk/internal/util/ArraysSupport", name := "newLength", desc := "(III)I" } : Jvm.MethodName) prog_90_method_27_code (4 : Nat) (Option.some Jvm.ClassFile.FieldType.int)) ∈ lw_all := lw_g (lw_at lw_m2 0 rfl) rfl
theorem q355 : (Jvm.Cond.methodLink "jdk/internal/util/ArraysSupport" (194 : Nat) ({ cls := "java/lang/Math", name := "max", desc := "(II)I" } : Jvm.MethodName)) ∈ lw_all := lw_g (lw_at lw_m2 1 rfl) rfl
theorem q356 : (Jvm.Cond.static ({ cls := "java/lang/Math", name := "max", desc := "(II)I" } : Jvm.MethodName)) ∈ lw_all := lw_g (lw_at lw_m2 2 rfl) rfl
theorem q357 : (Jvm.Cond.code ({ cls := "java/lang/Math", name := "max", desc := "(II)I" } : Jvm.MethodName) prog_37_method_65_code (2 : Nat) (Option.some Jvm.ClassFile.FieldType.int)) ∈ lw_all := lw_g (lw_at lw_m2 3 rfl) rfl
theorem q358 : (Jvm.Cond.constant "jdk/internal/util/ArraysSupport" (200 : Nat) (2147483639 : Int32)) ∈ lw_all := lw_g (lw_at lw_m2 4 rfl) rfl
theorem q359 : (Jvm.Cond.methodLink "jdk/internal/util/ArraysSupport" (201 : Nat) ({ cls := "jdk/internal/util/ArraysSupport", name := "hugeLength", desc := "(II)I" } : Jvm.MethodName)) ∈ lw_all := lw_g (lw_at lw_m2 5 rfl) rfl
theorem q362 : (Jvm.Cond.constant "java/lang/AbstractStringBuilder" (39 : Nat) (2147483647 : Int32)) ∈ lw_all := lw_g (lw_at lw_m2 8 rfl) rfl
theorem q363 : (Jvm.Cond.methodLink "java/lang/AbstractStringBuilder" (108 : Nat) ({ cls := "java/util/Arrays", name := "copyOf", desc := "([BI)[B" } : Jvm.MethodName)) ∈ lw_all := lw_g (lw_at lw_m2 9 rfl) rfl
theorem q364 : (Jvm.Cond.static ({ cls := "java/util/Arrays", name := "copyOf", desc := "([BI)[B" } : Jvm.MethodName)) ∈ lw_all := lw_g (lw_at lw_m2 10 rfl) rfl
theorem q365 : (Jvm.Cond.code ({ cls := "java/util/Arrays", name := "copyOf", desc := "([BI)[B" } : Jvm.MethodName) prog_58_method_121_code (3 : Nat) (Option.some (Jvm.ClassFile.FieldType.array Jvm.ClassFile.FieldType.byte))) ∈ lw_all := lw_g (lw_at lw_m2 11 rfl) rfl
theorem q366 : (Jvm.Cond.methodLink "java/util/Arrays" (310 : Nat) ({ cls := "[B", name := "clone", desc := "()Ljava/lang/Object;" } : Jvm.MethodName)) ∈ lw_all := lw_g (lw_at lw_m2 12 rfl) rfl
theorem q367 : (Jvm.Cond.sameMethod "[B" "java/lang/Object" "clone" "()Ljava/lang/Object;") ∈ lw_all := lw_g (lw_at lw_m2 13 rfl) rfl
theorem q368 : (Jvm.Cond.native ({ cls := "java/lang/Object", name := "clone", desc := "()Ljava/lang/Object;" } : Jvm.MethodName)) ∈ lw_all := lw_g (lw_at lw_m2 14 rfl) rfl
theorem q369 : (Jvm.Cond.instanceMethod ({ cls := "java/lang/Object", name := "clone", desc := "()Ljava/lang/Object;" } : Jvm.MethodName)) ∈ lw_all := lw_g (lw_at lw_m2 15 rfl) rfl
theorem q370 : (Jvm.Cond.selects "[B" ({ cls := "[B", name := "clone", desc := "()Ljava/lang/Object;" } : Jvm.MethodName) ({ cls := "java/lang/Object", name := "clone", desc := "()Ljava/lang/Object;" } : Jvm.MethodName)) ∈ lw_all := lw_g (lw_at lw_m2 16 rfl) rfl
theorem q371 : (Jvm.Cond.castable "[B" "java/lang/Cloneable") ∈ lw_tbl := lw_at lw_m2 17 rfl
theorem q372 : (Jvm.Cond.classLink "java/util/Arrays" (311 : Nat) "[B") ∈ lw_all := lw_g (lw_at lw_m2 18 rfl) rfl
theorem q373 : (Jvm.Cond.methodLink "java/util/Arrays" (304 : Nat) ({ cls := "java/lang/Math", name := "min", desc := "(II)I" } : Jvm.MethodName)) ∈ lw_all := lw_g (lw_at lw_m2 19 rfl) rfl
theorem q374 : (Jvm.Cond.static ({ cls := "java/lang/Math", name := "min", desc := "(II)I" } : Jvm.MethodName)) ∈ lw_all := lw_g (lw_at lw_m2 20 rfl) rfl
theorem q375 : (Jvm.Cond.code ({ cls := "java/lang/Math", name := "min", desc := "(II)I" } : Jvm.MethodName) prog_37_method_69_code (2 : Nat) (Option.some Jvm.ClassFile.FieldType.int)) ∈ lw_all := lw_g (lw_at lw_m2 21 rfl) rfl
theorem q376 : (Jvm.Cond.methodLink "java/util/Arrays" (150 : Nat) ({ cls := "java/lang/System", name := "arraycopy", desc := "(Ljava/lang/Object;ILjava/lang/Object;II)V" } : Jvm.MethodName)) ∈ lw_all := lw_g (lw_at lw_m2 22 rfl) rfl
theorem q377 : (Jvm.Cond.static ({ cls := "java/lang/System", name := "arraycopy", desc := "(Ljava/lang/Object;ILjava/lang/Object;II)V" } : Jvm.MethodName)) ∈ lw_all := lw_g (lw_at lw_m2 23 rfl) rfl
theorem q378 : (Jvm.Cond.native ({ cls := "java/lang/System", name := "arraycopy", desc := "(Ljava/lang/Object;ILjava/lang/Object;II)V" } : Jvm.MethodName)) ∈ lw_all := lw_g (lw_at lw_m2 24 rfl) rfl
theorem q379 : (Jvm.Cond.methodLink "java/lang/AbstractStringBuilder" (83 : Nat) ({ cls := "java/lang/AbstractStringBuilder", name := "isLatin1", desc := "()Z" } : Jvm.MethodName)) ∈ lw_all := lw_g (lw_at lw_m2 25 rfl) rfl
theorem q380 : (Jvm.Cond.instanceMethod ({ cls := "java/lang/AbstractStringBuilder", name := "isLatin1", desc := "()Z" } : Jvm.MethodName)) ∈ lw_all := lw_g (lw_at lw_m2 26 rfl) rfl
theorem q381 : (Jvm.Cond.sameMethod "java/lang/AbstractStringBuilder" "java/lang/AbstractStringBuilder" "isLatin1" "()Z") ∈ lw_all := lw_g (lw_at lw_m2 27 rfl) rfl
theorem q382 : (Jvm.Cond.selects "java/lang/StringBuilder" ({ cls := "java/lang/AbstractStringBuilder", name := "isLatin1", desc := "()Z" } : Jvm.MethodName) ({ cls := "java/lang/AbstractStringBuilder", name := "isLatin1", desc := "()Z" } : Jvm.MethodName)) ∈ lw_all := lw_g (lw_at lw_m2 28 rfl) rfl
theorem q383 : (Jvm.Cond.code ({ cls := "java/lang/AbstractStringBuilder", name := "isLatin1", desc := "()Z" } : Jvm.MethodName) prog_23_method_68_code (1 : Nat) (Option.some Jvm.ClassFile.FieldType.boolean)) ∈ lw_all := lw_g (lw_at lw_m2 29 rfl) rfl
theorem q396 : (Jvm.Cond.fieldLink "java/lang/String" (1053 : Nat) "jdk/internal/util/Preconditions" "SIOOBE_FORMATTER" "Ljava/util/function/BiFunction;") ∈ lw_all := lw_g (lw_at lw_m2 42 rfl) rfl
theorem q411 : (Jvm.Cond.instanceMethod ({ cls := "java/lang/String", name := "length", desc := "()I" } : Jvm.MethodName)) ∈ lw_all := lw_g (lw_at lw_m2 57 rfl) rfl
theorem q412 : (Jvm.Cond.selects "java/lang/String" ({ cls := "java/lang/String", name := "length", desc := "()I" } : Jvm.MethodName) ({ cls := "java/lang/String", name := "length", desc := "()I" } : Jvm.MethodName)) ∈ lw_all := lw_g (lw_at lw_m2 58 rfl) rfl
theorem q413 : (Jvm.Cond.code ({ cls := "java/lang/String", name := "length", desc := "()I" } : Jvm.MethodName) prog_41_method_54_code (1 : Nat) (Option.some Jvm.ClassFile.FieldType.int)) ∈ lw_all := lw_g (lw_at lw_m2 59 rfl) rfl
theorem q414 : (Jvm.Cond.methodLink "java/lang/String" (335 : Nat) ({ cls := "java/lang/String", name := "coder", desc := "()B" } : Jvm.MethodName)) ∈ lw_all := lw_g (lw_at lw_m2 60 rfl) rfl
theorem q415 : (Jvm.Cond.instanceMethod ({ cls := "java/lang/String", name := "coder", desc := "()B" } : Jvm.MethodName)) ∈ lw_all := lw_g (lw_at lw_m2 61 rfl) rfl
theorem q416 : (Jvm.Cond.selects "java/lang/String" ({ cls := "java/lang/String", name := "coder", desc := "()B" } : Jvm.MethodName) ({ cls := "java/lang/String", name := "coder", desc := "()B" } : Jvm.MethodName)) ∈ lw_all := lw_g (lw_at lw_m2 62 rfl) rfl
theorem q417 : (Jvm.Cond.code ({ cls := "java/lang/String", name := "coder", desc := "()B" } : Jvm.MethodName) prog_41_method_152_code (1 : Nat) (Option.some Jvm.ClassFile.FieldType.byte)) ∈ lw_all := lw_g (lw_at lw_m2 63 rfl) rfl
theorem q418 : (Jvm.Cond.fieldLink "java/lang/String" (38 : Nat) "java/lang/String" "COMPACT_STRINGS" "Z") ∈ lw_all := lw_g (lw_at lw_m2 64 rfl) rfl
theorem q428 : (Jvm.Cond.methodLink "java/lang/AbstractStringBuilder" (195 : Nat) ({ cls := "java/lang/AbstractStringBuilder", name := "inflate", desc := "()V" } : Jvm.MethodName)) ∈ lw_all := lw_g (lw_at lw_m2 74 rfl) rfl
theorem q453 : (Jvm.Cond.methodLink "java/util/ArrayList" (29 : Nat) ({ cls := "java/lang/StringBuilder", name := "append", desc := "(I)Ljava/lang/StringBuilder;" } : Jvm.MethodName)) ∈ lw_all := lw_g (lw_at lw_m2 99 rfl) rfl
theorem q478 : (Jvm.Cond.methodLink "java/util/ArrayList" (32 : Nat) ({ cls := "java/lang/StringBuilder", name := "toString", desc := "()Ljava/lang/String;" } : Jvm.MethodName)) ∈ lw_all := lw_g (lw_at lw_m2 124 rfl) rfl
theorem q479 : (Jvm.Cond.instanceMethod ({ cls := "java/lang/StringBuilder", name := "toString", desc := "()Ljava/lang/String;" } : Jvm.MethodName)) ∈ lw_all := lw_g (lw_at lw_m2 125 rfl) rfl
theorem q480 : (Jvm.Cond.selects "java/lang/StringBuilder" ({ cls := "java/lang/StringBuilder", name := "toString", desc := "()Ljava/lang/String;" } : Jvm.MethodName) ({ cls := "java/lang/StringBuilder", name := "toString", desc := "()Ljava/lang/String;" } : Jvm.MethodName)) ∈ lw_all := lw_g (lw_at lw_m2 126 rfl) rfl
theorem q481 : (Jvm.Cond.code ({ cls := "java/lang/StringBuilder", name := "toString", desc := "()Ljava/lang/String;" } : Jvm.MethodName) prog_42_method_42_code (1 : Nat) (Option.some (Jvm.ClassFile.FieldType.object "java/lang/String"))) ∈ lw_all := lw_g (lw_at lw_m2 127 rfl) rfl
theorem q482 : (Jvm.Cond.classLink "java/lang/StringBuilder" (18 : Nat) "java/lang/String") ∈ lw_all := lw_g (lw_at lw_m2 128 rfl) rfl
theorem q483 : (Jvm.Cond.instantiable "java/lang/String" (4 : Nat)) ∈ lw_all := lw_g (lw_at lw_m2 129 rfl) rfl
theorem q484 : (Jvm.Cond.methodLink "java/lang/StringBuilder" (137 : Nat) ({ cls := "java/lang/String", name := "<init>", desc := "(Ljava/lang/StringBuilder;)V" } : Jvm.MethodName)) ∈ lw_all := lw_g (lw_at lw_m2 130 rfl) rfl
theorem q485 : (Jvm.Cond.instanceMethod ({ cls := "java/lang/String", name := "<init>", desc := "(Ljava/lang/StringBuilder;)V" } : Jvm.MethodName)) ∈ lw_all := lw_g (lw_at lw_m2 131 rfl) rfl
theorem q486 : (Jvm.Cond.code ({ cls := "java/lang/String", name := "<init>", desc := "(Ljava/lang/StringBuilder;)V" } : Jvm.MethodName) prog_41_method_53_code (2 : Nat) (Option.none : Option Jvm.ClassFile.FieldType)) ∈ lw_all := lw_g (lw_at lw_m2 132 rfl) rfl
theorem q487 : (Jvm.Cond.methodLink "java/lang/String" (489 : Nat) ({ cls := "java/lang/String", name := "<init>", desc := "(Ljava/lang/AbstractStringBuilder;Ljava/lang/Void;)V" } : Jvm.MethodName)) ∈ lw_all := lw_g (lw_at lw_m2 133 rfl) rfl
theorem q488 : (Jvm.Cond.instanceMethod ({ cls := "java/lang/String", name := "<init>", desc := "(Ljava/lang/AbstractStringBuilder;Ljava/lang/Void;)V" } : Jvm.MethodName)) ∈ lw_all := lw_g (lw_at lw_m2 134 rfl) rfl
theorem q489 : (Jvm.Cond.code ({ cls := "java/lang/String", name := "<init>", desc := "(Ljava/lang/AbstractStringBuilder;Ljava/lang/Void;)V" } : Jvm.MethodName) prog_41_method_150_code (5 : Nat) (Option.none : Option Jvm.ClassFile.FieldType)) ∈ lw_all := lw_g (lw_at lw_m2 135 rfl) rfl
theorem q490 : (Jvm.Cond.methodLink "java/lang/String" (1 : Nat) ({ cls := "java/lang/Object", name := "<init>", desc := "()V" } : Jvm.MethodName)) ∈ lw_all := lw_g (lw_at lw_m2 136 rfl) rfl
theorem q491 : (Jvm.Cond.methodLink "java/lang/String" (552 : Nat) ({ cls := "java/lang/AbstractStringBuilder", name := "getValue", desc := "()[B" } : Jvm.MethodName)) ∈ lw_all := lw_g (lw_at lw_m2 137 rfl) rfl
theorem q492 : (Jvm.Cond.instanceMethod ({ cls := "java/lang/AbstractStringBuilder", name := "getValue", desc := "()[B" } : Jvm.MethodName)) ∈ lw_all := lw_g (lw_at lw_m2 138 rfl) rfl
theorem q493 : (Jvm.Cond.sameMethod "java/lang/AbstractStringBuilder" "java/lang/AbstractStringBuilder" "getValue" "()[B") ∈ lw_all := lw_g (lw_at lw_m2 139 rfl) rfl
theorem q494 : (Jvm.Cond.selects "java/lang/StringBuilder" ({ cls := "java/lang/AbstractStringBuilder", name := "getValue", desc := "()[B" } : Jvm.MethodName) ({ cls := "java/lang/AbstractStringBuilder", name := "getValue", desc := "()[B" } : Jvm.MethodName)) ∈ lw_all := lw_g (lw_at lw_m2 140 rfl) rfl
theorem q495 : (Jvm.Cond.code ({ cls := "java/lang/AbstractStringBuilder", name := "getValue", desc := "()[B" } : Jvm.MethodName) prog_23_method_64_code (1 : Nat) (Option.some (Jvm.ClassFile.FieldType.array Jvm.ClassFile.FieldType.byte))) ∈ lw_all := lw_g (lw_at lw_m2 141 rfl) rfl
theorem q496 : (Jvm.Cond.methodLink "java/lang/String" (549 : Nat) ({ cls := "java/lang/AbstractStringBuilder", name := "length", desc := "()I" } : Jvm.MethodName)) ∈ lw_all := lw_g (lw_at lw_m2 142 rfl) rfl
theorem q497 : (Jvm.Cond.instanceMethod ({ cls := "java/lang/AbstractStringBuilder", name := "length", desc := "()I" } : Jvm.MethodName)) ∈ lw_all := lw_g (lw_at lw_m2 143 rfl) rfl
theorem q498 : (Jvm.Cond.sameMethod "java/lang/AbstractStringBuilder" "java/lang/AbstractStringBuilder" "length" "()I") ∈ lw_all := lw_g (lw_at lw_m2 144 rfl) rfl
theorem q499 : (Jvm.Cond.selects "java/lang/StringBuilder" ({ cls := "java/lang/AbstractStringBuilder", name := "length", desc := "()I" } : Jvm.MethodName) ({ cls := "java/lang/StringBuilder", name := "length", desc := "()I" } : Jvm.MethodName)) ∈ lw_all := lw_g (lw_at lw_m2 145 rfl) rfl
theorem q500 : (Jvm.Cond.instanceMethod ({ cls := "java/lang/StringBuilder", name := "length", desc := "()I" } : Jvm.MethodName)) ∈ lw_all := lw_g (lw_at lw_m2 146 rfl) rfl
theorem q501 : (Jvm.Cond.code ({ cls := "java/lang/StringBuilder", name := "length", desc := "()I" } : Jvm.MethodName) prog_42_method_93_code (1 : Nat) (Option.some Jvm.ClassFile.FieldType.int)) ∈ lw_all := lw_g (lw_at lw_m2 147 rfl) rfl
theorem q502 : (Jvm.Cond.methodLink "java/lang/StringBuilder" (343 : Nat) ({ cls := "java/lang/AbstractStringBuilder", name := "length", desc := "()I" } : Jvm.MethodName)) ∈ lw_all := lw_g (lw_at lw_m2 148 rfl) rfl
theorem q503 : (Jvm.Cond.code ({ cls := "java/lang/AbstractStringBuilder", name := "length", desc := "()I" } : Jvm.MethodName) prog_23_method_6_code (1 : Nat) (Option.some Jvm.ClassFile.FieldType.int)) ∈ lw_all := lw_g (lw_at lw_m2 149 rfl) rfl
theorem q504 : (Jvm.Cond.methodLink "java/lang/String" (1047 : Nat) ({ cls := "java/lang/AbstractStringBuilder", name := "isLatin1", desc := "()Z" } : Jvm.MethodName)) ∈ lw_all := lw_g (lw_at lw_m2 150 rfl) rfl
theorem q505 : (Jvm.Cond.methodLink "java/lang/String" (54 : Nat) ({ cls := "java/util/Arrays", name := "copyOfRange", desc := "([BII)[B" } : Jvm.MethodName)) ∈ lw_all := lw_g (lw_at lw_m2 151 rfl) rfl
theorem q506 : (Jvm.Cond.static ({ cls := "java/util/Arrays", name := "copyOfRange", desc := "([BII)[B" } : Jvm.MethodName)) ∈ lw_all := lw_g (lw_at lw_m2 152 rfl) rfl
theorem q507 : (Jvm.Cond.code ({ cls := "java/util/Arrays", name := "copyOfRange", desc := "([BII)[B" } : Jvm.MethodName) prog_58_method_132_code (3 : Nat) (Option.some (Jvm.ClassFile.FieldType.array Jvm.ClassFile.FieldType.byte))) ∈ lw_all := lw_g (lw_at lw_m2 153 rfl) rfl
theorem q508 : (Jvm.Cond.methodLink "java/util/Arrays" (339 : Nat) ({ cls := "java/util/Arrays", name := "copyOfRangeByte", desc := "([BII)[B" } : Jvm.MethodName)) ∈ lw_all := lw_g (lw_at lw_m2 154 rfl) rfl
theorem q509 : (Jvm.Cond.static ({ cls := "java/util/Arrays", name := "copyOfRangeByte", desc := "([BII)[B" } : Jvm.MethodName)) ∈ lw_all := lw_g (lw_at lw_m2 155 rfl) rfl
theorem q510 : (Jvm.Cond.code ({ cls := "java/util/Arrays", name := "copyOfRangeByte", desc := "([BII)[B" } : Jvm.MethodName) prog_58_method_133_code (5 : Nat) (Option.some (Jvm.ClassFile.FieldType.array Jvm.ClassFile.FieldType.byte))) ∈ lw_all := lw_g (lw_at lw_m2 156 rfl) rfl
theorem q511 : (Jvm.Cond.methodLink "java/util/Arrays" (343 : Nat) ({ cls := "java/util/Arrays", name := "checkLength", desc := "(II)V" } : Jvm.MethodName)) ∈ lw_all := lw_g (lw_at lw_m2 157 rfl) rfl
theorem q512 : (Jvm.Cond.static ({ cls := "java/util/Arrays", name := "checkLength", desc := "(II)V" } : Jvm.MethodName)) ∈ lw_all := lw_g (lw_at lw_m2 158 rfl) rfl
theorem q513 : (Jvm.Cond.code ({ cls := "java/util/Arrays", name := "checkLength", desc := "(II)V" } : Jvm.MethodName) prog_58_method_131_code (2 : Nat) (Option.none : Option Jvm.ClassFile.FieldType)) ∈ lw_all := lw_g (lw_at lw_m2 159 rfl) rfl
theorem q515 : (Jvm.Cond.classLink "java/util/Arrays" (45 : Nat) "java/lang/StringBuilder") ∈ lw_all := lw_g (lw_at lw_m2 161 rfl) rfl
theorem q516 : (Jvm.Cond.methodLink "java/util/Arrays" (47 : Nat) ({ cls := "java/lang/StringBuilder", name := "<init>", desc := "()V" } : Jvm.MethodName)) ∈ lw_all := lw_g (lw_at lw_m2 162 rfl) rfl
theorem q517 : (Jvm.Cond.methodLink "java/util/Arrays" (54 : Nat) ({ cls := "java/lang/StringBuilder", name := "append", desc := "(I)Ljava/lang/StringBuilder;" } : Jvm.MethodName)) ∈ lw_all := lw_g (lw_at lw_m2 163 rfl) rfl
theorem q519 : (Jvm.Cond.methodLink "java/util/Arrays" (50 : Nat) ({ cls := "java/lang/StringBuilder", name := "append", desc := "(Ljava/lang/String;)Ljava/lang/StringBuilder;" } : Jvm.MethodName)) ∈ lw_all := lw_g (lw_at lw_m2 165 rfl) rfl
theorem q520 : (Jvm.Cond.methodLink "java/util/Arrays" (61 : Nat) ({ cls := "java/lang/StringBuilder", name := "toString", desc := "()Ljava/lang/String;" } : Jvm.MethodName)) ∈ lw_all := lw_g (lw_at lw_m2 166 rfl) rfl
theorem q521 : (Jvm.Cond.methodLink "java/util/Arrays" (65 : Nat) ({ cls := "java/lang/IllegalArgumentException", name := "<init>", desc := "(Ljava/lang/String;)V" } : Jvm.MethodName)) ∈ lw_all := lw_g (lw_at lw_m2 167 rfl) rfl
theorem q534 : (Jvm.Cond.fieldLink "java/lang/Throwable" (31 : Nat) "java/lang/Throwable" "detailMessage" "Ljava/lang/String;") ∈ lw_all := lw_g (lw_at lw_m2 180 rfl) rfl
theorem q535 : (Jvm.Cond.fieldLink "java/lang/Throwable" (7 : Nat) "java/lang/Throwable" "cause" "Ljava/lang/Throwable;") ∈ lw_all := lw_g (lw_at lw_m2 181 rfl) rfl
theorem q536 : (Jvm.Cond.fieldLink "java/lang/Throwable" (17 : Nat) "java/lang/Throwable" "stackTrace" "[Ljava/lang/StackTraceElement;") ∈ lw_all := lw_g (lw_at lw_m2 182 rfl) rfl
theorem q537 : (Jvm.Cond.fieldLink "java/lang/Throwable" (24 : Nat) "java/lang/Throwable" "suppressedExceptions" "Ljava/util/List;") ∈ lw_all := lw_g (lw_at lw_m2 183 rfl) rfl
theorem q546 : (Jvm.Cond.methodLink "java/lang/String" (1051 : Nat) ({ cls := "java/lang/StringUTF16", name := "compress", desc := "([BII)[B" } : Jvm.MethodName)) ∈ lw_all := lw_g (lw_at lw_m2 192 rfl) rfl
theorem q556 : (Jvm.Cond.methodLink "java/lang/String" (47 : Nat) ({ cls := "java/lang/StringUTF16", name := "coderFromArrayLen", desc := "([BI)B" } : Jvm.MethodName)) ∈ lw_all := lw_g (lw_at lw_m2 202 rfl) rfl
theorem q559 : (Jvm.Cond.fieldLink "java/lang/String" (9 : Nat) "java/lang/String" "value" "[B") ∈ lw_all := lw_g (lw_at lw_m2 205 rfl) rfl
theorem q560 : (Jvm.Cond.fieldLink "java/lang/String" (15 : Nat) "java/lang/String" "coder" "B") ∈ lw_all := lw_g (lw_at lw_m2 206 rfl) rfl
theorem q561 : (Jvm.Cond.fieldLink "java/lang/String" (19 : Nat) "java/lang/String" "hash" "I") ∈ lw_all := lw_g (lw_at lw_m2 207 rfl) rfl
theorem q562 : (Jvm.Cond.fieldLink "java/lang/String" (23 : Nat) "java/lang/String" "hashIsZero" "Z") ∈ lw_all := lw_g (lw_at lw_m2 208 rfl) rfl
theorem q572 : (Jvm.Cond.methodLink "java/util/ArrayList" (36 : Nat) ({ cls := "java/lang/IllegalArgumentException", name := "<init>", desc := "(Ljava/lang/String;)V" } : Jvm.MethodName)) ∈ lw_all := lw_g (lw_at lw_m2 218 rfl) rfl
theorem q573 : (Jvm.Cond.fieldLink "java/util/ArrayList" (9 : Nat) "java/util/ArrayList" "elementData" "[Ljava/lang/Object;") ∈ lw_all := lw_g (lw_at lw_m2 219 rfl) rfl
theorem q574 : (Jvm.Cond.fieldLink "java/util/ArrayList$Itr" (37 : Nat) "java/util/ArrayList" "elementData" "[Ljava/lang/Object;") ∈ lw_all := lw_g (lw_at lw_m2 220 rfl) rfl
theorem q575 : (Jvm.Cond.fieldLinkNest "java/util/ArrayList$Itr" (28 : Nat) "java/util/ArrayList" "size" "I" "java/util/ArrayList") ∈ lw_tbl := lw_at lw_m2 221 rfl
theorem q576 : (Jvm.Cond.fieldLink "java/util/ArrayList" (48 : Nat) "java/util/ArrayList" "size" "I") ∈ lw_all := lw_g (lw_at lw_m2 222 rfl) rfl
theorem q577 : (Jvm.Cond.fieldLink "java/util/AbstractList" (7 : Nat) "java/util/AbstractList" "modCount" "I") ∈ lw_all := lw_g (lw_at lw_m2 223 rfl) rfl
theorem q578 : (Jvm.Cond.fieldLink "java/util/ArrayList$Itr" (17 : Nat) "java/util/ArrayList" "modCount" "I") ∈ lw_all := lw_g (lw_at lw_m2 224 rfl) rfl
theorem q579 : (Jvm.Cond.sameField "java/util/ArrayList" "java/util/AbstractList" "modCount" "I") ∈ lw_all := lw_g (lw_at lw_m2 225 rfl) rfl
theorem q580 : (Jvm.Cond.fieldLink "java/util/ArrayList" (63 : Nat) "java/util/ArrayList" "modCount" "I") ∈ lw_all := lw_g (lw_at lw_m2 226 rfl) rfl
theorem q588 : (Jvm.Cond.classLink "TollRoad$World" (43 : Nat) "java/util/HashMap") ∈ lw_all := lw_g (lw_at lw_m2 234 rfl) rfl
theorem q589 : (Jvm.Cond.instantiable "java/util/HashMap" (8 : Nat)) ∈ lw_all := lw_g (lw_at lw_m2 235 rfl) rfl
theorem q590 : (Jvm.Cond.methodLink "TollRoad$World" (45 : Nat) ({ cls := "java/util/HashMap", name := "<init>", desc := "()V" } : Jvm.MethodName)) ∈ lw_all := lw_g (lw_at lw_m2 236 rfl) rfl
theorem q591 : (Jvm.Cond.instanceMethod ({ cls := "java/util/HashMap", name := "<init>", desc := "()V" } : Jvm.MethodName)) ∈ lw_all := lw_g (lw_at lw_m2 237 rfl) rfl
theorem q592 : (Jvm.Cond.code ({ cls := "java/util/HashMap", name := "<init>", desc := "()V" } : Jvm.MethodName) prog_61_method_7_code (1 : Nat) (Option.none : Option Jvm.ClassFile.FieldType)) ∈ lw_all := lw_g (lw_at lw_m2 238 rfl) rfl
theorem q593 : (Jvm.Cond.methodLink "java/util/HashMap" (43 : Nat) ({ cls := "java/util/AbstractMap", name := "<init>", desc := "()V" } : Jvm.MethodName)) ∈ lw_all := lw_g (lw_at lw_m2 239 rfl) rfl
theorem q594 : (Jvm.Cond.instanceMethod ({ cls := "java/util/AbstractMap", name := "<init>", desc := "()V" } : Jvm.MethodName)) ∈ lw_all := lw_g (lw_at lw_m3 0 rfl) rfl
theorem q595 : (Jvm.Cond.code ({ cls := "java/util/AbstractMap", name := "<init>", desc := "()V" } : Jvm.MethodName) prog_52_method_1_code (1 : Nat) (Option.none : Option Jvm.ClassFile.FieldType)) ∈ lw_all := lw_g (lw_at lw_m3 1 rfl) rfl
theorem q596 : (Jvm.Cond.methodLink "java/util/AbstractMap" (1 : Nat) ({ cls := "java/lang/Object", name := "<init>", desc := "()V" } : Jvm.MethodName)) ∈ lw_all := lw_g (lw_at lw_m3 2 rfl) rfl
theorem q597 : (Jvm.Cond.constantFloat "java/util/HashMap" (92 : Nat) (1061158912 : UInt32)) ∈ lw_all := lw_g (lw_at lw_m3 3 rfl) rfl
theorem q598 : (Jvm.Cond.fieldLink "java/util/HashMap$HashIterator" (22 : Nat) "java/util/HashMap" "table" "[Ljava/util/HashMap$Node;") ∈ lw_all := lw_g (lw_at lw_m3 4 rfl) rfl
theorem q599 : (Jvm.Cond.fieldLink "java/util/HashMap" (105 : Nat) "java/util/HashMap" "table" "[Ljava/util/HashMap$Node;") ∈ lw_all := lw_g (lw_at lw_m3 5 rfl) rfl
theorem q600 : (Jvm.Cond.fieldLink "java/util/HashMap" (266 : Nat) "java/util/HashMap" "entrySet" "Ljava/util/Set;") ∈ lw_all := lw_g (lw_at lw_m3 6 rfl) rfl
theorem q601 : (Jvm.Cond.fieldLink "java/util/HashMap$HashIterator" (36 : Nat) "java/util/HashMap" "size" "I") ∈ lw_all := lw_g (lw_at lw_m3 7 rfl) rfl
theorem q602 : (Jvm.Cond.fieldLink "java/util/HashMap" (156 : Nat) "java/util/HashMap" "size" "I") ∈ lw_all := lw_g (lw_at lw_m3 8 rfl) rfl
theorem q603 : (Jvm.Cond.fieldLink "java/util/HashMap$HashIterator" (13 : Nat) "java/util/HashMap" "modCount" "I") ∈ lw_all := lw_g (lw_at lw_m3 9 rfl) rfl
theorem q604 : (Jvm.Cond.fieldLink "java/util/HashMap" (202 : Nat) "java/util/HashMap" "modCount" "I") ∈ lw_all := lw_g (lw_at lw_m3 10 rfl) rfl
theorem q605 : (Jvm.Cond.fieldLink "java/util/HashMap" (88 : Nat) "java/util/HashMap" "threshold" "I") ∈ lw_all := lw_g (lw_at lw_m3 11 rfl) rfl
theorem q606 : (Jvm.Cond.fieldLink "java/util/HashMap" (81 : Nat) "java/util/HashMap" "loadFactor" "F") ∈ lw_all := lw_g (lw_at lw_m3 12 rfl) rfl
theorem q607 : (Jvm.Cond.fieldLink "java/util/TreeMap" (233 : Nat) "java/util/TreeMap" "values" "Ljava/util/Collection;") ∈ lw_all := lw_g (lw_at lw_m3 13 rfl) rfl
theorem q608 : (Jvm.Cond.sameField "java/util/TreeMap" "java/util/AbstractMap" "values" "Ljava/util/Collection;") ∈ lw_all := lw_g (lw_at lw_m3 14 rfl) rfl
theorem q626 : (Jvm.Cond.fieldLink "TollRoad$World" (12 : Nat) "TollRoad$World" "network" "LTollRoad$Network;") ∈ lw_all := lw_g (lw_at lw_m3 32 rfl) rfl
theorem q627 : (Jvm.Cond.fieldLinkNest "TollRoad" (37 : Nat) "TollRoad$World" "network" "LTollRoad$Network;" "TollRoad") ∈ lw_tbl := lw_at lw_m3 33 rfl
theorem q628 : (Jvm.Cond.fieldLinkNest "TollRoad$Parser" (101 : Nat) "TollRoad$World" "network" "LTollRoad$Network;" "TollRoad") ∈ lw_tbl := lw_at lw_m3 34 rfl
theorem q629 : (Jvm.Cond.fieldLink "TollRoad$World" (18 : Nat) "TollRoad$World" "settings" "[I") ∈ lw_all := lw_g (lw_at lw_m3 35 rfl) rfl
theorem q630 : (Jvm.Cond.fieldLinkNest "TollRoad$Parser" (148 : Nat) "TollRoad$World" "settings" "[I" "TollRoad") ∈ lw_tbl := lw_at lw_m3 36 rfl
theorem q631 : (Jvm.Cond.fieldLinkNest "TollRoad" (139 : Nat) "TollRoad$World" "settings" "[I" "TollRoad") ∈ lw_tbl := lw_at lw_m3 37 rfl
theorem q632 : (Jvm.Cond.fieldLink "TollRoad$World" (24 : Nat) "TollRoad$World" "accounts" "[LTollRoad$Account;") ∈ lw_all := lw_g (lw_at lw_m3 38 rfl) rfl
theorem q633 : (Jvm.Cond.fieldLinkNest "TollRoad" (73 : Nat) "TollRoad$World" "accounts" "[LTollRoad$Account;" "TollRoad") ∈ lw_tbl := lw_at lw_m3 39 rfl
theorem q634 : (Jvm.Cond.fieldLink "TollRoad$World" (60 : Nat) "TollRoad$World" "accountCount" "I") ∈ lw_all := lw_g (lw_at lw_m3 40 rfl) rfl
theorem q635 : (Jvm.Cond.fieldLinkNest "TollRoad" (70 : Nat) "TollRoad$World" "accountCount" "I" "TollRoad") ∈ lw_tbl := lw_at lw_m3 41 rfl
theorem q636 : (Jvm.Cond.fieldLinkNest "TollRoad$Parser" (121 : Nat) "TollRoad$World" "accountCount" "I" "TollRoad") ∈ lw_tbl := lw_at lw_m3 42 rfl
theorem q637 : (Jvm.Cond.fieldLink "TollRoad$World" (33 : Nat) "TollRoad$World" "vehicles" "Ljava/util/ArrayList;") ∈ lw_all := lw_g (lw_at lw_m3 43 rfl) rfl
theorem q638 : (Jvm.Cond.fieldLinkNest "TollRoad$Order" (13 : Nat) "TollRoad$World" "vehicles" "Ljava/util/ArrayList;" "TollRoad") ∈ lw_tbl := lw_at lw_m3 44 rfl
theorem q639 : (Jvm.Cond.fieldLinkNest "TollRoad" (54 : Nat) "TollRoad$World" "vehicles" "Ljava/util/ArrayList;" "TollRoad") ∈ lw_tbl := lw_at lw_m3 45 rfl
theorem q640 : (Jvm.Cond.fieldLinkNest "TollRoad$Parser" (129 : Nat) "TollRoad$World" "vehicles" "Ljava/util/ArrayList;" "TollRoad") ∈ lw_tbl := lw_at lw_m3 46 rfl
theorem q641 : (Jvm.Cond.fieldLink "TollRoad$World" (37 : Nat) "TollRoad$World" "reads" "Ljava/util/ArrayList;") ∈ lw_all := lw_g (lw_at lw_m3 47 rfl) rfl
theorem q642 : (Jvm.Cond.fieldLinkNest "TollRoad" (143 : Nat) "TollRoad$World" "reads" "Ljava/util/ArrayList;" "TollRoad") ∈ lw_tbl := lw_at lw_m3 48 rfl
theorem q643 : (Jvm.Cond.fieldLink "TollRoad$World" (40 : Nat) "TollRoad$World" "bills" "Ljava/util/ArrayList;") ∈ lw_all := lw_g (lw_at lw_m3 49 rfl) rfl
theorem q644 : (Jvm.Cond.fieldLinkNest "TollRoad" (165 : Nat) "TollRoad$World" "bills" "Ljava/util/ArrayList;" "TollRoad") ∈ lw_tbl := lw_at lw_m3 50 rfl
theorem q645 : (Jvm.Cond.fieldLink "TollRoad$World" (46 : Nat) "TollRoad$World" "marks" "Ljava/util/HashMap;") ∈ lw_all := lw_g (lw_at lw_m3 51 rfl) rfl
theorem q663 : (Jvm.Cond.arrayOver (Jvm.ClassFile.FieldType.object "TollRoad$World")) ∈ lw_tbl := lw_at lw_m3 69 rfl
theorem q664 : (Jvm.Cond.fieldLink "TollRoad" (19 : Nat) "TollRoad" "now" "LTollRoad$World;") ∈ lw_all := lw_g (lw_at lw_m3 70 rfl) rfl
theorem q665 : (Jvm.Cond.fieldLink "TollRoad" (25 : Nat) "TollRoad" "saved" "[LTollRoad$World;") ∈ lw_all := lw_g (lw_at lw_m3 71 rfl) rfl
theorem q666 : (Jvm.Cond.fieldLinkNest "TollRoad$Parser" (29 : Nat) "TollRoad" "text" "[B" "TollRoad") ∈ lw_tbl := lw_at lw_m3 72 rfl
theorem q667 : (Jvm.Cond.fieldLink "TollRoad" (29 : Nat) "TollRoad" "text" "[B") ∈ lw_all := lw_g (lw_at lw_m3 73 rfl) rfl
theorem q668 : (Jvm.Cond.fieldLink "TollRoad" (445 : Nat) "TollRoad" "textLength" "I") ∈ lw_all := lw_g (lw_at lw_m3 74 rfl) rfl
theorem q669 : (Jvm.Cond.fieldLink "TollRoad" (453 : Nat) "TollRoad" "errorCode" "I") ∈ lw_all := lw_g (lw_at lw_m3 75 rfl) rfl
theorem q670 : (Jvm.Cond.fieldLink "TollRoad" (33 : Nat) "TollRoad" "errorPosition" "I") ∈ lw_all := lw_g (lw_at lw_m3 76 rfl) rfl
theorem q684 : (Jvm.Cond.methodLink "TollRoadLaw" (245 : Nat) ({ cls := "TollRoad", name := "revenue", desc := "()J" } : Jvm.MethodName)) ∈ lw_all := lw_g (lw_at lw_m3 90 rfl) rfl
theorem q685 : (Jvm.Cond.instanceMethod ({ cls := "TollRoad", name := "revenue", desc := "()J" } : Jvm.MethodName)) ∈ lw_all := lw_g (lw_at lw_m3 91 rfl) rfl
theorem q686 : (Jvm.Cond.selects "TollRoad" ({ cls := "TollRoad", name := "revenue", desc := "()J" } : Jvm.MethodName) ({ cls := "TollRoad", name := "revenue", desc := "()J" } : Jvm.MethodName)) ∈ lw_all := lw_g (lw_at lw_m3 92 rfl) rfl
theorem q687 : (Jvm.Cond.code ({ cls := "TollRoad", name := "revenue", desc := "()J" } : Jvm.MethodName) prog_1_method_48_code (5 : Nat) (Option.some Jvm.ClassFile.FieldType.long)) ∈ lw_all := lw_g (lw_at lw_m3 93 rfl) rfl
theorem q688 : (Jvm.Cond.methodLink "TollRoad" (146 : Nat) ({ cls := "java/util/ArrayList", name := "iterator", desc := "()Ljava/util/Iterator;" } : Jvm.MethodName)) ∈ lw_all := lw_g (lw_at lw_m3 94 rfl) rfl
theorem q689 : (Jvm.Cond.instanceMethod ({ cls := "java/util/ArrayList", name := "iterator", desc := "()Ljava/util/Iterator;" } : Jvm.MethodName)) ∈ lw_all := lw_g (lw_at lw_m3 95 rfl) rfl
theorem q690 : (Jvm.Cond.selects "java/util/ArrayList" ({ cls := "java/util/ArrayList", name := "iterator", desc := "()Ljava/util/Iterator;" } : Jvm.MethodName) ({ cls := "java/util/ArrayList", name := "iterator", desc := "()Ljava/util/Iterator;" } : Jvm.MethodName)) ∈ lw_all := lw_g (lw_at lw_m3 96 rfl) rfl
theorem q691 : (Jvm.Cond.code ({ cls := "java/util/ArrayList", name := "iterator", desc := "()Ljava/util/Iterator;" } : Jvm.MethodName) prog_56_method_55_code (1 : Nat) (Option.some (Jvm.ClassFile.FieldType.object "java/util/Iterator"))) ∈ lw_all := lw_g (lw_at lw_m3 97 rfl) rfl
theorem q692 : (Jvm.Cond.classLink "java/util/ArrayList" (267 : Nat) "java/util/ArrayList$Itr") ∈ lw_all := lw_g (lw_at lw_m3 98 rfl) rfl
theorem q693 : (Jvm.Cond.instantiable "java/util/ArrayList$Itr" (4 : Nat)) ∈ lw_all := lw_g (lw_at lw_m3 99 rfl) rfl
theorem q694 : (Jvm.Cond.methodLink "java/util/ArrayList" (269 : Nat) ({ cls := "java/util/ArrayList$Itr", name := "<init>", desc := "(Ljava/util/ArrayList;)V" } : Jvm.MethodName)) ∈ lw_all := lw_g (lw_at lw_m3 100 rfl) rfl
theorem q695 : (Jvm.Cond.instanceMethod ({ cls := "java/util/ArrayList$Itr", name := "<init>", desc := "(Ljava/util/ArrayList;)V" } : Jvm.MethodName)) ∈ lw_all := lw_g (lw_at lw_m3 101 rfl) rfl
theorem q696 : (Jvm.Cond.code ({ cls := "java/util/ArrayList$Itr", name := "<init>", desc := "(Ljava/util/ArrayList;)V" } : Jvm.MethodName) prog_57_method_1_code (2 : Nat) (Option.none : Option Jvm.ClassFile.FieldType)) ∈ lw_all := lw_g (lw_at lw_m3 102 rfl) rfl
theorem q697 : (Jvm.Cond.methodLink "java/util/ArrayList$Itr" (7 : Nat) ({ cls := "java/lang/Object", name := "<init>", desc := "()V" } : Jvm.MethodName)) ∈ lw_all := lw_g (lw_at lw_m3 103 rfl) rfl
theorem q698 : (Jvm.Cond.fieldLink "java/util/ArrayList$Itr" (25 : Nat) "java/util/ArrayList$Itr" "cursor" "I") ∈ lw_all := lw_g (lw_at lw_m3 104 rfl) rfl
theorem q699 : (Jvm.Cond.fieldLink "java/util/ArrayList$Itr" (13 : Nat) "java/util/ArrayList$Itr" "lastRet" "I") ∈ lw_all := lw_g (lw_at lw_m3 105 rfl) rfl
theorem q700 : (Jvm.Cond.fieldLink "java/util/ArrayList$Itr" (22 : Nat) "java/util/ArrayList$Itr" "expectedModCount" "I") ∈ lw_all := lw_g (lw_at lw_m3 106 rfl) rfl
theorem q701 : (Jvm.Cond.fieldLink "java/util/ArrayList$Itr" (1 : Nat) "java/util/ArrayList$Itr" "this$0" "Ljava/util/ArrayList;") ∈ lw_all := lw_g (lw_at lw_m3 107 rfl) rfl
theorem q712 : (Jvm.Cond.methodLink "TollRoad" (150 : Nat) ({ cls := "java/util/Iterator", name := "hasNext", desc := "()Z" } : Jvm.MethodName)) ∈ lw_all := lw_g (lw_at lw_m3 118 rfl) rfl
theorem q713 : (Jvm.Cond.interfaceMethod "java/util/Iterator" "java/util/Iterator" "hasNext" "()Z") ∈ lw_tbl := lw_at lw_m3 119 rfl
theorem q714 : (Jvm.Cond.declares ({ cls := "java/util/Iterator", name := "hasNext", desc := "()Z" } : Jvm.MethodName)) ∈ lw_tbl := lw_at lw_m3 120 rfl
theorem q715 : (Jvm.Cond.castable "java/util/ArrayList$Itr" "java/util/Iterator") ∈ lw_tbl := lw_at lw_m3 121 rfl
theorem q716 : (Jvm.Cond.selects "java/util/ArrayList$Itr" ({ cls := "java/util/Iterator", name := "hasNext", desc := "()Z" } : Jvm.MethodName) ({ cls := "java/util/ArrayList$Itr", name := "hasNext", desc := "()Z" } : Jvm.MethodName)) ∈ lw_all := lw_g (lw_at lw_m3 122 rfl) rfl
theorem q717 : (Jvm.Cond.unhidden "java/util/ArrayList$Itr" "hasNext" "()Z") ∈ lw_tbl := lw_at lw_m3 123 rfl
theorem q718 : (Jvm.Cond.instanceMethod ({ cls := "java/util/ArrayList$Itr", name := "hasNext", desc := "()Z" } : Jvm.MethodName)) ∈ lw_all := lw_g (lw_at lw_m3 124 rfl) rfl
theorem q719 : (Jvm.Cond.publicMethod ({ cls := "java/util/ArrayList$Itr", name := "hasNext", desc := "()Z" } : Jvm.MethodName)) ∈ lw_tbl := lw_at lw_m3 125 rfl
theorem q720 : (Jvm.Cond.code ({ cls := "java/util/ArrayList$Itr", name := "hasNext", desc := "()Z" } : Jvm.MethodName) prog_57_method_2_code (1 : Nat) (Option.some Jvm.ClassFile.FieldType.boolean)) ∈ lw_all := lw_g (lw_at lw_m3 126 rfl) rfl
theorem q721 : (Jvm.Cond.castable "java/util/HashMap$EntryIterator" "java/util/Iterator") ∈ lw_tbl := lw_at lw_m3 127 rfl
theorem q722 : (Jvm.Cond.selects "java/util/HashMap$EntryIterator" ({ cls := "java/util/Iterator", name := "hasNext", desc := "()Z" } : Jvm.MethodName) ({ cls := "java/util/HashMap$HashIterator", name := "hasNext", desc := "()Z" } : Jvm.MethodName)) ∈ lw_all := lw_g (lw_at lw_m3 128 rfl) rfl
theorem q723 : (Jvm.Cond.unhidden "java/util/HashMap$EntryIterator" "hasNext" "()Z") ∈ lw_tbl := lw_at lw_m3 129 rfl
theorem q724 : (Jvm.Cond.instanceMethod ({ cls := "java/util/HashMap$HashIterator", name := "hasNext", desc := "()Z" } : Jvm.MethodName)) ∈ lw_all := lw_g (lw_at lw_m3 130 rfl) rfl
theorem q725 : (Jvm.Cond.publicMethod ({ cls := "java/util/HashMap$HashIterator", name := "hasNext", desc := "()Z" } : Jvm.MethodName)) ∈ lw_tbl := lw_at lw_m3 131 rfl
theorem q726 : (Jvm.Cond.code ({ cls := "java/util/HashMap$HashIterator", name := "hasNext", desc := "()Z" } : Jvm.MethodName) prog_64_method_2_code (1 : Nat) (Option.some Jvm.ClassFile.FieldType.boolean)) ∈ lw_all := lw_g (lw_at lw_m3 132 rfl) rfl
theorem q737 : (Jvm.Cond.castable "java/util/TreeMap$ValueIterator" "java/util/Iterator") ∈ lw_tbl := lw_at lw_m3 143 rfl
theorem q738 : (Jvm.Cond.selects "java/util/TreeMap$ValueIterator" ({ cls := "java/util/Iterator", name := "hasNext", desc := "()Z" } : Jvm.MethodName) ({ cls := "java/util/TreeMap$PrivateEntryIterator", name := "hasNext", desc := "()Z" } : Jvm.MethodName)) ∈ lw_all := lw_g (lw_at lw_m3 144 rfl) rfl
theorem q739 : (Jvm.Cond.unhidden "java/util/TreeMap$ValueIterator" "hasNext" "()Z") ∈ lw_tbl := lw_at lw_m3 145 rfl
theorem q740 : (Jvm.Cond.instanceMethod ({ cls := "java/util/TreeMap$PrivateEntryIterator", name := "hasNext", desc := "()Z" } : Jvm.MethodName)) ∈ lw_all := lw_g (lw_at lw_m3 146 rfl) rfl
theorem q741 : (Jvm.Cond.publicMethod ({ cls := "java/util/TreeMap$PrivateEntryIterator", name := "hasNext", desc := "()Z" } : Jvm.MethodName)) ∈ lw_tbl := lw_at lw_m3 147 rfl
theorem q742 : (Jvm.Cond.code ({ cls := "java/util/TreeMap$PrivateEntryIterator", name := "hasNext", desc := "()Z" } : Jvm.MethodName) prog_84_method_2_code (1 : Nat) (Option.some Jvm.ClassFile.FieldType.boolean)) ∈ lw_all := lw_g (lw_at lw_m3 148 rfl) rfl
theorem q744 : (Jvm.Cond.methodLink "TollRoad" (156 : Nat) ({ cls := "java/util/Iterator", name := "next", desc := "()Ljava/lang/Object;" } : Jvm.MethodName)) ∈ lw_all := lw_g (lw_at lw_m3 150 rfl) rfl
theorem q745 : (Jvm.Cond.interfaceMethod "java/util/Iterator" "java/util/Iterator" "next" "()Ljava/lang/Object;") ∈ lw_tbl := lw_at lw_m3 151 rfl
theorem q746 : (Jvm.Cond.declares ({ cls := "java/util/Iterator", name := "next", desc := "()Ljava/lang/Object;" } : Jvm.MethodName)) ∈ lw_tbl := lw_at lw_m3 152 rfl
theorem q747 : (Jvm.Cond.selects "java/util/ArrayList$Itr" ({ cls := "java/util/Iterator", name := "next", desc := "()Ljava/lang/Object;" } : Jvm.MethodName) ({ cls := "java/util/ArrayList$Itr", name := "next", desc := "()Ljava/lang/Object;" } : Jvm.MethodName)) ∈ lw_all := lw_g (lw_at lw_m3 153 rfl) rfl
theorem q748 : (Jvm.Cond.unhidden "java/util/ArrayList$Itr" "next" "()Ljava/lang/Object;") ∈ lw_tbl := lw_at lw_m3 154 rfl
theorem q749 : (Jvm.Cond.instanceMethod ({ cls := "java/util/ArrayList$Itr", name := "next", desc := "()Ljava/lang/Object;" } : Jvm.MethodName)) ∈ lw_all := lw_g (lw_at lw_m3 155 rfl) rfl
theorem q750 : (Jvm.Cond.publicMethod ({ cls := "java/util/ArrayList$Itr", name := "next", desc := "()Ljava/lang/Object;" } : Jvm.MethodName)) ∈ lw_tbl := lw_at lw_m3 156 rfl
theorem q751 : (Jvm.Cond.code ({ cls := "java/util/ArrayList$Itr", name := "next", desc := "()Ljava/lang/Object;" } : Jvm.MethodName) prog_57_method_3_code (3 : Nat) (Option.some (Jvm.ClassFile.FieldType.object "java/lang/Object"))) ∈ lw_all := lw_g (lw_at lw_m3 157 rfl) rfl
theorem q752 : (Jvm.Cond.methodLink "java/util/ArrayList$Itr" (31 : Nat) ({ cls := "java/util/ArrayList$Itr", name := "checkForComodification", desc := "()V" } : Jvm.MethodName)) ∈ lw_all := lw_g (lw_at lw_m3 158 rfl) rfl
theorem q753 : (Jvm.Cond.instanceMethod ({ cls := "java/util/ArrayList$Itr", name := "checkForComodification", desc := "()V" } : Jvm.MethodName)) ∈ lw_all := lw_g (lw_at lw_m3 159 rfl) rfl
theorem q754 : (Jvm.Cond.selects "java/util/ArrayList$Itr" ({ cls := "java/util/ArrayList$Itr", name := "checkForComodification", desc := "()V" } : Jvm.MethodName) ({ cls := "java/util/ArrayList$Itr", name := "checkForComodification", desc := "()V" } : Jvm.MethodName)) ∈ lw_all := lw_g (lw_at lw_m3 160 rfl) rfl
theorem q755 : (Jvm.Cond.code ({ cls := "java/util/ArrayList$Itr", name := "checkForComodification", desc := "()V" } : Jvm.MethodName) prog_57_method_6_code (1 : Nat) (Option.none : Option Jvm.ClassFile.FieldType)) ∈ lw_all := lw_g (lw_at lw_m3 161 rfl) rfl
theorem q756 : (Jvm.Cond.selects "java/util/HashMap$EntryIterator" ({ cls := "java/util/Iterator", name := "next", desc := "()Ljava/lang/Object;" } : Jvm.MethodName) ({ cls := "java/util/HashMap$EntryIterator", name := "next", desc := "()Ljava/lang/Object;" } : Jvm.MethodName)) ∈ lw_all := lw_g (lw_at lw_m3 162 rfl) rfl
theorem q757 : (Jvm.Cond.unhidden "java/util/HashMap$EntryIterator" "next" "()Ljava/lang/Object;") ∈ lw_tbl := lw_at lw_m3 163 rfl
theorem q758 : (Jvm.Cond.instanceMethod ({ cls := "java/util/HashMap$EntryIterator", name := "next", desc := "()Ljava/lang/Object;" } : Jvm.MethodName)) ∈ lw_all := lw_g (lw_at lw_m3 164 rfl) rfl
theorem q759 : (Jvm.Cond.publicMethod ({ cls := "java/util/HashMap$EntryIterator", name := "next", desc := "()Ljava/lang/Object;" } : Jvm.MethodName)) ∈ lw_tbl := lw_at lw_m3 165 rfl
theorem q760 : (Jvm.Cond.code ({ cls := "java/util/HashMap$EntryIterator", name := "next", desc := "()Ljava/lang/Object;" } : Jvm.MethodName) prog_62_method_3_code (1 : Nat) (Option.some (Jvm.ClassFile.FieldType.object "java/lang/Object"))) ∈ lw_all := lw_g (lw_at lw_m3 166 rfl) rfl
theorem q761 : (Jvm.Cond.methodLink "java/util/HashMap$EntryIterator" (13 : Nat) ({ cls := "java/util/HashMap$EntryIterator", name := "next", desc := "()Ljava/util/Map$Entry;" } : Jvm.MethodName)) ∈ lw_all := lw_g (lw_at lw_m3 167 rfl) rfl
theorem q762 : (Jvm.Cond.instanceMethod ({ cls := "java/util/HashMap$EntryIterator", name := "next", desc := "()Ljava/util/Map$Entry;" } : Jvm.MethodName)) ∈ lw_all := lw_g (lw_at lw_m3 168 rfl) rfl
theorem q763 : (Jvm.Cond.selects "java/util/HashMap$EntryIterator" ({ cls := "java/util/HashMap$EntryIterator", name := "next", desc := "()Ljava/util/Map$Entry;" } : Jvm.MethodName) ({ cls := "java/util/HashMap$EntryIterator", name := "next", desc := "()Ljava/util/Map$Entry;" } : Jvm.MethodName)) ∈ lw_all := lw_g (lw_at lw_m3 169 rfl) rfl
theorem q764 : (Jvm.Cond.code ({ cls := "java/util/HashMap$EntryIterator", name := "next", desc := "()Ljava/util/Map$Entry;" } : Jvm.MethodName) prog_62_method_2_code (1 : Nat) (Option.some (Jvm.ClassFile.FieldType.object "java/util/Map$Entry"))) ∈ lw_all := lw_g (lw_at lw_m3 170 rfl) rfl
theorem q765 : (Jvm.Cond.methodLink "java/util/HashMap$EntryIterator" (7 : Nat) ({ cls := "java/util/HashMap$EntryIterator", name := "nextNode", desc := "()Ljava/util/HashMap$Node;" } : Jvm.MethodName)) ∈ lw_all := lw_g (lw_at lw_m3 171 rfl) rfl
theorem q766 : (Jvm.Cond.sameMethod "java/util/HashMap$EntryIterator" "java/util/HashMap$HashIterator" "nextNode" "()Ljava/util/HashMap$Node;") ∈ lw_all := lw_g (lw_at lw_m3 172 rfl) rfl
theorem q768 : (Jvm.Cond.selects "java/util/HashMap$EntryIterator" ({ cls := "java/util/HashMap$EntryIterator", name := "nextNode", desc := "()Ljava/util/HashMap$Node;" } : Jvm.MethodName) ({ cls := "java/util/HashMap$HashIterator", name := "nextNode", desc := "()Ljava/util/HashMap$Node;" } : Jvm.MethodName)) ∈ lw_all := lw_g (lw_at lw_m3 174 rfl) rfl
theorem q769 : (Jvm.Cond.instanceMethod ({ cls := "java/util/HashMap$HashIterator", name := "nextNode", desc := "()Ljava/util/HashMap$Node;" } : Jvm.MethodName)) ∈ lw_all := lw_g (lw_at lw_m3 175 rfl) rfl
theorem q770 : (Jvm.Cond.code ({ cls := "java/util/HashMap$HashIterator", name := "nextNode", desc := "()Ljava/util/HashMap$Node;" } : Jvm.MethodName) prog_64_method_3_code (3 : Nat) (Option.some (Jvm.ClassFile.FieldType.object "java/util/HashMap$Node"))) ∈ lw_all := lw_g (lw_at lw_m3 176 rfl) rfl
theorem q790 : (Jvm.Cond.selects "java/util/TreeMap$ValueIterator" ({ cls := "java/util/Iterator", name := "next", desc := "()Ljava/lang/Object;" } : Jvm.MethodName) ({ cls := "java/util/TreeMap$ValueIterator", name := "next", desc := "()Ljava/lang/Object;" } : Jvm.MethodName)) ∈ lw_all := lw_g (lw_at lw_m3 196 rfl) rfl
theorem q791 : (Jvm.Cond.unhidden "java/util/TreeMap$ValueIterator" "next" "()Ljava/lang/Object;") ∈ lw_tbl := lw_at lw_m3 197 rfl
theorem q792 : (Jvm.Cond.instanceMethod ({ cls := "java/util/TreeMap$ValueIterator", name := "next", desc := "()Ljava/lang/Object;" } : Jvm.MethodName)) ∈ lw_all := lw_g (lw_at lw_m3 198 rfl) rfl
theorem q793 : (Jvm.Cond.publicMethod ({ cls := "java/util/TreeMap$ValueIterator", name := "next", desc := "()Ljava/lang/Object;" } : Jvm.MethodName)) ∈ lw_tbl := lw_at lw_m3 199 rfl
theorem q794 : (Jvm.Cond.code ({ cls := "java/util/TreeMap$ValueIterator", name := "next", desc := "()Ljava/lang/Object;" } : Jvm.MethodName) prog_85_method_2_code (1 : Nat) (Option.some (Jvm.ClassFile.FieldType.object "java/lang/Object"))) ∈ lw_all := lw_g (lw_at lw_m3 200 rfl) rfl
theorem q795 : (Jvm.Cond.methodLink "java/util/TreeMap$ValueIterator" (7 : Nat) ({ cls := "java/util/TreeMap$ValueIterator", name := "nextEntry", desc := "()Ljava/util/TreeMap$Entry;" } : Jvm.MethodName)) ∈ lw_all := lw_g (lw_at lw_m3 201 rfl) rfl
theorem q796 : (Jvm.Cond.sameMethod "java/util/TreeMap$ValueIterator" "java/util/TreeMap$PrivateEntryIterator" "nextEntry" "()Ljava/util/TreeMap$Entry;") ∈ lw_all := lw_g (lw_at lw_m3 202 rfl) rfl
theorem q798 : (Jvm.Cond.selects "java/util/TreeMap$ValueIterator" ({ cls := "java/util/TreeMap$ValueIterator", name := "nextEntry", desc := "()Ljava/util/TreeMap$Entry;" } : Jvm.MethodName) ({ cls := "java/util/TreeMap$PrivateEntryIterator", name := "nextEntry", desc := "()Ljava/util/TreeMap$Entry;" } : Jvm.MethodName)) ∈ lw_all := lw_g (lw_at lw_m3 204 rfl) rfl
theorem q799 : (Jvm.Cond.instanceMethod ({ cls := "java/util/TreeMap$PrivateEntryIterator", name := "nextEntry", desc := "()Ljava/util/TreeMap$Entry;" } : Jvm.MethodName)) ∈ lw_all := lw_g (lw_at lw_m3 205 rfl) rfl
theorem q800 : (Jvm.Cond.code ({ cls := "java/util/TreeMap$PrivateEntryIterator", name := "nextEntry", desc := "()Ljava/util/TreeMap$Entry;" } : Jvm.MethodName) prog_84_method_3_code (2 : Nat) (Option.some (Jvm.ClassFile.FieldType.object "java/util/TreeMap$Entry"))) ∈ lw_all := lw_g (lw_at lw_m3 206 rfl) rfl
theorem q801 : (Jvm.Cond.methodLink "java/util/TreeMap$PrivateEntryIterator" (35 : Nat) ({ cls := "java/util/TreeMap", name := "successor", desc := "(Ljava/util/TreeMap$Entry;)Ljava/util/TreeMap$Entry;" } : Jvm.MethodName)) ∈ lw_all := lw_g (lw_at lw_m3 207 rfl) rfl
theorem q802 : (Jvm.Cond.static ({ cls := "java/util/TreeMap", name := "successor", desc := "(Ljava/util/TreeMap$Entry;)Ljava/util/TreeMap$Entry;" } : Jvm.MethodName)) ∈ lw_all := lw_g (lw_at lw_m3 208 rfl) rfl
theorem q803 : (Jvm.Cond.code ({ cls := "java/util/TreeMap", name := "successor", desc := "(Ljava/util/TreeMap$Entry;)Ljava/util/TreeMap$Entry;" } : Jvm.MethodName) prog_82_method_74_code (3 : Nat) (Option.some (Jvm.ClassFile.FieldType.object "java/util/TreeMap$Entry"))) ∈ lw_all := lw_g (lw_at lw_m3 209 rfl) rfl
theorem q804 : (Jvm.Cond.classLink "TollRoad" (168 : Nat) "TollRoad$Bill") ∈ lw_all := lw_g (lw_at lw_m3 210 rfl) rfl
theorem q805 : (Jvm.Cond.methodLink "TollRoadLaw" (257 : Nat) ({ cls := "TollRoad", name := "worstGantry", desc := "()I" } : Jvm.MethodName)) ∈ lw_all := lw_g (lw_at lw_m3 211 rfl) rfl
theorem q806 : (Jvm.Cond.instanceMethod ({ cls := "TollRoad", name := "worstGantry", desc := "()I" } : Jvm.MethodName)) ∈ lw_all := lw_g (lw_at lw_m3 212 rfl) rfl
theorem q807 : (Jvm.Cond.selects "TollRoad" ({ cls := "TollRoad", name := "worstGantry", desc := "()I" } : Jvm.MethodName) ({ cls := "TollRoad", name := "worstGantry", desc := "()I" } : Jvm.MethodName)) ∈ lw_all := lw_g (lw_at lw_m3 213 rfl) rfl
theorem q808 : (Jvm.Cond.code ({ cls := "TollRoad", name := "worstGantry", desc := "()I" } : Jvm.MethodName) prog_1_method_53_code (5 : Nat) (Option.some Jvm.ClassFile.FieldType.int)) ∈ lw_all := lw_g (lw_at lw_m3 214 rfl) rfl
theorem q809 : (Jvm.Cond.methodLink "TollRoad" (401 : Nat) ({ cls := "TollRoad$World", name := "marked", desc := "(IZ)I" } : Jvm.MethodName)) ∈ lw_all := lw_g (lw_at lw_m3 215 rfl) rfl
theorem q810 : (Jvm.Cond.instanceMethod ({ cls := "TollRoad$World", name := "marked", desc := "(IZ)I" } : Jvm.MethodName)) ∈ lw_all := lw_g (lw_at lw_m3 216 rfl) rfl
theorem q811 : (Jvm.Cond.selects "TollRoad$World" ({ cls := "TollRoad$World", name := "marked", desc := "(IZ)I" } : Jvm.MethodName) ({ cls := "TollRoad$World", name := "marked", desc := "(IZ)I" } : Jvm.MethodName)) ∈ lw_all := lw_g (lw_at lw_m3 217 rfl) rfl
theorem q812 : (Jvm.Cond.code ({ cls := "TollRoad$World", name := "marked", desc := "(IZ)I" } : Jvm.MethodName) prog_19_method_14_code (4 : Nat) (Option.some Jvm.ClassFile.FieldType.int)) ∈ lw_all := lw_g (lw_at lw_m3 218 rfl) rfl
theorem q813 : (Jvm.Cond.classLink "TollRoad$World" (111 : Nat) "TollRoad$Mark") ∈ lw_all := lw_g (lw_at lw_m3 219 rfl) rfl
theorem q814 : (Jvm.Cond.instantiable "TollRoad$Mark" (2 : Nat)) ∈ lw_all := lw_g (lw_at lw_m3 220 rfl) rfl
theorem q815 : (Jvm.Cond.methodLink "TollRoad$World" (213 : Nat) ({ cls := "TollRoad$Mark", name := "<init>", desc := "(IZ)V" } : Jvm.MethodName)) ∈ lw_all := lw_g (lw_at lw_m3 221 rfl) rfl
theorem q816 : (Jvm.Cond.instanceMethod ({ cls := "TollRoad$Mark", name := "<init>", desc := "(IZ)V" } : Jvm.MethodName)) ∈ lw_all := lw_g (lw_at lw_m3 222 rfl) rfl
theorem q817 : (Jvm.Cond.code ({ cls := "TollRoad$Mark", name := "<init>", desc := "(IZ)V" } : Jvm.MethodName) prog_7_method_1_code (3 : Nat) (Option.none : Option Jvm.ClassFile.FieldType)) ∈ lw_all := lw_g (lw_at lw_m3 223 rfl) rfl
theorem q818 : (Jvm.Cond.methodLink "TollRoad$Mark" (1 : Nat) ({ cls := "java/lang/Object", name := "<init>", desc := "()V" } : Jvm.MethodName)) ∈ lw_all := lw_g (lw_at lw_m3 224 rfl) rfl
theorem q819 : (Jvm.Cond.fieldLink "TollRoad$Mark" (7 : Nat) "TollRoad$Mark" "gantry" "I") ∈ lw_all := lw_g (lw_at lw_m3 225 rfl) rfl
theorem q820 : (Jvm.Cond.fieldLink "TollRoad$Mark" (13 : Nat) "TollRoad$Mark" "isMissing" "Z") ∈ lw_all := lw_g (lw_at lw_m3 226 rfl) rfl
theorem q826 : (Jvm.Cond.methodLink "TollRoad$World" (216 : Nat) ({ cls := "java/util/HashMap", name := "get", desc := "(Ljava/lang/Object;)Ljava/lang/Object;" } : Jvm.MethodName)) ∈ lw_all := lw_g (lw_at lw_m3 232 rfl) rfl
theorem q827 : (Jvm.Cond.instanceMethod ({ cls := "java/util/HashMap", name := "get", desc := "(Ljava/lang/Object;)Ljava/lang/Object;" } : Jvm.MethodName)) ∈ lw_all := lw_g (lw_at lw_m3 233 rfl) rfl
theorem q828 : (Jvm.Cond.selects "java/util/HashMap" ({ cls := "java/util/HashMap", name := "get", desc := "(Ljava/lang/Object;)Ljava/lang/Object;" } : Jvm.MethodName) ({ cls := "java/util/HashMap", name := "get", desc := "(Ljava/lang/Object;)Ljava/lang/Object;" } : Jvm.MethodName)) ∈ lw_all := lw_g (lw_at lw_m3 234 rfl) rfl
theorem q829 : (Jvm.Cond.code ({ cls := "java/util/HashMap", name := "get", desc := "(Ljava/lang/Object;)Ljava/lang/Object;" } : Jvm.MethodName) prog_61_method_12_code (3 : Nat) (Option.some (Jvm.ClassFile.FieldType.object "java/lang/Object"))) ∈ lw_all := lw_g (lw_at lw_m3 235 rfl) rfl
theorem q830 : (Jvm.Cond.methodLink "java/util/HashMap" (158 : Nat) ({ cls := "java/util/HashMap", name := "getNode", desc := "(Ljava/lang/Object;)Ljava/util/HashMap$Node;" } : Jvm.MethodName)) ∈ lw_all := lw_g (lw_at lw_m3 236 rfl) rfl
theorem q831 : (Jvm.Cond.instanceMethod ({ cls := "java/util/HashMap", name := "getNode", desc := "(Ljava/lang/Object;)Ljava/util/HashMap$Node;" } : Jvm.MethodName)) ∈ lw_all := lw_g (lw_at lw_m3 237 rfl) rfl
theorem q832 : (Jvm.Cond.selects "java/util/HashMap" ({ cls := "java/util/HashMap", name := "getNode", desc := "(Ljava/lang/Object;)Ljava/util/HashMap$Node;" } : Jvm.MethodName) ({ cls := "java/util/HashMap", name := "getNode", desc := "(Ljava/lang/Object;)Ljava/util/HashMap$Node;" } : Jvm.MethodName)) ∈ lw_all := lw_g (lw_at lw_m3 238 rfl) rfl
theorem q833 : (Jvm.Cond.code ({ cls := "java/util/HashMap", name := "getNode", desc := "(Ljava/lang/Object;)Ljava/util/HashMap$Node;" } : Jvm.MethodName) prog_61_method_13_code (8 : Nat) (Option.some (Jvm.ClassFile.FieldType.object "java/util/HashMap$Node"))) ∈ lw_all := lw_g (lw_at lw_m3 239 rfl) rfl
theorem q834 : (Jvm.Cond.methodLink "java/util/HashMap" (149 : Nat) ({ cls := "java/util/HashMap", name := "hash", desc := "(Ljava/lang/Object;)I" } : Jvm.MethodName)) ∈ lw_all := lw_g (lw_at lw_m4 0 rfl) rfl
theorem q835 : (Jvm.Cond.static ({ cls := "java/util/HashMap", name := "hash", desc := "(Ljava/lang/Object;)I" } : Jvm.MethodName)) ∈ lw_all := lw_g (lw_at lw_m4 1 rfl) rfl
theorem q836 : (Jvm.Cond.code ({ cls := "java/util/HashMap", name := "hash", desc := "(Ljava/lang/Object;)I" } : Jvm.MethodName) prog_61_method_1_code (2 : Nat) (Option.some Jvm.ClassFile.FieldType.int)) ∈ lw_all := lw_g (lw_at lw_m4 2 rfl) rfl
theorem q837 : (Jvm.Cond.declares ({ cls := "java/lang/Object", name := "hashCode", desc := "()I" } : Jvm.MethodName)) ∈ lw_tbl := lw_at lw_m4 3 rfl
theorem q838 : (Jvm.Cond.methodLink "java/util/HashMap" (1 : Nat) ({ cls := "java/lang/Object", name := "hashCode", desc := "()I" } : Jvm.MethodName)) ∈ lw_all := lw_g (lw_at lw_m4 4 rfl) rfl
theorem q840 : (Jvm.Cond.sameMethod "java/lang/Object" "java/lang/Object" "hashCode" "()I") ∈ lw_all := lw_g (lw_at lw_m4 6 rfl) rfl
theorem q846 : (Jvm.Cond.selects "TollRoad$Mark" ({ cls := "java/lang/Object", name := "hashCode", desc := "()I" } : Jvm.MethodName) ({ cls := "TollRoad$Mark", name := "hashCode", desc := "()I" } : Jvm.MethodName)) ∈ lw_all := lw_g (lw_at lw_m4 12 rfl) rfl
theorem q847 : (Jvm.Cond.instanceMethod ({ cls := "TollRoad$Mark", name := "hashCode", desc := "()I" } : Jvm.MethodName)) ∈ lw_all := lw_g (lw_at lw_m4 13 rfl) rfl
theorem q848 : (Jvm.Cond.code ({ cls := "TollRoad$Mark", name := "hashCode", desc := "()I" } : Jvm.MethodName) prog_7_method_3_code (1 : Nat) (Option.some Jvm.ClassFile.FieldType.int)) ∈ lw_all := lw_g (lw_at lw_m4 14 rfl) rfl
theorem q872 : (Jvm.Cond.instanceMethod ({ cls := "java/lang/String", name := "hashCode", desc := "()I" } : Jvm.MethodName)) ∈ lw_all := lw_g (lw_at lw_m4 38 rfl) rfl
theorem q873 : (Jvm.Cond.code ({ cls := "java/lang/String", name := "hashCode", desc := "()I" } : Jvm.MethodName) prog_41_method_78_code (2 : Nat) (Option.some Jvm.ClassFile.FieldType.int)) ∈ lw_all := lw_g (lw_at lw_m4 39 rfl) rfl
theorem q874 : (Jvm.Cond.methodLink "java/lang/String" (492 : Nat) ({ cls := "java/lang/String", name := "isLatin1", desc := "()Z" } : Jvm.MethodName)) ∈ lw_all := lw_g (lw_at lw_m4 40 rfl) rfl
theorem q875 : (Jvm.Cond.instanceMethod ({ cls := "java/lang/String", name := "isLatin1", desc := "()Z" } : Jvm.MethodName)) ∈ lw_all := lw_g (lw_at lw_m4 41 rfl) rfl
theorem q876 : (Jvm.Cond.selects "java/lang/String" ({ cls := "java/lang/String", name := "isLatin1", desc := "()Z" } : Jvm.MethodName) ({ cls := "java/lang/String", name := "isLatin1", desc := "()Z" } : Jvm.MethodName)) ∈ lw_all := lw_g (lw_at lw_m4 42 rfl) rfl
theorem q877 : (Jvm.Cond.code ({ cls := "java/lang/String", name := "isLatin1", desc := "()Z" } : Jvm.MethodName) prog_41_method_154_code (1 : Nat) (Option.some Jvm.ClassFile.FieldType.boolean)) ∈ lw_all := lw_g (lw_at lw_m4 43 rfl) rfl
theorem q878 : (Jvm.Cond.methodLink "java/lang/String" (628 : Nat) ({ cls := "java/lang/StringLatin1", name := "hashCode", desc := "([B)I" } : Jvm.MethodName)) ∈ lw_all := lw_g (lw_at lw_m4 44 rfl) rfl
theorem q879 : (Jvm.Cond.static ({ cls := "java/lang/StringLatin1", name := "hashCode", desc := "([B)I" } : Jvm.MethodName)) ∈ lw_all := lw_g (lw_at lw_m4 45 rfl) rfl
theorem q880 : (Jvm.Cond.code ({ cls := "java/lang/StringLatin1", name := "hashCode", desc := "([B)I" } : Jvm.MethodName) prog_43_method_21_code (1 : Nat) (Option.some Jvm.ClassFile.FieldType.int)) ∈ lw_all := lw_g (lw_at lw_m4 46 rfl) rfl
theorem q881 : (Jvm.Cond.methodLink "java/lang/StringLatin1" (84 : Nat) ({ cls := "jdk/internal/util/ArraysSupport", name := "vectorizedHashCode", desc := "(Ljava/lang/Object;IIII)I" } : Jvm.MethodName)) ∈ lw_all := lw_g (lw_at lw_m4 47 rfl) rfl
theorem q882 : (Jvm.Cond.static ({ cls := "jdk/internal/util/ArraysSupport", name := "vectorizedHashCode", desc := "(Ljava/lang/Object;IIII)I" } : Jvm.MethodName)) ∈ lw_all := lw_g (lw_at lw_m4 48 rfl) rfl
theorem q883 : (Jvm.Cond.code ({ cls := "jdk/internal/util/ArraysSupport", name := "vectorizedHashCode", desc := "(Ljava/lang/Object;IIII)I" } : Jvm.MethodName) prog_90_method_4_code (5 : Nat) (Option.some Jvm.ClassFile.FieldType.int)) ∈ lw_all := lw_g (lw_at lw_m4 49 rfl) rfl
theorem q884 : (Jvm.Cond.classLink "jdk/internal/util/ArraysSupport" (60 : Nat) "[B") ∈ lw_all := lw_g (lw_at lw_m4 50 rfl) rfl
theorem q885 : (Jvm.Cond.methodLink "jdk/internal/util/ArraysSupport" (62 : Nat) ({ cls := "jdk/internal/util/ArraysSupport", name := "signedHashCode", desc := "(I[BII)I" } : Jvm.MethodName)) ∈ lw_all := lw_g (lw_at lw_m4 51 rfl) rfl
theorem q886 : (Jvm.Cond.static ({ cls := "jdk/internal/util/ArraysSupport", name := "signedHashCode", desc := "(I[BII)I" } : Jvm.MethodName)) ∈ lw_all := lw_g (lw_at lw_m4 52 rfl) rfl
theorem q887 : (Jvm.Cond.code ({ cls := "jdk/internal/util/ArraysSupport", name := "signedHashCode", desc := "(I[BII)I" } : Jvm.MethodName) prog_90_method_5_code (6 : Nat) (Option.some Jvm.ClassFile.FieldType.int)) ∈ lw_all := lw_g (lw_at lw_m4 53 rfl) rfl
theorem q888 : (Jvm.Cond.methodLink "jdk/internal/util/ArraysSupport" (66 : Nat) ({ cls := "jdk/internal/util/ArraysSupport", name := "utf16hashCode", desc := "(I[BII)I" } : Jvm.MethodName)) ∈ lw_all := lw_g (lw_at lw_m4 54 rfl) rfl
theorem q904 : (Jvm.Cond.classLink "jdk/internal/util/ArraysSupport" (69 : Nat) "[C") ∈ lw_all := lw_g (lw_at lw_m4 70 rfl) rfl
theorem q905 : (Jvm.Cond.methodLink "jdk/internal/util/ArraysSupport" (71 : Nat) ({ cls := "jdk/internal/util/ArraysSupport", name := "hashCode", desc := "(I[CII)I" } : Jvm.MethodName)) ∈ lw_all := lw_g (lw_at lw_m4 71 rfl) rfl
theorem q908 : (Jvm.Cond.methodLink "jdk/internal/util/ArraysSupport" (75 : Nat) ({ cls := "jdk/internal/util/ArraysSupport", name := "hashCode", desc := "(I[BII)I" } : Jvm.MethodName)) ∈ lw_all := lw_g (lw_at lw_m4 74 rfl) rfl
theorem q909 : (Jvm.Cond.static ({ cls := "jdk/internal/util/ArraysSupport", name := "hashCode", desc := "(I[BII)I" } : Jvm.MethodName)) ∈ lw_all := lw_g (lw_at lw_m4 75 rfl) rfl
theorem q910 : (Jvm.Cond.code ({ cls := "jdk/internal/util/ArraysSupport", name := "hashCode", desc := "(I[BII)I" } : Jvm.MethodName) prog_90_method_6_code (6 : Nat) (Option.some Jvm.ClassFile.FieldType.int)) ∈ lw_all := lw_g (lw_at lw_m4 76 rfl) rfl
theorem q911 : (Jvm.Cond.classLink "jdk/internal/util/ArraysSupport" (77 : Nat) "[S") ∈ lw_all := lw_g (lw_at lw_m4 77 rfl) rfl
theorem q912 : (Jvm.Cond.methodLink "jdk/internal/util/ArraysSupport" (79 : Nat) ({ cls := "jdk/internal/util/ArraysSupport", name := "hashCode", desc := "(I[SII)I" } : Jvm.MethodName)) ∈ lw_all := lw_g (lw_at lw_m4 78 rfl) rfl
theorem q915 : (Jvm.Cond.classLink "jdk/internal/util/ArraysSupport" (82 : Nat) "[I") ∈ lw_all := lw_g (lw_at lw_m4 81 rfl) rfl
theorem q916 : (Jvm.Cond.methodLink "jdk/internal/util/ArraysSupport" (84 : Nat) ({ cls := "jdk/internal/util/ArraysSupport", name := "hashCode", desc := "(I[III)I" } : Jvm.MethodName)) ∈ lw_all := lw_g (lw_at lw_m4 82 rfl) rfl
theorem q920 : (Jvm.Cond.classLink "jdk/internal/util/ArraysSupport" (89 : Nat) "java/lang/StringBuilder") ∈ lw_all := lw_g (lw_at lw_m4 86 rfl) rfl
theorem q921 : (Jvm.Cond.methodLink "jdk/internal/util/ArraysSupport" (91 : Nat) ({ cls := "java/lang/StringBuilder", name := "<init>", desc := "()V" } : Jvm.MethodName)) ∈ lw_all := lw_g (lw_at lw_m4 87 rfl) rfl
theorem q923 : (Jvm.Cond.methodLink "jdk/internal/util/ArraysSupport" (94 : Nat) ({ cls := "java/lang/StringBuilder", name := "append", desc := "(Ljava/lang/String;)Ljava/lang/StringBuilder;" } : Jvm.MethodName)) ∈ lw_all := lw_g (lw_at lw_m4 89 rfl) rfl
theorem q924 : (Jvm.Cond.methodLink "jdk/internal/util/ArraysSupport" (98 : Nat) ({ cls := "java/lang/StringBuilder", name := "append", desc := "(I)Ljava/lang/StringBuilder;" } : Jvm.MethodName)) ∈ lw_all := lw_g (lw_at lw_m4 90 rfl) rfl
theorem q925 : (Jvm.Cond.methodLink "jdk/internal/util/ArraysSupport" (101 : Nat) ({ cls := "java/lang/StringBuilder", name := "toString", desc := "()Ljava/lang/String;" } : Jvm.MethodName)) ∈ lw_all := lw_g (lw_at lw_m4 91 rfl) rfl
theorem q926 : (Jvm.Cond.methodLink "jdk/internal/util/ArraysSupport" (105 : Nat) ({ cls := "java/lang/IllegalArgumentException", name := "<init>", desc := "(Ljava/lang/String;)V" } : Jvm.MethodName)) ∈ lw_all := lw_g (lw_at lw_m4 92 rfl) rfl
theorem q927 : (Jvm.Cond.methodLink "java/lang/String" (632 : Nat) ({ cls := "java/lang/StringUTF16", name := "hashCode", desc := "([B)I" } : Jvm.MethodName)) ∈ lw_all := lw_g (lw_at lw_m4 93 rfl) rfl
theorem q935 : (Jvm.Cond.declares ({ cls := "java/lang/Object", name := "equals", desc := "(Ljava/lang/Object;)Z" } : Jvm.MethodName)) ∈ lw_tbl := lw_at lw_m4 101 rfl
theorem q936 : (Jvm.Cond.methodLink "java/util/HashMap" (173 : Nat) ({ cls := "java/lang/Object", name := "equals", desc := "(Ljava/lang/Object;)Z" } : Jvm.MethodName)) ∈ lw_all := lw_g (lw_at lw_m4 102 rfl) rfl
theorem q938 : (Jvm.Cond.sameMethod "java/lang/Object" "java/lang/Object" "equals" "(Ljava/lang/Object;)Z") ∈ lw_all := lw_g (lw_at lw_m4 104 rfl) rfl
theorem q944 : (Jvm.Cond.selects "TollRoad$Mark" ({ cls := "java/lang/Object", name := "equals", desc := "(Ljava/lang/Object;)Z" } : Jvm.MethodName) ({ cls := "TollRoad$Mark", name := "equals", desc := "(Ljava/lang/Object;)Z" } : Jvm.MethodName)) ∈ lw_all := lw_g (lw_at lw_m4 110 rfl) rfl
theorem q945 : (Jvm.Cond.instanceMethod ({ cls := "TollRoad$Mark", name := "equals", desc := "(Ljava/lang/Object;)Z" } : Jvm.MethodName)) ∈ lw_all := lw_g (lw_at lw_m4 111 rfl) rfl
theorem q946 : (Jvm.Cond.code ({ cls := "TollRoad$Mark", name := "equals", desc := "(Ljava/lang/Object;)Z" } : Jvm.MethodName) prog_7_method_2_code (2 : Nat) (Option.some Jvm.ClassFile.FieldType.boolean)) ∈ lw_all := lw_g (lw_at lw_m4 112 rfl) rfl
theorem q947 : (Jvm.Cond.classLink "TollRoad$Mark" (8 : Nat) "TollRoad$Mark") ∈ lw_all := lw_g (lw_at lw_m4 113 rfl) rfl
theorem q966 : (Jvm.Cond.classLink "java/lang/Integer" (1 : Nat) "java/lang/Integer") ∈ lw_all := lw_g (lw_at lw_m4 132 rfl) rfl
theorem q968 : (Jvm.Cond.instanceMethod ({ cls := "java/lang/Integer", name := "intValue", desc := "()I" } : Jvm.MethodName)) ∈ lw_all := lw_g (lw_at lw_m4 134 rfl) rfl
theorem q969 : (Jvm.Cond.selects "java/lang/Integer" ({ cls := "java/lang/Integer", name := "intValue", desc := "()I" } : Jvm.MethodName) ({ cls := "java/lang/Integer", name := "intValue", desc := "()I" } : Jvm.MethodName)) ∈ lw_all := lw_g (lw_at lw_m4 135 rfl) rfl
theorem q970 : (Jvm.Cond.code ({ cls := "java/lang/Integer", name := "intValue", desc := "()I" } : Jvm.MethodName) prog_33_method_27_code (1 : Nat) (Option.some Jvm.ClassFile.FieldType.int)) ∈ lw_all := lw_g (lw_at lw_m4 136 rfl) rfl
theorem q973 : (Jvm.Cond.instanceMethod ({ cls := "java/lang/String", name := "equals", desc := "(Ljava/lang/Object;)Z" } : Jvm.MethodName)) ∈ lw_all := lw_g (lw_at lw_m4 139 rfl) rfl
theorem q974 : (Jvm.Cond.code ({ cls := "java/lang/String", name := "equals", desc := "(Ljava/lang/Object;)Z" } : Jvm.MethodName) prog_41_method_66_code (3 : Nat) (Option.some Jvm.ClassFile.FieldType.boolean)) ∈ lw_all := lw_g (lw_at lw_m4 140 rfl) rfl
theorem q975 : (Jvm.Cond.classLink "java/lang/String" (10 : Nat) "java/lang/String") ∈ lw_all := lw_g (lw_at lw_m4 141 rfl) rfl
theorem q976 : (Jvm.Cond.methodLink "java/lang/String" (541 : Nat) ({ cls := "java/lang/StringLatin1", name := "equals", desc := "([B[B)Z" } : Jvm.MethodName)) ∈ lw_all := lw_g (lw_at lw_m4 142 rfl) rfl
theorem q977 : (Jvm.Cond.static ({ cls := "java/lang/StringLatin1", name := "equals", desc := "([B[B)Z" } : Jvm.MethodName)) ∈ lw_all := lw_g (lw_at lw_m4 143 rfl) rfl
theorem q978 : (Jvm.Cond.code ({ cls := "java/lang/StringLatin1", name := "equals", desc := "([B[B)Z" } : Jvm.MethodName) prog_43_method_13_code (3 : Nat) (Option.some Jvm.ClassFile.FieldType.boolean)) ∈ lw_all := lw_g (lw_at lw_m4 144 rfl) rfl
theorem q983 : (Jvm.Cond.classLink "java/util/HashMap" (180 : Nat) "java/util/HashMap$TreeNode") ∈ lw_all := lw_g (lw_at lw_m4 149 rfl) rfl
theorem q984 : (Jvm.Cond.methodLink "java/util/HashMap" (182 : Nat) ({ cls := "java/util/HashMap$TreeNode", name := "getTreeNode", desc := "(ILjava/lang/Object;)Ljava/util/HashMap$TreeNode;" } : Jvm.MethodName)) ∈ lw_all := lw_g (lw_at lw_m4 150 rfl) rfl
theorem q1002 : (Jvm.Cond.instanceMethod ({ cls := "java/lang/Object", name := "getClass", desc := "()Ljava/lang/Class;" } : Jvm.MethodName)) ∈ lw_all := lw_g (lw_at lw_m4 168 rfl) rfl
theorem q1044 : (Jvm.Cond.native ({ cls := "java/lang/Object", name := "getClass", desc := "()Ljava/lang/Class;" } : Jvm.MethodName)) ∈ lw_all := lw_g (lw_at lw_m4 210 rfl) rfl
theorem q1051 : (Jvm.Cond.interfaceMethod "java/lang/Comparable" "java/lang/Comparable" "compareTo" "(Ljava/lang/Object;)I") ∈ lw_tbl := lw_at lw_m4 217 rfl
theorem q1052 : (Jvm.Cond.declares ({ cls := "java/lang/Comparable", name := "compareTo", desc := "(Ljava/lang/Object;)I" } : Jvm.MethodName)) ∈ lw_tbl := lw_at lw_m4 218 rfl
theorem q1053 : (Jvm.Cond.castable "java/lang/Integer" "java/lang/Comparable") ∈ lw_tbl := lw_at lw_m4 219 rfl
theorem q1054 : (Jvm.Cond.selects "java/lang/Integer" ({ cls := "java/lang/Comparable", name := "compareTo", desc := "(Ljava/lang/Object;)I" } : Jvm.MethodName) ({ cls := "java/lang/Integer", name := "compareTo", desc := "(Ljava/lang/Object;)I" } : Jvm.MethodName)) ∈ lw_all := lw_g (lw_at lw_m4 220 rfl) rfl
theorem q1055 : (Jvm.Cond.unhidden "java/lang/Integer" "compareTo" "(Ljava/lang/Object;)I") ∈ lw_tbl := lw_at lw_m4 221 rfl
theorem q1056 : (Jvm.Cond.instanceMethod ({ cls := "java/lang/Integer", name := "compareTo", desc := "(Ljava/lang/Object;)I" } : Jvm.MethodName)) ∈ lw_all := lw_g (lw_at lw_m4 222 rfl) rfl
theorem q1057 : (Jvm.Cond.publicMethod ({ cls := "java/lang/Integer", name := "compareTo", desc := "(Ljava/lang/Object;)I" } : Jvm.MethodName)) ∈ lw_tbl := lw_at lw_m4 223 rfl
theorem q1058 : (Jvm.Cond.code ({ cls := "java/lang/Integer", name := "compareTo", desc := "(Ljava/lang/Object;)I" } : Jvm.MethodName) prog_33_method_63_code (2 : Nat) (Option.some Jvm.ClassFile.FieldType.int)) ∈ lw_all := lw_g (lw_at lw_m4 224 rfl) rfl
theorem q1059 : (Jvm.Cond.methodLink "java/lang/Integer" (284 : Nat) ({ cls := "java/lang/Integer", name := "compareTo", desc := "(Ljava/lang/Integer;)I" } : Jvm.MethodName)) ∈ lw_all := lw_g (lw_at lw_m4 225 rfl) rfl
theorem q1060 : (Jvm.Cond.instanceMethod ({ cls := "java/lang/Integer", name := "compareTo", desc := "(Ljava/lang/Integer;)I" } : Jvm.MethodName)) ∈ lw_all := lw_g (lw_at lw_m4 226 rfl) rfl
theorem q1061 : (Jvm.Cond.selects "java/lang/Integer" ({ cls := "java/lang/Integer", name := "compareTo", desc := "(Ljava/lang/Integer;)I" } : Jvm.MethodName) ({ cls := "java/lang/Integer", name := "compareTo", desc := "(Ljava/lang/Integer;)I" } : Jvm.MethodName)) ∈ lw_all := lw_g (lw_at lw_m4 227 rfl) rfl
theorem q1062 : (Jvm.Cond.code ({ cls := "java/lang/Integer", name := "compareTo", desc := "(Ljava/lang/Integer;)I" } : Jvm.MethodName) prog_33_method_39_code (2 : Nat) (Option.some Jvm.ClassFile.FieldType.int)) ∈ lw_all := lw_g (lw_at lw_m4 228 rfl) rfl
theorem q1063 : (Jvm.Cond.methodLink "java/lang/Integer" (259 : Nat) ({ cls := "java/lang/Integer", name := "compare", desc := "(II)I" } : Jvm.MethodName)) ∈ lw_all := lw_g (lw_at lw_m4 229 rfl) rfl
theorem q1064 : (Jvm.Cond.static ({ cls := "java/lang/Integer", name := "compare", desc := "(II)I" } : Jvm.MethodName)) ∈ lw_all := lw_g (lw_at lw_m4 230 rfl) rfl
theorem q1065 : (Jvm.Cond.code ({ cls := "java/lang/Integer", name := "compare", desc := "(II)I" } : Jvm.MethodName) prog_33_method_40_code (2 : Nat) (Option.some Jvm.ClassFile.FieldType.int)) ∈ lw_all := lw_g (lw_at lw_m4 231 rfl) rfl
theorem q1066 : (Jvm.Cond.castable "java/lang/String" "java/lang/Comparable") ∈ lw_tbl := lw_at lw_m4 232 rfl
theorem q1212 : (Jvm.Cond.castable "java/lang/StringBuilder" "java/lang/Comparable") ∈ lw_tbl := lw_at lw_m5 138 rfl
theorem q1244 : (Jvm.Cond.classLink "TollRoad$World" (116 : Nat) "java/lang/Integer") ∈ lw_all := lw_g (lw_at lw_m5 170 rfl) rfl
theorem q1245 : (Jvm.Cond.methodLink "TollRoad$World" (219 : Nat) ({ cls := "java/lang/Integer", name := "intValue", desc := "()I" } : Jvm.MethodName)) ∈ lw_all := lw_g (lw_at lw_m5 171 rfl) rfl
theorem q1246 : (Jvm.Cond.methodLink "TollRoad" (415 : Nat) ({ cls := "java/lang/Math", name := "max", desc := "(II)I" } : Jvm.MethodName)) ∈ lw_all := lw_g (lw_at lw_m5 172 rfl) rfl
theorem q1247 : (Jvm.Cond.methodLink "TollRoadLaw" (261 : Nat) ({ cls := "TollRoad", name := "meanAmount", desc := "()D" } : Jvm.MethodName)) ∈ lw_all := lw_g (lw_at lw_m5 173 rfl) rfl
theorem q1248 : (Jvm.Cond.instanceMethod ({ cls := "TollRoad", name := "meanAmount", desc := "()D" } : Jvm.MethodName)) ∈ lw_all := lw_g (lw_at lw_m5 174 rfl) rfl
theorem q1249 : (Jvm.Cond.selects "TollRoad" ({ cls := "TollRoad", name := "meanAmount", desc := "()D" } : Jvm.MethodName) ({ cls := "TollRoad", name := "meanAmount", desc := "()D" } : Jvm.MethodName)) ∈ lw_all := lw_g (lw_at lw_m5 175 rfl) rfl
theorem q1250 : (Jvm.Cond.code ({ cls := "TollRoad", name := "meanAmount", desc := "()D" } : Jvm.MethodName) prog_1_method_54_code (5 : Nat) (Option.some Jvm.ClassFile.FieldType.double)) ∈ lw_all := lw_g (lw_at lw_m5 176 rfl) rfl
theorem q1251 : (Jvm.Cond.methodLink "TollRoad" (420 : Nat) ({ cls := "java/util/ArrayList", name := "isEmpty", desc := "()Z" } : Jvm.MethodName)) ∈ lw_all := lw_g (lw_at lw_m5 177 rfl) rfl
theorem q1252 : (Jvm.Cond.instanceMethod ({ cls := "java/util/ArrayList", name := "isEmpty", desc := "()Z" } : Jvm.MethodName)) ∈ lw_all := lw_g (lw_at lw_m5 178 rfl) rfl
theorem q1253 : (Jvm.Cond.selects "java/util/ArrayList" ({ cls := "java/util/ArrayList", name := "isEmpty", desc := "()Z" } : Jvm.MethodName) ({ cls := "java/util/ArrayList", name := "isEmpty", desc := "()Z" } : Jvm.MethodName)) ∈ lw_all := lw_g (lw_at lw_m5 179 rfl) rfl
theorem q1254 : (Jvm.Cond.code ({ cls := "java/util/ArrayList", name := "isEmpty", desc := "()Z" } : Jvm.MethodName) prog_56_method_9_code (1 : Nat) (Option.some Jvm.ClassFile.FieldType.boolean)) ∈ lw_all := lw_g (lw_at lw_m5 180 rfl) rfl
theorem q1255 : (Jvm.Cond.constantDouble "TollRoad" (423 : Nat) (13830554455654793216 : UInt64)) ∈ lw_all := lw_g (lw_at lw_m5 181 rfl) rfl
theorem q1256 : (Jvm.Cond.methodLink "TollRoad" (58 : Nat) ({ cls := "java/util/ArrayList", name := "size", desc := "()I" } : Jvm.MethodName)) ∈ lw_all := lw_g (lw_at lw_m5 182 rfl) rfl
theorem q1257 : (Jvm.Cond.instanceMethod ({ cls := "java/util/ArrayList", name := "size", desc := "()I" } : Jvm.MethodName)) ∈ lw_all := lw_g (lw_at lw_m5 183 rfl) rfl
theorem q1258 : (Jvm.Cond.selects "java/util/ArrayList" ({ cls := "java/util/ArrayList", name := "size", desc := "()I" } : Jvm.MethodName) ({ cls := "java/util/ArrayList", name := "size", desc := "()I" } : Jvm.MethodName)) ∈ lw_all := lw_g (lw_at lw_m5 184 rfl) rfl
theorem q1259 : (Jvm.Cond.code ({ cls := "java/util/ArrayList", name := "size", desc := "()I" } : Jvm.MethodName) prog_56_method_8_code (1 : Nat) (Option.some Jvm.ClassFile.FieldType.int)) ∈ lw_all := lw_g (lw_at lw_m5 185 rfl) rfl
theorem q1260 : (Jvm.Cond.methodLink "TollRoadLaw" (143 : Nat) ({ cls := "TollRoad", name := "load", desc := "()I" } : Jvm.MethodName)) ∈ lw_all := lw_g (lw_at lw_m5 186 rfl) rfl
theorem q1261 : (Jvm.Cond.instanceMethod ({ cls := "TollRoad", name := "load", desc := "()I" } : Jvm.MethodName)) ∈ lw_all := lw_g (lw_at lw_m5 187 rfl) rfl
theorem q1262 : (Jvm.Cond.selects "TollRoad" ({ cls := "TollRoad", name := "load", desc := "()I" } : Jvm.MethodName) ({ cls := "TollRoad", name := "load", desc := "()I" } : Jvm.MethodName)) ∈ lw_all := lw_g (lw_at lw_m5 188 rfl) rfl
theorem q1263 : (Jvm.Cond.codeWith ({ cls := "TollRoad", name := "load", desc := "()I" } : Jvm.MethodName) prog_1_method_58_code (3 : Nat) (Option.some Jvm.ClassFile.FieldType.int) [((28 : Nat), (42 : Nat), (43 : Nat), (462 : Nat))]) ∈ lw_all := lw_g (lw_at lw_m5 189 rfl) rfl
theorem q1264 : (Jvm.Cond.classLink "TollRoad" (462 : Nat) "TollRoad$TextError") ∈ lw_all := lw_g (lw_at lw_m5 190 rfl) rfl
theorem q1265 : (Jvm.Cond.classLink "TollRoad" (448 : Nat) "TollRoad$Parser") ∈ lw_all := lw_g (lw_at lw_m5 191 rfl) rfl
theorem q1266 : (Jvm.Cond.instantiable "TollRoad$Parser" (9 : Nat)) ∈ lw_all := lw_g (lw_at lw_m5 192 rfl) rfl
theorem q1267 : (Jvm.Cond.methodLink "TollRoad" (450 : Nat) ({ cls := "TollRoad$Parser", name := "<init>", desc := "(LTollRoad;I)V" } : Jvm.MethodName)) ∈ lw_all := lw_g (lw_at lw_m5 193 rfl) rfl
theorem q1268 : (Jvm.Cond.instanceMethod ({ cls := "TollRoad$Parser", name := "<init>", desc := "(LTollRoad;I)V" } : Jvm.MethodName)) ∈ lw_all := lw_g (lw_at lw_m5 194 rfl) rfl
theorem q1269 : (Jvm.Cond.code ({ cls := "TollRoad$Parser", name := "<init>", desc := "(LTollRoad;I)V" } : Jvm.MethodName) prog_10_method_1_code (3 : Nat) (Option.none : Option Jvm.ClassFile.FieldType)) ∈ lw_all := lw_g (lw_at lw_m5 195 rfl) rfl
theorem q1270 : (Jvm.Cond.methodLink "TollRoad$Parser" (9 : Nat) ({ cls := "java/lang/Object", name := "<init>", desc := "()V" } : Jvm.MethodName)) ∈ lw_all := lw_g (lw_at lw_m5 196 rfl) rfl
theorem q1271 : (Jvm.Cond.classLink "TollRoad$Parser" (15 : Nat) "TollRoad$World") ∈ lw_all := lw_g (lw_at lw_m5 197 rfl) rfl
theorem q1272 : (Jvm.Cond.methodLinkNest "TollRoad$Parser" (17 : Nat) ({ cls := "TollRoad$World", name := "<init>", desc := "()V" } : Jvm.MethodName) "TollRoad") ∈ lw_tbl := lw_at lw_m5 198 rfl
theorem q1273 : (Jvm.Cond.methodLink "TollRoad$Parser" (26 : Nat) ({ cls := "TollRoad$Parser", name := "advance", desc := "()V" } : Jvm.MethodName)) ∈ lw_all := lw_g (lw_at lw_m5 199 rfl) rfl
theorem q1275 : (Jvm.Cond.instanceMethod ({ cls := "TollRoad$Parser", name := "advance", desc := "()V" } : Jvm.MethodName)) ∈ lw_all := lw_g (lw_at lw_m5 201 rfl) rfl
theorem q1276 : (Jvm.Cond.code ({ cls := "TollRoad$Parser", name := "advance", desc := "()V" } : Jvm.MethodName) prog_10_method_3_code (2 : Nat) (Option.none : Option Jvm.ClassFile.FieldType)) ∈ lw_all := lw_g (lw_at lw_m5 202 rfl) rfl
theorem q1277 : (Jvm.Cond.methodLink "TollRoad$Parser" (36 : Nat) ({ cls := "TollRoad$Parser", name := "byteAt", desc := "(I)I" } : Jvm.MethodName)) ∈ lw_all := lw_g (lw_at lw_m5 203 rfl) rfl
theorem q1279 : (Jvm.Cond.instanceMethod ({ cls := "TollRoad$Parser", name := "byteAt", desc := "(I)I" } : Jvm.MethodName)) ∈ lw_all := lw_g (lw_at lw_m5 205 rfl) rfl
theorem q1280 : (Jvm.Cond.code ({ cls := "TollRoad$Parser", name := "byteAt", desc := "(I)I" } : Jvm.MethodName) prog_10_method_2_code (2 : Nat) (Option.some Jvm.ClassFile.FieldType.int)) ∈ lw_all := lw_g (lw_at lw_m5 206 rfl) rfl
theorem q1281 : (Jvm.Cond.constantLong "TollRoad$Parser" (46 : Nat) (48 : Int64)) ∈ lw_all := lw_g (lw_at lw_m5 207 rfl) rfl
theorem q1282 : (Jvm.Cond.constantLong "TollRoad$Parser" (48 : Nat) (57 : Int64)) ∈ lw_all := lw_g (lw_at lw_m5 208 rfl) rfl
theorem q1283 : (Jvm.Cond.methodLinkNest "TollRoad$Parser" (50 : Nat) ({ cls := "TollRoad", name := "isBetween", desc := "(JJJ)Z" } : Jvm.MethodName) "TollRoad") ∈ lw_tbl := lw_at lw_m5 209 rfl
theorem q1284 : (Jvm.Cond.static ({ cls := "TollRoad", name := "isBetween", desc := "(JJJ)Z" } : Jvm.MethodName)) ∈ lw_all := lw_g (lw_at lw_m5 210 rfl) rfl
theorem q1285 : (Jvm.Cond.code ({ cls := "TollRoad", name := "isBetween", desc := "(JJJ)Z" } : Jvm.MethodName) prog_1_method_1_code (6 : Nat) (Option.some Jvm.ClassFile.FieldType.boolean)) ∈ lw_all := lw_g (lw_at lw_m5 211 rfl) rfl
theorem q1286 : (Jvm.Cond.classLink "TollRoad$Parser" (61 : Nat) "java/lang/StringBuilder") ∈ lw_all := lw_g (lw_at lw_m5 212 rfl) rfl
theorem q1287 : (Jvm.Cond.methodLink "TollRoad$Parser" (63 : Nat) ({ cls := "java/lang/StringBuilder", name := "<init>", desc := "()V" } : Jvm.MethodName)) ∈ lw_all := lw_g (lw_at lw_m5 213 rfl) rfl
theorem q1288 : (Jvm.Cond.constant "TollRoad$Parser" (64 : Nat) (1000000 : Int32)) ∈ lw_all := lw_g (lw_at lw_m5 214 rfl) rfl
theorem q1289 : (Jvm.Cond.methodLink "TollRoad$Parser" (65 : Nat) ({ cls := "java/lang/Math", name := "min", desc := "(II)I" } : Jvm.MethodName)) ∈ lw_all := lw_g (lw_at lw_m5 215 rfl) rfl
theorem q1290 : (Jvm.Cond.constantLong "TollRoad$Parser" (71 : Nat) (97 : Int64)) ∈ lw_all := lw_g (lw_at lw_m5 216 rfl) rfl
theorem q1291 : (Jvm.Cond.constantLong "TollRoad$Parser" (73 : Nat) (122 : Int64)) ∈ lw_all := lw_g (lw_at lw_m5 217 rfl) rfl
theorem q1292 : (Jvm.Cond.methodLink "TollRoad$Parser" (75 : Nat) ({ cls := "java/lang/StringBuilder", name := "append", desc := "(C)Ljava/lang/StringBuilder;" } : Jvm.MethodName)) ∈ lw_all := lw_g (lw_at lw_m5 218 rfl) rfl
theorem q1293 : (Jvm.Cond.instanceMethod ({ cls := "java/lang/StringBuilder", name := "append", desc := "(C)Ljava/lang/StringBuilder;" } : Jvm.MethodName)) ∈ lw_all := lw_g (lw_at lw_m5 219 rfl) rfl
theorem q1294 : (Jvm.Cond.selects "java/lang/StringBuilder" ({ cls := "java/lang/StringBuilder", name := "append", desc := "(C)Ljava/lang/StringBuilder;" } : Jvm.MethodName) ({ cls := "java/lang/StringBuilder", name := "append", desc := "(C)Ljava/lang/StringBuilder;" } : Jvm.MethodName)) ∈ lw_all := lw_g (lw_at lw_m5 220 rfl) rfl
theorem q1295 : (Jvm.Cond.code ({ cls := "java/lang/StringBuilder", name := "append", desc := "(C)Ljava/lang/StringBuilder;" } : Jvm.MethodName) prog_42_method_14_code (2 : Nat) (Option.some (Jvm.ClassFile.FieldType.object "java/lang/StringBuilder"))) ∈ lw_all := lw_g (lw_at lw_m5 221 rfl) rfl
theorem q1296 : (Jvm.Cond.methodLink "java/lang/StringBuilder" (50 : Nat) ({ cls := "java/lang/AbstractStringBuilder", name := "append", desc := "(C)Ljava/lang/AbstractStringBuilder;" } : Jvm.MethodName)) ∈ lw_all := lw_g (lw_at lw_m5 222 rfl) rfl
theorem q1297 : (Jvm.Cond.instanceMethod ({ cls := "java/lang/AbstractStringBuilder", name := "append", desc := "(C)Ljava/lang/AbstractStringBuilder;" } : Jvm.MethodName)) ∈ lw_all := lw_g (lw_at lw_m5 223 rfl) rfl
theorem q1298 : (Jvm.Cond.code ({ cls := "java/lang/AbstractStringBuilder", name := "append", desc := "(C)Ljava/lang/AbstractStringBuilder;" } : Jvm.MethodName) prog_23_method_31_code (2 : Nat) (Option.some (Jvm.ClassFile.FieldType.object "java/lang/AbstractStringBuilder"))) ∈ lw_all := lw_g (lw_at lw_m5 224 rfl) rfl
theorem q1299 : (Jvm.Cond.methodLink "java/lang/AbstractStringBuilder" (191 : Nat) ({ cls := "java/lang/StringLatin1", name := "canEncode", desc := "(C)Z" } : Jvm.MethodName)) ∈ lw_all := lw_g (lw_at lw_m5 225 rfl) rfl
theorem q1300 : (Jvm.Cond.static ({ cls := "java/lang/StringLatin1", name := "canEncode", desc := "(C)Z" } : Jvm.MethodName)) ∈ lw_all := lw_g (lw_at lw_m5 226 rfl) rfl
theorem q1301 : (Jvm.Cond.code ({ cls := "java/lang/StringLatin1", name := "canEncode", desc := "(C)Z" } : Jvm.MethodName) prog_43_method_3_code (1 : Nat) (Option.some Jvm.ClassFile.FieldType.boolean)) ∈ lw_all := lw_g (lw_at lw_m5 227 rfl) rfl
theorem q1302 : (Jvm.Cond.methodLink "java/lang/AbstractStringBuilder" (197 : Nat) ({ cls := "java/lang/StringUTF16", name := "putCharSB", desc := "([BII)V" } : Jvm.MethodName)) ∈ lw_all := lw_g (lw_at lw_m5 228 rfl) rfl
theorem q1309 : (Jvm.Cond.static ({ cls := "java/lang/String", name := "checkIndex", desc := "(II)V" } : Jvm.MethodName)) ∈ lw_all := lw_g (lw_at lw_m5 235 rfl) rfl
theorem q1310 : (Jvm.Cond.code ({ cls := "java/lang/String", name := "checkIndex", desc := "(II)V" } : Jvm.MethodName) prog_41_method_155_code (2 : Nat) (Option.none : Option Jvm.ClassFile.FieldType)) ∈ lw_all := lw_g (lw_at lw_m5 236 rfl) rfl
theorem q1311 : (Jvm.Cond.methodLink "java/lang/String" (1059 : Nat) ({ cls := "jdk/internal/util/Preconditions", name := "checkIndex", desc := "(IILjava/util/function/BiFunction;)I" } : Jvm.MethodName)) ∈ lw_all := lw_g (lw_at lw_m5 237 rfl) rfl
theorem q1312 : (Jvm.Cond.static ({ cls := "jdk/internal/util/Preconditions", name := "checkIndex", desc := "(IILjava/util/function/BiFunction;)I" } : Jvm.MethodName)) ∈ lw_all := lw_g (lw_at lw_m5 238 rfl) rfl
theorem q1313 : (Jvm.Cond.code ({ cls := "jdk/internal/util/Preconditions", name := "checkIndex", desc := "(IILjava/util/function/BiFunction;)I" } : Jvm.MethodName) prog_91_method_11_code (3 : Nat) (Option.some Jvm.ClassFile.FieldType.int)) ∈ lw_all := lw_g (lw_at lw_m5 239 rfl) rfl
theorem q1314 : (Jvm.Cond.methodLinkNest "TollRoad$Parser" (79 : Nat) ({ cls := "TollRoad", name := "wordOf", desc := "(Ljava/lang/CharSequence;)I" } : Jvm.MethodName) "TollRoad") ∈ lw_tbl := lw_at lw_m6 0 rfl
theorem q1315 : (Jvm.Cond.static ({ cls := "TollRoad", name := "wordOf", desc := "(Ljava/lang/CharSequence;)I" } : Jvm.MethodName)) ∈ lw_all := lw_g (lw_at lw_m6 1 rfl) rfl
theorem q1316 : (Jvm.Cond.code ({ cls := "TollRoad", name := "wordOf", desc := "(Ljava/lang/CharSequence;)I" } : Jvm.MethodName) prog_1_method_55_code (3 : Nat) (Option.some Jvm.ClassFile.FieldType.int)) ∈ lw_all := lw_g (lw_at lw_m6 2 rfl) rfl
theorem q1318 : (Jvm.Cond.methodLink "TollRoad" (425 : Nat) ({ cls := "java/lang/CharSequence", name := "toString", desc := "()Ljava/lang/String;" } : Jvm.MethodName)) ∈ lw_all := lw_g (lw_at lw_m6 4 rfl) rfl
theorem q1319 : (Jvm.Cond.interfaceMethod "java/lang/CharSequence" "java/lang/CharSequence" "toString" "()Ljava/lang/String;") ∈ lw_tbl := lw_at lw_m6 5 rfl
theorem q1320 : (Jvm.Cond.declares ({ cls := "java/lang/CharSequence", name := "toString", desc := "()Ljava/lang/String;" } : Jvm.MethodName)) ∈ lw_tbl := lw_at lw_m6 6 rfl
theorem q1327 : (Jvm.Cond.castable "java/lang/StringBuilder" "java/lang/CharSequence") ∈ lw_tbl := lw_at lw_m6 13 rfl
theorem q1328 : (Jvm.Cond.selects "java/lang/StringBuilder" ({ cls := "java/lang/CharSequence", name := "toString", desc := "()Ljava/lang/String;" } : Jvm.MethodName) ({ cls := "java/lang/StringBuilder", name := "toString", desc := "()Ljava/lang/String;" } : Jvm.MethodName)) ∈ lw_all := lw_g (lw_at lw_m6 14 rfl) rfl
theorem q1329 : (Jvm.Cond.unhidden "java/lang/StringBuilder" "toString" "()Ljava/lang/String;") ∈ lw_tbl := lw_at lw_m6 15 rfl
theorem q1330 : (Jvm.Cond.publicMethod ({ cls := "java/lang/StringBuilder", name := "toString", desc := "()Ljava/lang/String;" } : Jvm.MethodName)) ∈ lw_tbl := lw_at lw_m6 16 rfl
theorem q1331 : (Jvm.Cond.methodLink "TollRoad" (431 : Nat) ({ cls := "java/lang/String", name := "hashCode", desc := "()I" } : Jvm.MethodName)) ∈ lw_all := lw_g (lw_at lw_m6 17 rfl) rfl
theorem q1333 : (Jvm.Cond.methodLink "TollRoad" (437 : Nat) ({ cls := "java/lang/String", name := "equals", desc := "(Ljava/lang/Object;)Z" } : Jvm.MethodName)) ∈ lw_all := lw_g (lw_at lw_m6 19 rfl) rfl
theorem q1338 : (Jvm.Cond.fieldLink "TollRoad$Parser" (22 : Nat) "TollRoad$Parser" "length" "I") ∈ lw_all := lw_g (lw_at lw_m6 24 rfl) rfl
theorem q1339 : (Jvm.Cond.fieldLink "TollRoad$Parser" (18 : Nat) "TollRoad$Parser" "made" "LTollRoad$World;") ∈ lw_all := lw_g (lw_at lw_m6 25 rfl) rfl
theorem q1340 : (Jvm.Cond.fieldLinkNest "TollRoad" (459 : Nat) "TollRoad$Parser" "made" "LTollRoad$World;" "TollRoad") ∈ lw_tbl := lw_at lw_m6 26 rfl
theorem q1341 : (Jvm.Cond.fieldLink "TollRoad$Parser" (33 : Nat) "TollRoad$Parser" "next" "I") ∈ lw_all := lw_g (lw_at lw_m6 27 rfl) rfl
theorem q1342 : (Jvm.Cond.fieldLink "TollRoad$Parser" (40 : Nat) "TollRoad$Parser" "begin" "I") ∈ lw_all := lw_g (lw_at lw_m6 28 rfl) rfl
theorem q1343 : (Jvm.Cond.fieldLink "TollRoad$Parser" (54 : Nat) "TollRoad$Parser" "isNumber" "Z") ∈ lw_all := lw_g (lw_at lw_m6 29 rfl) rfl
theorem q1344 : (Jvm.Cond.fieldLink "TollRoad$Parser" (58 : Nat) "TollRoad$Parser" "isSemicolon" "Z") ∈ lw_all := lw_g (lw_at lw_m6 30 rfl) rfl
theorem q1345 : (Jvm.Cond.fieldLink "TollRoad$Parser" (43 : Nat) "TollRoad$Parser" "number" "I") ∈ lw_all := lw_g (lw_at lw_m6 31 rfl) rfl
theorem q1346 : (Jvm.Cond.fieldLink "TollRoad$Parser" (83 : Nat) "TollRoad$Parser" "word" "I") ∈ lw_all := lw_g (lw_at lw_m6 32 rfl) rfl
theorem q1347 : (Jvm.Cond.fieldLink "TollRoad$Parser" (3 : Nat) "TollRoad$Parser" "this$0" "LTollRoad;") ∈ lw_all := lw_g (lw_at lw_m6 33 rfl) rfl
theorem q1367 : (Jvm.Cond.methodLink "TollRoad" (456 : Nat) ({ cls := "TollRoad$Parser", name := "statements", desc := "()I" } : Jvm.MethodName)) ∈ lw_all := lw_g (lw_at lw_m6 53 rfl) rfl
theorem q1368 : (Jvm.Cond.instanceMethod ({ cls := "TollRoad$Parser", name := "statements", desc := "()I" } : Jvm.MethodName)) ∈ lw_all := lw_g (lw_at lw_m6 54 rfl) rfl
theorem q1369 : (Jvm.Cond.selects "TollRoad$Parser" ({ cls := "TollRoad$Parser", name := "statements", desc := "()I" } : Jvm.MethodName) ({ cls := "TollRoad$Parser", name := "statements", desc := "()I" } : Jvm.MethodName)) ∈ lw_all := lw_g (lw_at lw_m6 55 rfl) rfl
theorem q1370 : (Jvm.Cond.code ({ cls := "TollRoad$Parser", name := "statements", desc := "()I" } : Jvm.MethodName) prog_10_method_7_code (2 : Nat) (Option.some Jvm.ClassFile.FieldType.int)) ∈ lw_all := lw_g (lw_at lw_m6 56 rfl) rfl
theorem q1371 : (Jvm.Cond.methodLink "TollRoad$Parser" (98 : Nat) ({ cls := "TollRoad$Parser", name := "statement", desc := "()V" } : Jvm.MethodName)) ∈ lw_all := lw_g (lw_at lw_m6 57 rfl) rfl
theorem q1373 : (Jvm.Cond.instanceMethod ({ cls := "TollRoad$Parser", name := "statement", desc := "()V" } : Jvm.MethodName)) ∈ lw_all := lw_g (lw_at lw_m6 59 rfl) rfl
theorem q1374 : (Jvm.Cond.code ({ cls := "TollRoad$Parser", name := "statement", desc := "()V" } : Jvm.MethodName) prog_10_method_8_code (7 : Nat) (Option.none : Option Jvm.ClassFile.FieldType)) ∈ lw_all := lw_g (lw_at lw_m6 60 rfl) rfl
theorem q1375 : (Jvm.Cond.methodLink "TollRoad$Parser" (91 : Nat) ({ cls := "TollRoad$Parser", name := "require", desc := "(ZI)V" } : Jvm.MethodName)) ∈ lw_all := lw_g (lw_at lw_m6 61 rfl) rfl
theorem q1377 : (Jvm.Cond.instanceMethod ({ cls := "TollRoad$Parser", name := "require", desc := "(ZI)V" } : Jvm.MethodName)) ∈ lw_all := lw_g (lw_at lw_m6 63 rfl) rfl
theorem q1378 : (Jvm.Cond.code ({ cls := "TollRoad$Parser", name := "require", desc := "(ZI)V" } : Jvm.MethodName) prog_10_method_4_code (3 : Nat) (Option.none : Option Jvm.ClassFile.FieldType)) ∈ lw_all := lw_g (lw_at lw_m6 64 rfl) rfl
theorem q1379 : (Jvm.Cond.classLink "TollRoad$Parser" (86 : Nat) "TollRoad$TextError") ∈ lw_all := lw_g (lw_at lw_m6 65 rfl) rfl
theorem q1380 : (Jvm.Cond.instantiable "TollRoad$TextError" (8 : Nat)) ∈ lw_all := lw_g (lw_at lw_m6 66 rfl) rfl
theorem q1381 : (Jvm.Cond.castable "TollRoad$TextError" "TollRoad$TextError") ∈ lw_tbl := lw_at lw_m6 67 rfl
theorem q1388 : (Jvm.Cond.methodLink "TollRoad$Parser" (88 : Nat) ({ cls := "TollRoad$TextError", name := "<init>", desc := "(II)V" } : Jvm.MethodName)) ∈ lw_all := lw_g (lw_at lw_m6 74 rfl) rfl
theorem q1389 : (Jvm.Cond.instanceMethod ({ cls := "TollRoad$TextError", name := "<init>", desc := "(II)V" } : Jvm.MethodName)) ∈ lw_all := lw_g (lw_at lw_m6 75 rfl) rfl
theorem q1390 : (Jvm.Cond.code ({ cls := "TollRoad$TextError", name := "<init>", desc := "(II)V" } : Jvm.MethodName) prog_16_method_1_code (3 : Nat) (Option.none : Option Jvm.ClassFile.FieldType)) ∈ lw_all := lw_g (lw_at lw_m6 76 rfl) rfl
theorem q1391 : (Jvm.Cond.methodLink "TollRoad$TextError" (1 : Nat) ({ cls := "java/lang/Exception", name := "<init>", desc := "(Ljava/lang/String;Ljava/lang/Throwable;ZZ)V" } : Jvm.MethodName)) ∈ lw_all := lw_g (lw_at lw_m6 77 rfl) rfl
theorem q1392 : (Jvm.Cond.instanceMethod ({ cls := "java/lang/Exception", name := "<init>", desc := "(Ljava/lang/String;Ljava/lang/Throwable;ZZ)V" } : Jvm.MethodName)) ∈ lw_all := lw_g (lw_at lw_m6 78 rfl) rfl
theorem q1393 : (Jvm.Cond.code ({ cls := "java/lang/Exception", name := "<init>", desc := "(Ljava/lang/String;Ljava/lang/Throwable;ZZ)V" } : Jvm.MethodName) prog_29_method_5_code (5 : Nat) (Option.none : Option Jvm.ClassFile.FieldType)) ∈ lw_all := lw_g (lw_at lw_m6 79 rfl) rfl
theorem q1394 : (Jvm.Cond.methodLink "java/lang/Exception" (16 : Nat) ({ cls := "java/lang/Throwable", name := "<init>", desc := "(Ljava/lang/String;Ljava/lang/Throwable;ZZ)V" } : Jvm.MethodName)) ∈ lw_all := lw_g (lw_at lw_m6 80 rfl) rfl
theorem q1395 : (Jvm.Cond.instanceMethod ({ cls := "java/lang/Throwable", name := "<init>", desc := "(Ljava/lang/String;Ljava/lang/Throwable;ZZ)V" } : Jvm.MethodName)) ∈ lw_all := lw_g (lw_at lw_m6 81 rfl) rfl
theorem q1396 : (Jvm.Cond.code ({ cls := "java/lang/Throwable", name := "<init>", desc := "(Ljava/lang/String;Ljava/lang/Throwable;ZZ)V" } : Jvm.MethodName) prog_47_method_5_code (5 : Nat) (Option.none : Option Jvm.ClassFile.FieldType)) ∈ lw_all := lw_g (lw_at lw_m6 82 rfl) rfl
theorem q1397 : (Jvm.Cond.fieldLink "TollRoad$TextError" (7 : Nat) "TollRoad$TextError" "code" "I") ∈ lw_all := lw_g (lw_at lw_m6 83 rfl) rfl
theorem q1398 : (Jvm.Cond.fieldLinkNest "TollRoad" (464 : Nat) "TollRoad$TextError" "code" "I" "TollRoad") ∈ lw_tbl := lw_at lw_m6 84 rfl
theorem q1399 : (Jvm.Cond.fieldLink "TollRoad$TextError" (13 : Nat) "TollRoad$TextError" "position" "I") ∈ lw_all := lw_g (lw_at lw_m6 85 rfl) rfl
theorem q1400 : (Jvm.Cond.fieldLinkNest "TollRoad" (467 : Nat) "TollRoad$TextError" "position" "I" "TollRoad") ∈ lw_tbl := lw_at lw_m6 86 rfl
theorem q1407 : (Jvm.Cond.methodLink "TollRoad$Parser" (110 : Nat) ({ cls := "TollRoad$Parser", name := "number", desc := "(II)I" } : Jvm.MethodName)) ∈ lw_all := lw_g (lw_at lw_m6 93 rfl) rfl
theorem q1409 : (Jvm.Cond.instanceMethod ({ cls := "TollRoad$Parser", name := "number", desc := "(II)I" } : Jvm.MethodName)) ∈ lw_all := lw_g (lw_at lw_m6 95 rfl) rfl
theorem q1410 : (Jvm.Cond.code ({ cls := "TollRoad$Parser", name := "number", desc := "(II)I" } : Jvm.MethodName) prog_10_method_6_code (4 : Nat) (Option.some Jvm.ClassFile.FieldType.int)) ∈ lw_all := lw_g (lw_at lw_m6 96 rfl) rfl
theorem q1411 : (Jvm.Cond.methodLink "TollRoad$Parser" (95 : Nat) ({ cls := "TollRoad$Parser", name := "look", desc := "(II)I" } : Jvm.MethodName)) ∈ lw_all := lw_g (lw_at lw_m6 97 rfl) rfl
theorem q1413 : (Jvm.Cond.instanceMethod ({ cls := "TollRoad$Parser", name := "look", desc := "(II)I" } : Jvm.MethodName)) ∈ lw_all := lw_g (lw_at lw_m6 99 rfl) rfl
theorem q1414 : (Jvm.Cond.code ({ cls := "TollRoad$Parser", name := "look", desc := "(II)I" } : Jvm.MethodName) prog_10_method_5_code (3 : Nat) (Option.some Jvm.ClassFile.FieldType.int)) ∈ lw_all := lw_g (lw_at lw_m6 100 rfl) rfl
theorem q1415 : (Jvm.Cond.methodLink "TollRoad$Parser" (112 : Nat) ({ cls := "TollRoad$Network", name := "addGantry", desc := "(I)I" } : Jvm.MethodName)) ∈ lw_all := lw_g (lw_at lw_m6 101 rfl) rfl
theorem q1416 : (Jvm.Cond.instanceMethod ({ cls := "TollRoad$Network", name := "addGantry", desc := "(I)I" } : Jvm.MethodName)) ∈ lw_all := lw_g (lw_at lw_m6 102 rfl) rfl
theorem q1417 : (Jvm.Cond.selects "TollRoad$Network" ({ cls := "TollRoad$Network", name := "addGantry", desc := "(I)I" } : Jvm.MethodName) ({ cls := "TollRoad$Network", name := "addGantry", desc := "(I)I" } : Jvm.MethodName)) ∈ lw_all := lw_g (lw_at lw_m6 103 rfl) rfl
theorem q1418 : (Jvm.Cond.code ({ cls := "TollRoad$Network", name := "addGantry", desc := "(I)I" } : Jvm.MethodName) prog_8_method_5_code (2 : Nat) (Option.some Jvm.ClassFile.FieldType.int)) ∈ lw_all := lw_g (lw_at lw_m6 104 rfl) rfl
theorem q1419 : (Jvm.Cond.methodLink "TollRoad$Parser" (118 : Nat) ({ cls := "TollRoad$Parser", name := "road", desc := "()V" } : Jvm.MethodName)) ∈ lw_all := lw_g (lw_at lw_m6 105 rfl) rfl
theorem q1421 : (Jvm.Cond.instanceMethod ({ cls := "TollRoad$Parser", name := "road", desc := "()V" } : Jvm.MethodName)) ∈ lw_all := lw_g (lw_at lw_m6 107 rfl) rfl
theorem q1422 : (Jvm.Cond.code ({ cls := "TollRoad$Parser", name := "road", desc := "()V" } : Jvm.MethodName) prog_10_method_9_code (5 : Nat) (Option.none : Option Jvm.ClassFile.FieldType)) ∈ lw_all := lw_g (lw_at lw_m6 108 rfl) rfl
theorem q1423 : (Jvm.Cond.methodLink "TollRoad$Parser" (158 : Nat) ({ cls := "TollRoad$Network", name := "road", desc := "(II)LTollRoad$Road;" } : Jvm.MethodName)) ∈ lw_all := lw_g (lw_at lw_m6 109 rfl) rfl
theorem q1424 : (Jvm.Cond.instanceMethod ({ cls := "TollRoad$Network", name := "road", desc := "(II)LTollRoad$Road;" } : Jvm.MethodName)) ∈ lw_all := lw_g (lw_at lw_m6 110 rfl) rfl
theorem q1425 : (Jvm.Cond.selects "TollRoad$Network" ({ cls := "TollRoad$Network", name := "road", desc := "(II)LTollRoad$Road;" } : Jvm.MethodName) ({ cls := "TollRoad$Network", name := "road", desc := "(II)LTollRoad$Road;" } : Jvm.MethodName)) ∈ lw_all := lw_g (lw_at lw_m6 111 rfl) rfl
theorem q1426 : (Jvm.Cond.code ({ cls := "TollRoad$Network", name := "road", desc := "(II)LTollRoad$Road;" } : Jvm.MethodName) prog_8_method_3_code (3 : Nat) (Option.some (Jvm.ClassFile.FieldType.object "TollRoad$Road"))) ∈ lw_all := lw_g (lw_at lw_m6 112 rfl) rfl
theorem q1427 : (Jvm.Cond.methodLink "TollRoad$Parser" (161 : Nat) ({ cls := "TollRoad$Network", name := "add", desc := "(IIII)I" } : Jvm.MethodName)) ∈ lw_all := lw_g (lw_at lw_m6 113 rfl) rfl
theorem q1428 : (Jvm.Cond.instanceMethod ({ cls := "TollRoad$Network", name := "add", desc := "(IIII)I" } : Jvm.MethodName)) ∈ lw_all := lw_g (lw_at lw_m6 114 rfl) rfl
theorem q1429 : (Jvm.Cond.selects "TollRoad$Network" ({ cls := "TollRoad$Network", name := "add", desc := "(IIII)I" } : Jvm.MethodName) ({ cls := "TollRoad$Network", name := "add", desc := "(IIII)I" } : Jvm.MethodName)) ∈ lw_all := lw_g (lw_at lw_m6 115 rfl) rfl
theorem q1430 : (Jvm.Cond.code ({ cls := "TollRoad$Network", name := "add", desc := "(IIII)I" } : Jvm.MethodName) prog_8_method_4_code (5 : Nat) (Option.some Jvm.ClassFile.FieldType.int)) ∈ lw_all := lw_g (lw_at lw_m6 116 rfl) rfl
theorem q1431 : (Jvm.Cond.instantiable "TollRoad$Road" (3 : Nat)) ∈ lw_all := lw_g (lw_at lw_m6 117 rfl) rfl
theorem q1432 : (Jvm.Cond.methodLink "TollRoad$Network" (40 : Nat) ({ cls := "TollRoad$Road", name := "<init>", desc := "(III)V" } : Jvm.MethodName)) ∈ lw_all := lw_g (lw_at lw_m6 118 rfl) rfl
theorem q1433 : (Jvm.Cond.instanceMethod ({ cls := "TollRoad$Road", name := "<init>", desc := "(III)V" } : Jvm.MethodName)) ∈ lw_all := lw_g (lw_at lw_m6 119 rfl) rfl
theorem q1434 : (Jvm.Cond.code ({ cls := "TollRoad$Road", name := "<init>", desc := "(III)V" } : Jvm.MethodName) prog_13_method_1_code (4 : Nat) (Option.none : Option Jvm.ClassFile.FieldType)) ∈ lw_all := lw_g (lw_at lw_m6 120 rfl) rfl
theorem q1435 : (Jvm.Cond.methodLink "TollRoad$Road" (1 : Nat) ({ cls := "java/lang/Object", name := "<init>", desc := "()V" } : Jvm.MethodName)) ∈ lw_all := lw_g (lw_at lw_m6 121 rfl) rfl
theorem q1436 : (Jvm.Cond.fieldLink "TollRoad$Road" (7 : Nat) "TollRoad$Road" "to" "I") ∈ lw_all := lw_g (lw_at lw_m6 122 rfl) rfl
theorem q1437 : (Jvm.Cond.fieldLink "TollRoad$Road" (13 : Nat) "TollRoad$Road" "minutes" "I") ∈ lw_all := lw_g (lw_at lw_m6 123 rfl) rfl
theorem q1438 : (Jvm.Cond.fieldLinkNest "TollRoad$Search" (51 : Nat) "TollRoad$Road" "minutes" "I" "TollRoad") ∈ lw_tbl := lw_at lw_m6 124 rfl
theorem q1439 : (Jvm.Cond.fieldLink "TollRoad$Road" (16 : Nat) "TollRoad$Road" "toll" "I") ∈ lw_all := lw_g (lw_at lw_m6 125 rfl) rfl
theorem q1440 : (Jvm.Cond.fieldLinkNest "TollRoad$Search" (56 : Nat) "TollRoad$Road" "toll" "I" "TollRoad") ∈ lw_tbl := lw_at lw_m6 126 rfl
theorem q1448 : (Jvm.Cond.constant "TollRoad$Parser" (124 : Nat) (100000 : Int32)) ∈ lw_all := lw_g (lw_at lw_m6 134 rfl) rfl
theorem q1449 : (Jvm.Cond.methodLink "TollRoad$Parser" (125 : Nat) ({ cls := "TollRoad$World", name := "addAccount", desc := "(III)I" } : Jvm.MethodName)) ∈ lw_all := lw_g (lw_at lw_m6 135 rfl) rfl
theorem q1450 : (Jvm.Cond.instanceMethod ({ cls := "TollRoad$World", name := "addAccount", desc := "(III)I" } : Jvm.MethodName)) ∈ lw_all := lw_g (lw_at lw_m6 136 rfl) rfl
theorem q1451 : (Jvm.Cond.selects "TollRoad$World" ({ cls := "TollRoad$World", name := "addAccount", desc := "(III)I" } : Jvm.MethodName) ({ cls := "TollRoad$World", name := "addAccount", desc := "(III)I" } : Jvm.MethodName)) ∈ lw_all := lw_g (lw_at lw_m6 137 rfl) rfl
theorem q1452 : (Jvm.Cond.code ({ cls := "TollRoad$World", name := "addAccount", desc := "(III)I" } : Jvm.MethodName) prog_19_method_3_code (4 : Nat) (Option.some Jvm.ClassFile.FieldType.int)) ∈ lw_all := lw_g (lw_at lw_m6 138 rfl) rfl
theorem q1453 : (Jvm.Cond.instantiable "TollRoad$Account" (6 : Nat)) ∈ lw_all := lw_g (lw_at lw_m6 139 rfl) rfl
theorem q1454 : (Jvm.Cond.methodLink "TollRoad$World" (122 : Nat) ({ cls := "TollRoad$Account", name := "<init>", desc := "(III)V" } : Jvm.MethodName)) ∈ lw_all := lw_g (lw_at lw_m6 140 rfl) rfl
theorem q1455 : (Jvm.Cond.instanceMethod ({ cls := "TollRoad$Account", name := "<init>", desc := "(III)V" } : Jvm.MethodName)) ∈ lw_all := lw_g (lw_at lw_m6 141 rfl) rfl
theorem q1456 : (Jvm.Cond.code ({ cls := "TollRoad$Account", name := "<init>", desc := "(III)V" } : Jvm.MethodName) prog_2_method_1_code (4 : Nat) (Option.none : Option Jvm.ClassFile.FieldType)) ∈ lw_all := lw_g (lw_at lw_m6 142 rfl) rfl
theorem q1457 : (Jvm.Cond.methodLink "TollRoad$Account" (1 : Nat) ({ cls := "java/lang/Object", name := "<init>", desc := "()V" } : Jvm.MethodName)) ∈ lw_all := lw_g (lw_at lw_m6 143 rfl) rfl
theorem q1458 : (Jvm.Cond.fieldLink "TollRoad$Account" (7 : Nat) "TollRoad$Account" "balance" "I") ∈ lw_all := lw_g (lw_at lw_m6 144 rfl) rfl
theorem q1459 : (Jvm.Cond.fieldLinkNest "TollRoad" (188 : Nat) "TollRoad$Account" "balance" "I" "TollRoad") ∈ lw_tbl := lw_at lw_m6 145 rfl
theorem q1460 : (Jvm.Cond.fieldLink "TollRoad$Account" (13 : Nat) "TollRoad$Account" "percent" "I") ∈ lw_all := lw_g (lw_at lw_m6 146 rfl) rfl
theorem q1461 : (Jvm.Cond.fieldLinkNest "TollRoad" (193 : Nat) "TollRoad$Account" "percent" "I" "TollRoad") ∈ lw_tbl := lw_at lw_m6 147 rfl
theorem q1462 : (Jvm.Cond.fieldLink "TollRoad$Account" (16 : Nat) "TollRoad$Account" "after" "I") ∈ lw_all := lw_g (lw_at lw_m6 148 rfl) rfl
theorem q1463 : (Jvm.Cond.fieldLinkNest "TollRoad" (196 : Nat) "TollRoad$Account" "after" "I" "TollRoad") ∈ lw_tbl := lw_at lw_m6 149 rfl
theorem q1464 : (Jvm.Cond.fieldLink "TollRoad$Account" (22 : Nat) "TollRoad$Account" "bills" "I") ∈ lw_all := lw_g (lw_at lw_m6 150 rfl) rfl
theorem q1465 : (Jvm.Cond.fieldLinkNest "TollRoad" (199 : Nat) "TollRoad$Account" "bills" "I" "TollRoad") ∈ lw_tbl := lw_at lw_m6 151 rfl
theorem q1466 : (Jvm.Cond.fieldLink "TollRoad$Account" (25 : Nat) "TollRoad$Account" "amounts" "I") ∈ lw_all := lw_g (lw_at lw_m6 152 rfl) rfl
theorem q1467 : (Jvm.Cond.fieldLinkNest "TollRoad" (201 : Nat) "TollRoad$Account" "amounts" "I" "TollRoad") ∈ lw_tbl := lw_at lw_m6 153 rfl
theorem q1468 : (Jvm.Cond.fieldLink "TollRoad$Account" (28 : Nat) "TollRoad$Account" "refunds" "I") ∈ lw_all := lw_g (lw_at lw_m6 154 rfl) rfl
theorem q1469 : (Jvm.Cond.fieldLinkNest "TollRoad" (204 : Nat) "TollRoad$Account" "refunds" "I" "TollRoad") ∈ lw_tbl := lw_at lw_m6 155 rfl
theorem q1483 : (Jvm.Cond.methodLink "TollRoad$Parser" (133 : Nat) ({ cls := "java/util/ArrayList", name := "size", desc := "()I" } : Jvm.MethodName)) ∈ lw_all := lw_g (lw_at lw_m6 169 rfl) rfl
theorem q1484 : (Jvm.Cond.methodLink "TollRoad$Parser" (139 : Nat) ({ cls := "TollRoad$Parser", name := "vehicle", desc := "()V" } : Jvm.MethodName)) ∈ lw_all := lw_g (lw_at lw_m6 170 rfl) rfl
theorem q1486 : (Jvm.Cond.instanceMethod ({ cls := "TollRoad$Parser", name := "vehicle", desc := "()V" } : Jvm.MethodName)) ∈ lw_all := lw_g (lw_at lw_m6 172 rfl) rfl
theorem q1487 : (Jvm.Cond.code ({ cls := "TollRoad$Parser", name := "vehicle", desc := "()V" } : Jvm.MethodName) prog_10_method_10_code (4 : Nat) (Option.none : Option Jvm.ClassFile.FieldType)) ∈ lw_all := lw_g (lw_at lw_m6 173 rfl) rfl
theorem q1488 : (Jvm.Cond.methodLink "TollRoad$Parser" (165 : Nat) ({ cls := "TollRoad$World", name := "addVehicle", desc := "(II)I" } : Jvm.MethodName)) ∈ lw_all := lw_g (lw_at lw_m6 174 rfl) rfl
theorem q1489 : (Jvm.Cond.instanceMethod ({ cls := "TollRoad$World", name := "addVehicle", desc := "(II)I" } : Jvm.MethodName)) ∈ lw_all := lw_g (lw_at lw_m6 175 rfl) rfl
theorem q1490 : (Jvm.Cond.selects "TollRoad$World" ({ cls := "TollRoad$World", name := "addVehicle", desc := "(II)I" } : Jvm.MethodName) ({ cls := "TollRoad$World", name := "addVehicle", desc := "(II)I" } : Jvm.MethodName)) ∈ lw_all := lw_g (lw_at lw_m6 176 rfl) rfl
theorem q1491 : (Jvm.Cond.code ({ cls := "TollRoad$World", name := "addVehicle", desc := "(II)I" } : Jvm.MethodName) prog_19_method_4_code (3 : Nat) (Option.some Jvm.ClassFile.FieldType.int)) ∈ lw_all := lw_g (lw_at lw_m6 177 rfl) rfl
theorem q1492 : (Jvm.Cond.classLink "TollRoad$World" (80 : Nat) "TollRoad$Vehicle") ∈ lw_all := lw_g (lw_at lw_m6 178 rfl) rfl
theorem q1493 : (Jvm.Cond.instantiable "TollRoad$Vehicle" (6 : Nat)) ∈ lw_all := lw_g (lw_at lw_m6 179 rfl) rfl
theorem q1494 : (Jvm.Cond.methodLink "TollRoad$World" (125 : Nat) ({ cls := "TollRoad$Vehicle", name := "<init>", desc := "(II)V" } : Jvm.MethodName)) ∈ lw_all := lw_g (lw_at lw_m6 180 rfl) rfl
theorem q1495 : (Jvm.Cond.instanceMethod ({ cls := "TollRoad$Vehicle", name := "<init>", desc := "(II)V" } : Jvm.MethodName)) ∈ lw_all := lw_g (lw_at lw_m6 181 rfl) rfl
theorem q1496 : (Jvm.Cond.code ({ cls := "TollRoad$Vehicle", name := "<init>", desc := "(II)V" } : Jvm.MethodName) prog_18_method_1_code (3 : Nat) (Option.none : Option Jvm.ClassFile.FieldType)) ∈ lw_all := lw_g (lw_at lw_m6 182 rfl) rfl
theorem q1497 : (Jvm.Cond.methodLink "TollRoad$Vehicle" (3 : Nat) ({ cls := "java/lang/Object", name := "<init>", desc := "()V" } : Jvm.MethodName)) ∈ lw_all := lw_g (lw_at lw_m6 183 rfl) rfl
theorem q1498 : (Jvm.Cond.fieldLink "TollRoad$Vehicle" (15 : Nat) "TollRoad$Vehicle" "size" "I") ∈ lw_all := lw_g (lw_at lw_m6 184 rfl) rfl
theorem q1499 : (Jvm.Cond.fieldLinkNest "TollRoad$Order" (33 : Nat) "TollRoad$Vehicle" "size" "I" "TollRoad") ∈ lw_tbl := lw_at lw_m6 185 rfl
theorem q1500 : (Jvm.Cond.fieldLinkNest "TollRoad$World" (189 : Nat) "TollRoad$Vehicle" "size" "I" "TollRoad") ∈ lw_tbl := lw_at lw_m6 186 rfl
theorem q1501 : (Jvm.Cond.fieldLinkNest "TollRoad" (213 : Nat) "TollRoad$Vehicle" "size" "I" "TollRoad") ∈ lw_tbl := lw_at lw_m6 187 rfl
theorem q1502 : (Jvm.Cond.fieldLink "TollRoad$Vehicle" (18 : Nat) "TollRoad$Vehicle" "account" "I") ∈ lw_all := lw_g (lw_at lw_m6 188 rfl) rfl
theorem q1503 : (Jvm.Cond.fieldLinkNest "TollRoad$World" (196 : Nat) "TollRoad$Vehicle" "account" "I" "TollRoad") ∈ lw_tbl := lw_at lw_m6 189 rfl
theorem q1504 : (Jvm.Cond.fieldLinkNest "TollRoad" (215 : Nat) "TollRoad$Vehicle" "account" "I" "TollRoad") ∈ lw_tbl := lw_at lw_m6 190 rfl
theorem q1505 : (Jvm.Cond.fieldLink "TollRoad$Vehicle" (24 : Nat) "TollRoad$Vehicle" "debt" "I") ∈ lw_all := lw_g (lw_at lw_m6 191 rfl) rfl
theorem q1506 : (Jvm.Cond.fieldLinkNest "TollRoad$World" (230 : Nat) "TollRoad$Vehicle" "debt" "I" "TollRoad") ∈ lw_tbl := lw_at lw_m6 192 rfl
theorem q1507 : (Jvm.Cond.fieldLinkNest "TollRoad" (218 : Nat) "TollRoad$Vehicle" "debt" "I" "TollRoad") ∈ lw_tbl := lw_at lw_m6 193 rfl
theorem q1508 : (Jvm.Cond.fieldLink "TollRoad$Vehicle" (27 : Nat) "TollRoad$Vehicle" "billedReads" "I") ∈ lw_all := lw_g (lw_at lw_m6 194 rfl) rfl
theorem q1509 : (Jvm.Cond.fieldLinkNest "TollRoad$World" (247 : Nat) "TollRoad$Vehicle" "billedReads" "I" "TollRoad") ∈ lw_tbl := lw_at lw_m6 195 rfl
theorem q1510 : (Jvm.Cond.fieldLinkNest "TollRoad" (224 : Nat) "TollRoad$Vehicle" "billedReads" "I" "TollRoad") ∈ lw_tbl := lw_at lw_m6 196 rfl
theorem q1511 : (Jvm.Cond.fieldLink "TollRoad$Vehicle" (9 : Nat) "TollRoad$Vehicle" "latest" "I") ∈ lw_all := lw_g (lw_at lw_m6 197 rfl) rfl
theorem q1512 : (Jvm.Cond.fieldLinkNest "TollRoad$World" (145 : Nat) "TollRoad$Vehicle" "latest" "I" "TollRoad") ∈ lw_tbl := lw_at lw_m6 198 rfl
theorem q1513 : (Jvm.Cond.fieldLinkNest "TollRoad" (227 : Nat) "TollRoad$Vehicle" "latest" "I" "TollRoad") ∈ lw_tbl := lw_at lw_m6 199 rfl
theorem q1514 : (Jvm.Cond.fieldLink "TollRoad$Vehicle" (30 : Nat) "TollRoad$Vehicle" "bills" "I") ∈ lw_all := lw_g (lw_at lw_m6 200 rfl) rfl
theorem q1515 : (Jvm.Cond.fieldLinkNest "TollRoad$World" (259 : Nat) "TollRoad$Vehicle" "bills" "I" "TollRoad") ∈ lw_tbl := lw_at lw_m6 201 rfl
theorem q1516 : (Jvm.Cond.fieldLinkNest "TollRoad" (230 : Nat) "TollRoad$Vehicle" "bills" "I" "TollRoad") ∈ lw_tbl := lw_at lw_m6 202 rfl
theorem q1530 : (Jvm.Cond.methodLink "TollRoad$World" (85 : Nat) ({ cls := "java/util/ArrayList", name := "add", desc := "(Ljava/lang/Object;)Z" } : Jvm.MethodName)) ∈ lw_all := lw_g (lw_at lw_m6 216 rfl) rfl
theorem q1531 : (Jvm.Cond.instanceMethod ({ cls := "java/util/ArrayList", name := "add", desc := "(Ljava/lang/Object;)Z" } : Jvm.MethodName)) ∈ lw_all := lw_g (lw_at lw_m6 217 rfl) rfl
theorem q1532 : (Jvm.Cond.selects "java/util/ArrayList" ({ cls := "java/util/ArrayList", name := "add", desc := "(Ljava/lang/Object;)Z" } : Jvm.MethodName) ({ cls := "java/util/ArrayList", name := "add", desc := "(Ljava/lang/Object;)Z" } : Jvm.MethodName)) ∈ lw_all := lw_g (lw_at lw_m6 218 rfl) rfl
theorem q1533 : (Jvm.Cond.code ({ cls := "java/util/ArrayList", name := "add", desc := "(Ljava/lang/Object;)Z" } : Jvm.MethodName) prog_56_method_25_code (2 : Nat) (Option.some Jvm.ClassFile.FieldType.boolean)) ∈ lw_all := lw_g (lw_at lw_m6 219 rfl) rfl
theorem q1534 : (Jvm.Cond.methodLink "java/util/ArrayList" (131 : Nat) ({ cls := "java/util/ArrayList", name := "add", desc := "(Ljava/lang/Object;[Ljava/lang/Object;I)V" } : Jvm.MethodName)) ∈ lw_all := lw_g (lw_at lw_m6 220 rfl) rfl
theorem q1536 : (Jvm.Cond.instanceMethod ({ cls := "java/util/ArrayList", name := "add", desc := "(Ljava/lang/Object;[Ljava/lang/Object;I)V" } : Jvm.MethodName)) ∈ lw_all := lw_g (lw_at lw_m6 222 rfl) rfl
theorem q1537 : (Jvm.Cond.code ({ cls := "java/util/ArrayList", name := "add", desc := "(Ljava/lang/Object;[Ljava/lang/Object;I)V" } : Jvm.MethodName) prog_56_method_24_code (4 : Nat) (Option.none : Option Jvm.ClassFile.FieldType)) ∈ lw_all := lw_g (lw_at lw_m6 223 rfl) rfl
theorem q1538 : (Jvm.Cond.methodLink "java/util/ArrayList" (129 : Nat) ({ cls := "java/util/ArrayList", name := "grow", desc := "()[Ljava/lang/Object;" } : Jvm.MethodName)) ∈ lw_all := lw_g (lw_at lw_m6 224 rfl) rfl
theorem q1540 : (Jvm.Cond.instanceMethod ({ cls := "java/util/ArrayList", name := "grow", desc := "()[Ljava/lang/Object;" } : Jvm.MethodName)) ∈ lw_all := lw_g (lw_at lw_m6 226 rfl) rfl
theorem q1541 : (Jvm.Cond.code ({ cls := "java/util/ArrayList", name := "grow", desc := "()[Ljava/lang/Object;" } : Jvm.MethodName) prog_56_method_7_code (1 : Nat) (Option.some (Jvm.ClassFile.FieldType.array (Jvm.ClassFile.FieldType.object "java/lang/Object")))) ∈ lw_all := lw_g (lw_at lw_m6 227 rfl) rfl
theorem q1542 : (Jvm.Cond.methodLink "java/util/ArrayList" (69 : Nat) ({ cls := "java/util/ArrayList", name := "grow", desc := "(I)[Ljava/lang/Object;" } : Jvm.MethodName)) ∈ lw_all := lw_g (lw_at lw_m6 228 rfl) rfl
theorem q1544 : (Jvm.Cond.instanceMethod ({ cls := "java/util/ArrayList", name := "grow", desc := "(I)[Ljava/lang/Object;" } : Jvm.MethodName)) ∈ lw_all := lw_g (lw_at lw_m6 230 rfl) rfl
theorem q1545 : (Jvm.Cond.code ({ cls := "java/util/ArrayList", name := "grow", desc := "(I)[Ljava/lang/Object;" } : Jvm.MethodName) prog_56_method_6_code (4 : Nat) (Option.some (Jvm.ClassFile.FieldType.array (Jvm.ClassFile.FieldType.object "java/lang/Object")))) ∈ lw_all := lw_g (lw_at lw_m6 231 rfl) rfl
theorem q1548 : (Jvm.Cond.methodLink "java/util/ArrayList" (73 : Nat) ({ cls := "jdk/internal/util/ArraysSupport", name := "newLength", desc := "(III)I" } : Jvm.MethodName)) ∈ lw_all := lw_g (lw_at lw_m6 234 rfl) rfl
theorem q1549 : (Jvm.Cond.methodLink "java/util/ArrayList" (66 : Nat) ({ cls := "java/util/Arrays", name := "copyOf", desc := "([Ljava/lang/Object;I)[Ljava/lang/Object;" } : Jvm.MethodName)) ∈ lw_all := lw_g (lw_at lw_m6 235 rfl) rfl
theorem q1550 : (Jvm.Cond.static ({ cls := "java/util/Arrays", name := "copyOf", desc := "([Ljava/lang/Object;I)[Ljava/lang/Object;" } : Jvm.MethodName)) ∈ lw_all := lw_g (lw_at lw_m6 236 rfl) rfl
theorem q1551 : (Jvm.Cond.code ({ cls := "java/util/Arrays", name := "copyOf", desc := "([Ljava/lang/Object;I)[Ljava/lang/Object;" } : Jvm.MethodName) prog_58_method_119_code (2 : Nat) (Option.some (Jvm.ClassFile.FieldType.array (Jvm.ClassFile.FieldType.object "java/lang/Object")))) ∈ lw_all := lw_g (lw_at lw_m6 237 rfl) rfl
theorem q1552 : (Jvm.Cond.methodLink "java/util/Arrays" (86 : Nat) ({ cls := "java/lang/Object", name := "getClass", desc := "()Ljava/lang/Class;" } : Jvm.MethodName)) ∈ lw_all := lw_g (lw_at lw_m6 238 rfl) rfl
theorem q1553 : (Jvm.Cond.methodLink "java/util/Arrays" (300 : Nat) ({ cls := "java/util/Arrays", name := "copyOf", desc := "([Ljava/lang/Object;ILjava/lang/Class;)[Ljava/lang/Object;" } : Jvm.MethodName)) ∈ lw_all := lw_g (lw_at lw_m6 239 rfl) rfl
theorem q1554 : (Jvm.Cond.static ({ cls := "java/util/Arrays", name := "copyOf", desc := "([Ljava/lang/Object;ILjava/lang/Class;)[Ljava/lang/Object;" } : Jvm.MethodName)) ∈ lw_all := lw_g (lw_at lw_m7 0 rfl) rfl
theorem q1555 : (Jvm.Cond.code ({ cls := "java/util/Arrays", name := "copyOf", desc := "([Ljava/lang/Object;ILjava/lang/Class;)[Ljava/lang/Object;" } : Jvm.MethodName) prog_58_method_120_code (4 : Nat) (Option.some (Jvm.ClassFile.FieldType.array (Jvm.ClassFile.FieldType.object "java/lang/Object")))) ∈ lw_all := lw_g (lw_at lw_m7 1 rfl) rfl
theorem q1556 : (Jvm.Cond.classLink "java/util/Arrays" (110 : Nat) "[Ljava/lang/Object;") ∈ lw_all := lw_g (lw_at lw_m7 2 rfl) rfl
theorem q1557 : (Jvm.Cond.classLink "java/util/Arrays" (2 : Nat) "java/lang/Object") ∈ lw_all := lw_g (lw_at lw_m7 3 rfl) rfl
theorem q1558 : (Jvm.Cond.methodLink "java/util/ArrayList" (79 : Nat) ({ cls := "java/lang/Math", name := "max", desc := "(II)I" } : Jvm.MethodName)) ∈ lw_all := lw_g (lw_at lw_m7 4 rfl) rfl
theorem q1559 : (Jvm.Cond.methodLink "TollRoad$World" (128 : Nat) ({ cls := "java/util/ArrayList", name := "size", desc := "()I" } : Jvm.MethodName)) ∈ lw_all := lw_g (lw_at lw_m7 5 rfl) rfl
theorem q1560 : (Jvm.Cond.methodLink "TollRoad$Parser" (142 : Nat) ({ cls := "TollRoad$Bounds", name := "of", desc := "(I)LTollRoad$Bounds;" } : Jvm.MethodName)) ∈ lw_all := lw_g (lw_at lw_m7 6 rfl) rfl
theorem q1561 : (Jvm.Cond.static ({ cls := "TollRoad$Bounds", name := "of", desc := "(I)LTollRoad$Bounds;" } : Jvm.MethodName)) ∈ lw_all := lw_g (lw_at lw_m7 7 rfl) rfl
theorem q1562 : (Jvm.Cond.code ({ cls := "TollRoad$Bounds", name := "of", desc := "(I)LTollRoad$Bounds;" } : Jvm.MethodName) prog_4_method_4_code (5 : Nat) (Option.some (Jvm.ClassFile.FieldType.object "TollRoad$Bounds"))) ∈ lw_all := lw_g (lw_at lw_m7 8 rfl) rfl
theorem q1563 : (Jvm.Cond.classLink "TollRoad$Bounds" (16 : Nat) "TollRoad$Bounds$1") ∈ lw_all := lw_g (lw_at lw_m7 9 rfl) rfl
theorem q1564 : (Jvm.Cond.instantiable "TollRoad$Bounds$1" (2 : Nat)) ∈ lw_all := lw_g (lw_at lw_m7 10 rfl) rfl
theorem q1565 : (Jvm.Cond.methodLink "TollRoad$Bounds" (18 : Nat) ({ cls := "TollRoad$Bounds$1", name := "<init>", desc := "(II)V" } : Jvm.MethodName)) ∈ lw_all := lw_g (lw_at lw_m7 11 rfl) rfl
theorem q1566 : (Jvm.Cond.instanceMethod ({ cls := "TollRoad$Bounds$1", name := "<init>", desc := "(II)V" } : Jvm.MethodName)) ∈ lw_all := lw_g (lw_at lw_m7 12 rfl) rfl
theorem q1567 : (Jvm.Cond.code ({ cls := "TollRoad$Bounds$1", name := "<init>", desc := "(II)V" } : Jvm.MethodName) prog_5_method_1_code (3 : Nat) (Option.none : Option Jvm.ClassFile.FieldType)) ∈ lw_all := lw_g (lw_at lw_m7 13 rfl) rfl
theorem q1568 : (Jvm.Cond.methodLink "TollRoad$Bounds$1" (10 : Nat) ({ cls := "java/lang/Object", name := "<init>", desc := "()V" } : Jvm.MethodName)) ∈ lw_all := lw_g (lw_at lw_m7 14 rfl) rfl
theorem q1569 : (Jvm.Cond.fieldLink "TollRoad$Bounds$1" (1 : Nat) "TollRoad$Bounds$1" "val$low" "I") ∈ lw_all := lw_g (lw_at lw_m7 15 rfl) rfl
theorem q1570 : (Jvm.Cond.fieldLink "TollRoad$Bounds$1" (7 : Nat) "TollRoad$Bounds$1" "val$high" "I") ∈ lw_all := lw_g (lw_at lw_m7 16 rfl) rfl
theorem q1577 : (Jvm.Cond.methodLink "TollRoad$Parser" (152 : Nat) ({ cls := "TollRoad$Bounds", name := "low", desc := "()I" } : Jvm.MethodName)) ∈ lw_all := lw_g (lw_at lw_m7 23 rfl) rfl
theorem q1578 : (Jvm.Cond.interfaceMethod "TollRoad$Bounds" "TollRoad$Bounds" "low" "()I") ∈ lw_tbl := lw_at lw_m7 24 rfl
theorem q1579 : (Jvm.Cond.declares ({ cls := "TollRoad$Bounds", name := "low", desc := "()I" } : Jvm.MethodName)) ∈ lw_tbl := lw_at lw_m7 25 rfl
theorem q1580 : (Jvm.Cond.castable "TollRoad$Bounds$1" "TollRoad$Bounds") ∈ lw_tbl := lw_at lw_m7 26 rfl
theorem q1581 : (Jvm.Cond.selects "TollRoad$Bounds$1" ({ cls := "TollRoad$Bounds", name := "low", desc := "()I" } : Jvm.MethodName) ({ cls := "TollRoad$Bounds$1", name := "low", desc := "()I" } : Jvm.MethodName)) ∈ lw_all := lw_g (lw_at lw_m7 27 rfl) rfl
theorem q1582 : (Jvm.Cond.unhidden "TollRoad$Bounds$1" "low" "()I") ∈ lw_tbl := lw_at lw_m7 28 rfl
theorem q1583 : (Jvm.Cond.instanceMethod ({ cls := "TollRoad$Bounds$1", name := "low", desc := "()I" } : Jvm.MethodName)) ∈ lw_all := lw_g (lw_at lw_m7 29 rfl) rfl
theorem q1584 : (Jvm.Cond.publicMethod ({ cls := "TollRoad$Bounds$1", name := "low", desc := "()I" } : Jvm.MethodName)) ∈ lw_tbl := lw_at lw_m7 30 rfl
theorem q1585 : (Jvm.Cond.code ({ cls := "TollRoad$Bounds$1", name := "low", desc := "()I" } : Jvm.MethodName) prog_5_method_2_code (1 : Nat) (Option.some Jvm.ClassFile.FieldType.int)) ∈ lw_all := lw_g (lw_at lw_m7 31 rfl) rfl
theorem q1587 : (Jvm.Cond.methodLink "TollRoad$Parser" (155 : Nat) ({ cls := "TollRoad$Bounds", name := "high", desc := "()I" } : Jvm.MethodName)) ∈ lw_all := lw_g (lw_at lw_m7 33 rfl) rfl
theorem q1588 : (Jvm.Cond.interfaceMethod "TollRoad$Bounds" "TollRoad$Bounds" "high" "()I") ∈ lw_tbl := lw_at lw_m7 34 rfl
theorem q1589 : (Jvm.Cond.declares ({ cls := "TollRoad$Bounds", name := "high", desc := "()I" } : Jvm.MethodName)) ∈ lw_tbl := lw_at lw_m7 35 rfl
theorem q1590 : (Jvm.Cond.selects "TollRoad$Bounds$1" ({ cls := "TollRoad$Bounds", name := "high", desc := "()I" } : Jvm.MethodName) ({ cls := "TollRoad$Bounds$1", name := "high", desc := "()I" } : Jvm.MethodName)) ∈ lw_all := lw_g (lw_at lw_m7 36 rfl) rfl
theorem q1591 : (Jvm.Cond.unhidden "TollRoad$Bounds$1" "high" "()I") ∈ lw_tbl := lw_at lw_m7 37 rfl
theorem q1592 : (Jvm.Cond.instanceMethod ({ cls := "TollRoad$Bounds$1", name := "high", desc := "()I" } : Jvm.MethodName)) ∈ lw_all := lw_g (lw_at lw_m7 38 rfl) rfl
theorem q1593 : (Jvm.Cond.publicMethod ({ cls := "TollRoad$Bounds$1", name := "high", desc := "()I" } : Jvm.MethodName)) ∈ lw_tbl := lw_at lw_m7 39 rfl
theorem q1594 : (Jvm.Cond.code ({ cls := "TollRoad$Bounds$1", name := "high", desc := "()I" } : Jvm.MethodName) prog_5_method_3_code (1 : Nat) (Option.some Jvm.ClassFile.FieldType.int)) ∈ lw_all := lw_g (lw_at lw_m7 40 rfl) rfl
theorem q1595 : (Jvm.Cond.methodLink "TollRoadLaw" (147 : Nat) ({ cls := "TollRoad", name := "errorCode", desc := "()I" } : Jvm.MethodName)) ∈ lw_all := lw_g (lw_at lw_m7 41 rfl) rfl
theorem q1596 : (Jvm.Cond.instanceMethod ({ cls := "TollRoad", name := "errorCode", desc := "()I" } : Jvm.MethodName)) ∈ lw_all := lw_g (lw_at lw_m7 42 rfl) rfl
theorem q1597 : (Jvm.Cond.selects "TollRoad" ({ cls := "TollRoad", name := "errorCode", desc := "()I" } : Jvm.MethodName) ({ cls := "TollRoad", name := "errorCode", desc := "()I" } : Jvm.MethodName)) ∈ lw_all := lw_g (lw_at lw_m7 43 rfl) rfl
theorem q1598 : (Jvm.Cond.code ({ cls := "TollRoad", name := "errorCode", desc := "()I" } : Jvm.MethodName) prog_1_method_59_code (1 : Nat) (Option.some Jvm.ClassFile.FieldType.int)) ∈ lw_all := lw_g (lw_at lw_m7 44 rfl) rfl
theorem q1599 : (Jvm.Cond.methodLink "TollRoadLaw" (151 : Nat) ({ cls := "TollRoad", name := "errorPosition", desc := "()I" } : Jvm.MethodName)) ∈ lw_all := lw_g (lw_at lw_m7 45 rfl) rfl
theorem q1600 : (Jvm.Cond.instanceMethod ({ cls := "TollRoad", name := "errorPosition", desc := "()I" } : Jvm.MethodName)) ∈ lw_all := lw_g (lw_at lw_m7 46 rfl) rfl
theorem q1601 : (Jvm.Cond.selects "TollRoad" ({ cls := "TollRoad", name := "errorPosition", desc := "()I" } : Jvm.MethodName) ({ cls := "TollRoad", name := "errorPosition", desc := "()I" } : Jvm.MethodName)) ∈ lw_all := lw_g (lw_at lw_m7 47 rfl) rfl
theorem q1602 : (Jvm.Cond.code ({ cls := "TollRoad", name := "errorPosition", desc := "()I" } : Jvm.MethodName) prog_1_method_60_code (1 : Nat) (Option.some Jvm.ClassFile.FieldType.int)) ∈ lw_all := lw_g (lw_at lw_m7 48 rfl) rfl
theorem q1603 : (Jvm.Cond.methodLink "TollRoadLaw" (130 : Nat) ({ cls := "TollRoadLaw", name := "appendText", desc := "(LTollRoad;I[J)I" } : Jvm.MethodName)) ∈ lw_all := lw_g (lw_at lw_m7 49 rfl) rfl
theorem q1604 : (Jvm.Cond.static ({ cls := "TollRoadLaw", name := "appendText", desc := "(LTollRoad;I[J)I" } : Jvm.MethodName)) ∈ lw_all := lw_g (lw_at lw_m7 50 rfl) rfl
theorem q1605 : (Jvm.Cond.codeWith ({ cls := "TollRoadLaw", name := "appendText", desc := "(LTollRoad;I[J)I" } : Jvm.MethodName) method_3_code (4 : Nat) (Option.some Jvm.ClassFile.FieldType.int) [((0 : Nat), (9 : Nat), (12 : Nat), (13 : Nat))]) ∈ lw_all := lw_g (lw_at lw_m7 51 rfl) rfl
theorem q1606 : (Jvm.Cond.classLink "TollRoadLaw" (13 : Nat) "java/lang/IllegalStateException") ∈ lw_all := lw_g (lw_at lw_m7 52 rfl) rfl
theorem q1607 : (Jvm.Cond.methodLink "TollRoadLaw" (7 : Nat) ({ cls := "TollRoad", name := "appendText", desc := "(I)I" } : Jvm.MethodName)) ∈ lw_all := lw_g (lw_at lw_m7 53 rfl) rfl
theorem q1608 : (Jvm.Cond.instanceMethod ({ cls := "TollRoad", name := "appendText", desc := "(I)I" } : Jvm.MethodName)) ∈ lw_all := lw_g (lw_at lw_m7 54 rfl) rfl
theorem q1609 : (Jvm.Cond.selects "TollRoad" ({ cls := "TollRoad", name := "appendText", desc := "(I)I" } : Jvm.MethodName) ({ cls := "TollRoad", name := "appendText", desc := "(I)I" } : Jvm.MethodName)) ∈ lw_all := lw_g (lw_at lw_m7 55 rfl) rfl
theorem q1610 : (Jvm.Cond.code ({ cls := "TollRoad", name := "appendText", desc := "(I)I" } : Jvm.MethodName) prog_1_method_56_code (3 : Nat) (Option.some Jvm.ClassFile.FieldType.int)) ∈ lw_all := lw_g (lw_at lw_m7 56 rfl) rfl
theorem q1611 : (Jvm.Cond.methodLink "TollRoad" (82 : Nat) ({ cls := "TollRoad", name := "checkState", desc := "(Z)V" } : Jvm.MethodName)) ∈ lw_all := lw_g (lw_at lw_m7 57 rfl) rfl
theorem q1612 : (Jvm.Cond.static ({ cls := "TollRoad", name := "checkState", desc := "(Z)V" } : Jvm.MethodName)) ∈ lw_all := lw_g (lw_at lw_m7 58 rfl) rfl
theorem q1613 : (Jvm.Cond.code ({ cls := "TollRoad", name := "checkState", desc := "(Z)V" } : Jvm.MethodName) prog_1_method_4_code (1 : Nat) (Option.none : Option Jvm.ClassFile.FieldType)) ∈ lw_all := lw_g (lw_at lw_m7 59 rfl) rfl
theorem q1614 : (Jvm.Cond.classLink "TollRoad" (10 : Nat) "java/lang/IllegalStateException") ∈ lw_all := lw_g (lw_at lw_m7 60 rfl) rfl
theorem q1616 : (Jvm.Cond.castable "java/lang/IllegalStateException" "java/lang/IllegalStateException") ∈ lw_tbl := lw_at lw_m7 62 rfl
theorem q1623 : (Jvm.Cond.methodLink "TollRoad" (12 : Nat) ({ cls := "java/lang/IllegalStateException", name := "<init>", desc := "()V" } : Jvm.MethodName)) ∈ lw_all := lw_g (lw_at lw_m7 69 rfl) rfl
theorem q1635 : (Jvm.Cond.methodLink "TollRoadLaw" (140 : Nat) ({ cls := "TollRoadLaw", name := "truncateText", desc := "(LTollRoad;I[J)I" } : Jvm.MethodName)) ∈ lw_all := lw_g (lw_at lw_m7 81 rfl) rfl
theorem q1636 : (Jvm.Cond.static ({ cls := "TollRoadLaw", name := "truncateText", desc := "(LTollRoad;I[J)I" } : Jvm.MethodName)) ∈ lw_all := lw_g (lw_at lw_m7 82 rfl) rfl
theorem q1637 : (Jvm.Cond.codeWith ({ cls := "TollRoadLaw", name := "truncateText", desc := "(LTollRoad;I[J)I" } : Jvm.MethodName) method_4_code (4 : Nat) (Option.some Jvm.ClassFile.FieldType.int) [((0 : Nat), (9 : Nat), (12 : Nat), (18 : Nat))]) ∈ lw_all := lw_g (lw_at lw_m7 83 rfl) rfl
theorem q1638 : (Jvm.Cond.classLink "TollRoadLaw" (18 : Nat) "java/lang/IllegalArgumentException") ∈ lw_all := lw_g (lw_at lw_m7 84 rfl) rfl
theorem q1639 : (Jvm.Cond.methodLink "TollRoadLaw" (15 : Nat) ({ cls := "TollRoad", name := "truncateText", desc := "(I)I" } : Jvm.MethodName)) ∈ lw_all := lw_g (lw_at lw_m7 85 rfl) rfl
theorem q1640 : (Jvm.Cond.instanceMethod ({ cls := "TollRoad", name := "truncateText", desc := "(I)I" } : Jvm.MethodName)) ∈ lw_all := lw_g (lw_at lw_m7 86 rfl) rfl
theorem q1641 : (Jvm.Cond.selects "TollRoad" ({ cls := "TollRoad", name := "truncateText", desc := "(I)I" } : Jvm.MethodName) ({ cls := "TollRoad", name := "truncateText", desc := "(I)I" } : Jvm.MethodName)) ∈ lw_all := lw_g (lw_at lw_m7 87 rfl) rfl
theorem q1642 : (Jvm.Cond.code ({ cls := "TollRoad", name := "truncateText", desc := "(I)I" } : Jvm.MethodName) prog_1_method_57_code (2 : Nat) (Option.some Jvm.ClassFile.FieldType.int)) ∈ lw_all := lw_g (lw_at lw_m7 88 rfl) rfl
theorem q1643 : (Jvm.Cond.methodLink "TollRoad" (46 : Nat) ({ cls := "TollRoad", name := "isBetween", desc := "(JJJ)Z" } : Jvm.MethodName)) ∈ lw_all := lw_g (lw_at lw_m7 89 rfl) rfl
theorem q1644 : (Jvm.Cond.methodLink "TollRoad" (79 : Nat) ({ cls := "TollRoad", name := "checkArgument", desc := "(Z)V" } : Jvm.MethodName)) ∈ lw_all := lw_g (lw_at lw_m7 90 rfl) rfl
theorem q1645 : (Jvm.Cond.static ({ cls := "TollRoad", name := "checkArgument", desc := "(Z)V" } : Jvm.MethodName)) ∈ lw_all := lw_g (lw_at lw_m7 91 rfl) rfl
theorem q1646 : (Jvm.Cond.code ({ cls := "TollRoad", name := "checkArgument", desc := "(Z)V" } : Jvm.MethodName) prog_1_method_3_code (1 : Nat) (Option.none : Option Jvm.ClassFile.FieldType)) ∈ lw_all := lw_g (lw_at lw_m7 92 rfl) rfl
theorem q1647 : (Jvm.Cond.classLink "TollRoad" (7 : Nat) "java/lang/IllegalArgumentException") ∈ lw_all := lw_g (lw_at lw_m7 93 rfl) rfl
theorem q1648 : (Jvm.Cond.methodLink "TollRoad" (9 : Nat) ({ cls := "java/lang/IllegalArgumentException", name := "<init>", desc := "()V" } : Jvm.MethodName)) ∈ lw_all := lw_g (lw_at lw_m7 94 rfl) rfl
theorem q1652 : (Jvm.Cond.methodLink "TollRoadLaw" (155 : Nat) ({ cls := "TollRoadLaw", name := "addGantry", desc := "(LTollRoad;I[J)I" } : Jvm.MethodName)) ∈ lw_all := lw_g (lw_at lw_m7 98 rfl) rfl
theorem q1653 : (Jvm.Cond.static ({ cls := "TollRoadLaw", name := "addGantry", desc := "(LTollRoad;I[J)I" } : Jvm.MethodName)) ∈ lw_all := lw_g (lw_at lw_m7 99 rfl) rfl
theorem q1654 : (Jvm.Cond.codeWith ({ cls := "TollRoadLaw", name := "addGantry", desc := "(LTollRoad;I[J)I" } : Jvm.MethodName) method_5_code (4 : Nat) (Option.some Jvm.ClassFile.FieldType.int) [((0 : Nat), (9 : Nat), (12 : Nat), (18 : Nat)), ((0 : Nat), (9 : Nat), (15 : Nat), (13 : Nat))]) ∈ lw_all := lw_g (lw_at lw_m7 100 rfl) rfl
theorem q1655 : (Jvm.Cond.methodLink "TollRoadLaw" (20 : Nat) ({ cls := "TollRoad", name := "addGantry", desc := "(I)I" } : Jvm.MethodName)) ∈ lw_all := lw_g (lw_at lw_m7 101 rfl) rfl
theorem q1656 : (Jvm.Cond.instanceMethod ({ cls := "TollRoad", name := "addGantry", desc := "(I)I" } : Jvm.MethodName)) ∈ lw_all := lw_g (lw_at lw_m7 102 rfl) rfl
theorem q1657 : (Jvm.Cond.selects "TollRoad" ({ cls := "TollRoad", name := "addGantry", desc := "(I)I" } : Jvm.MethodName) ({ cls := "TollRoad", name := "addGantry", desc := "(I)I" } : Jvm.MethodName)) ∈ lw_all := lw_g (lw_at lw_m7 103 rfl) rfl
theorem q1658 : (Jvm.Cond.code ({ cls := "TollRoad", name := "addGantry", desc := "(I)I" } : Jvm.MethodName) prog_1_method_9_code (2 : Nat) (Option.some Jvm.ClassFile.FieldType.int)) ∈ lw_all := lw_g (lw_at lw_m7 104 rfl) rfl
theorem q1659 : (Jvm.Cond.constantLong "TollRoad" (77 : Nat) (99 : Int64)) ∈ lw_all := lw_g (lw_at lw_m7 105 rfl) rfl
theorem q1660 : (Jvm.Cond.methodLink "TollRoad" (85 : Nat) ({ cls := "TollRoad$Network", name := "addGantry", desc := "(I)I" } : Jvm.MethodName)) ∈ lw_all := lw_g (lw_at lw_m7 106 rfl) rfl
theorem q1661 : (Jvm.Cond.methodLink "TollRoadLaw" (158 : Nat) ({ cls := "TollRoadLaw", name := "addRoad", desc := "(LTollRoad;IIII[J)I" } : Jvm.MethodName)) ∈ lw_all := lw_g (lw_at lw_m7 107 rfl) rfl
theorem q1662 : (Jvm.Cond.static ({ cls := "TollRoadLaw", name := "addRoad", desc := "(LTollRoad;IIII[J)I" } : Jvm.MethodName)) ∈ lw_all := lw_g (lw_at lw_m7 108 rfl) rfl
theorem q1663 : (Jvm.Cond.codeWith ({ cls := "TollRoadLaw", name := "addRoad", desc := "(LTollRoad;IIII[J)I" } : Jvm.MethodName) method_6_code (7 : Nat) (Option.some Jvm.ClassFile.FieldType.int) [((0 : Nat), (14 : Nat), (17 : Nat), (27 : Nat)), ((0 : Nat), (14 : Nat), (21 : Nat), (18 : Nat)), ((0 : Nat), (14 : Nat), (25 : Nat), (13 : Nat))]) ∈ lw_all := lw_g (lw_at lw_m7 109 rfl) rfl
theorem q1664 : (Jvm.Cond.classLink "TollRoadLaw" (27 : Nat) "java/lang/IndexOutOfBoundsException") ∈ lw_all := lw_g (lw_at lw_m7 110 rfl) rfl
theorem q1683 : (Jvm.Cond.methodLink "TollRoadLaw" (23 : Nat) ({ cls := "TollRoad", name := "addRoad", desc := "(IIII)I" } : Jvm.MethodName)) ∈ lw_all := lw_g (lw_at lw_m7 129 rfl) rfl
theorem q1684 : (Jvm.Cond.instanceMethod ({ cls := "TollRoad", name := "addRoad", desc := "(IIII)I" } : Jvm.MethodName)) ∈ lw_all := lw_g (lw_at lw_m7 130 rfl) rfl
theorem q1685 : (Jvm.Cond.selects "TollRoad" ({ cls := "TollRoad", name := "addRoad", desc := "(IIII)I" } : Jvm.MethodName) ({ cls := "TollRoad", name := "addRoad", desc := "(IIII)I" } : Jvm.MethodName)) ∈ lw_all := lw_g (lw_at lw_m7 131 rfl) rfl
theorem q1686 : (Jvm.Cond.code ({ cls := "TollRoad", name := "addRoad", desc := "(IIII)I" } : Jvm.MethodName) prog_1_method_10_code (5 : Nat) (Option.some Jvm.ClassFile.FieldType.int)) ∈ lw_all := lw_g (lw_at lw_m7 132 rfl) rfl
theorem q1687 : (Jvm.Cond.methodLink "TollRoad" (89 : Nat) ({ cls := "TollRoad", name := "checkGantry", desc := "(I)V" } : Jvm.MethodName)) ∈ lw_all := lw_g (lw_at lw_m7 133 rfl) rfl
theorem q1689 : (Jvm.Cond.instanceMethod ({ cls := "TollRoad", name := "checkGantry", desc := "(I)V" } : Jvm.MethodName)) ∈ lw_all := lw_g (lw_at lw_m7 135 rfl) rfl
theorem q1690 : (Jvm.Cond.code ({ cls := "TollRoad", name := "checkGantry", desc := "(I)V" } : Jvm.MethodName) prog_1_method_6_code (2 : Nat) (Option.none : Option Jvm.ClassFile.FieldType)) ∈ lw_all := lw_g (lw_at lw_m7 136 rfl) rfl
theorem q1691 : (Jvm.Cond.methodLink "TollRoad" (50 : Nat) ({ cls := "TollRoad", name := "checkIndex", desc := "(Z)V" } : Jvm.MethodName)) ∈ lw_all := lw_g (lw_at lw_m7 137 rfl) rfl
theorem q1692 : (Jvm.Cond.static ({ cls := "TollRoad", name := "checkIndex", desc := "(Z)V" } : Jvm.MethodName)) ∈ lw_all := lw_g (lw_at lw_m7 138 rfl) rfl
theorem q1693 : (Jvm.Cond.code ({ cls := "TollRoad", name := "checkIndex", desc := "(Z)V" } : Jvm.MethodName) prog_1_method_2_code (1 : Nat) (Option.none : Option Jvm.ClassFile.FieldType)) ∈ lw_all := lw_g (lw_at lw_m7 139 rfl) rfl
theorem q1694 : (Jvm.Cond.classLink "TollRoad" (1 : Nat) "java/lang/IndexOutOfBoundsException") ∈ lw_all := lw_g (lw_at lw_m7 140 rfl) rfl
theorem q1696 : (Jvm.Cond.castable "java/lang/IndexOutOfBoundsException" "java/lang/IndexOutOfBoundsException") ∈ lw_tbl := lw_at lw_m7 142 rfl
theorem q1703 : (Jvm.Cond.methodLink "TollRoad" (3 : Nat) ({ cls := "java/lang/IndexOutOfBoundsException", name := "<init>", desc := "()V" } : Jvm.MethodName)) ∈ lw_all := lw_g (lw_at lw_m7 149 rfl) rfl
theorem q1709 : (Jvm.Cond.constantLong "TollRoad" (93 : Nat) (60 : Int64)) ∈ lw_all := lw_g (lw_at lw_m7 155 rfl) rfl
theorem q1710 : (Jvm.Cond.constantLong "TollRoad" (95 : Nat) (999 : Int64)) ∈ lw_all := lw_g (lw_at lw_m7 156 rfl) rfl
theorem q1711 : (Jvm.Cond.methodLink "TollRoad" (97 : Nat) ({ cls := "TollRoad$Network", name := "road", desc := "(II)LTollRoad$Road;" } : Jvm.MethodName)) ∈ lw_all := lw_g (lw_at lw_m7 157 rfl) rfl
theorem q1712 : (Jvm.Cond.methodLink "TollRoad" (104 : Nat) ({ cls := "TollRoad$Network", name := "add", desc := "(IIII)I" } : Jvm.MethodName)) ∈ lw_all := lw_g (lw_at lw_m7 158 rfl) rfl
theorem q1713 : (Jvm.Cond.methodLink "TollRoadLaw" (162 : Nat) ({ cls := "TollRoadLaw", name := "addAccount", desc := "(LTollRoad;III[J)I" } : Jvm.MethodName)) ∈ lw_all := lw_g (lw_at lw_m7 159 rfl) rfl
theorem q1714 : (Jvm.Cond.static ({ cls := "TollRoadLaw", name := "addAccount", desc := "(LTollRoad;III[J)I" } : Jvm.MethodName)) ∈ lw_all := lw_g (lw_at lw_m7 160 rfl) rfl
theorem q1715 : (Jvm.Cond.codeWith ({ cls := "TollRoadLaw", name := "addAccount", desc := "(LTollRoad;III[J)I" } : Jvm.MethodName) method_7_code (6 : Nat) (Option.some Jvm.ClassFile.FieldType.int) [((0 : Nat), (12 : Nat), (15 : Nat), (18 : Nat)), ((0 : Nat), (12 : Nat), (19 : Nat), (13 : Nat))]) ∈ lw_all := lw_g (lw_at lw_m7 161 rfl) rfl
theorem q1716 : (Jvm.Cond.methodLink "TollRoadLaw" (29 : Nat) ({ cls := "TollRoad", name := "addAccount", desc := "(III)I" } : Jvm.MethodName)) ∈ lw_all := lw_g (lw_at lw_m7 162 rfl) rfl
theorem q1717 : (Jvm.Cond.instanceMethod ({ cls := "TollRoad", name := "addAccount", desc := "(III)I" } : Jvm.MethodName)) ∈ lw_all := lw_g (lw_at lw_m7 163 rfl) rfl
theorem q1718 : (Jvm.Cond.selects "TollRoad" ({ cls := "TollRoad", name := "addAccount", desc := "(III)I" } : Jvm.MethodName) ({ cls := "TollRoad", name := "addAccount", desc := "(III)I" } : Jvm.MethodName)) ∈ lw_all := lw_g (lw_at lw_m7 164 rfl) rfl
theorem q1719 : (Jvm.Cond.code ({ cls := "TollRoad", name := "addAccount", desc := "(III)I" } : Jvm.MethodName) prog_1_method_11_code (4 : Nat) (Option.some Jvm.ClassFile.FieldType.int)) ∈ lw_all := lw_g (lw_at lw_m7 165 rfl) rfl
theorem q1720 : (Jvm.Cond.constantLong "TollRoad" (108 : Nat) (100000 : Int64)) ∈ lw_all := lw_g (lw_at lw_m7 166 rfl) rfl
theorem q1721 : (Jvm.Cond.constantLong "TollRoad" (110 : Nat) (50 : Int64)) ∈ lw_all := lw_g (lw_at lw_m7 167 rfl) rfl
theorem q1722 : (Jvm.Cond.methodLink "TollRoad" (112 : Nat) ({ cls := "TollRoad$World", name := "addAccount", desc := "(III)I" } : Jvm.MethodName)) ∈ lw_all := lw_g (lw_at lw_m7 168 rfl) rfl
theorem q1723 : (Jvm.Cond.methodLink "TollRoadLaw" (166 : Nat) ({ cls := "TollRoadLaw", name := "addVehicle", desc := "(LTollRoad;II[J)I" } : Jvm.MethodName)) ∈ lw_all := lw_g (lw_at lw_m7 169 rfl) rfl
theorem q1724 : (Jvm.Cond.static ({ cls := "TollRoadLaw", name := "addVehicle", desc := "(LTollRoad;II[J)I" } : Jvm.MethodName)) ∈ lw_all := lw_g (lw_at lw_m7 170 rfl) rfl
theorem q1725 : (Jvm.Cond.codeWith ({ cls := "TollRoadLaw", name := "addVehicle", desc := "(LTollRoad;II[J)I" } : Jvm.MethodName) method_8_code (5 : Nat) (Option.some Jvm.ClassFile.FieldType.int) [((0 : Nat), (10 : Nat), (13 : Nat), (27 : Nat)), ((0 : Nat), (10 : Nat), (17 : Nat), (18 : Nat)), ((0 : Nat), (10 : Nat), (21 : Nat), (13 : Nat))]) ∈ lw_all := lw_g (lw_at lw_m7 171 rfl) rfl
theorem q1726 : (Jvm.Cond.methodLink "TollRoadLaw" (33 : Nat) ({ cls := "TollRoad", name := "addVehicle", desc := "(II)I" } : Jvm.MethodName)) ∈ lw_all := lw_g (lw_at lw_m7 172 rfl) rfl
theorem q1727 : (Jvm.Cond.instanceMethod ({ cls := "TollRoad", name := "addVehicle", desc := "(II)I" } : Jvm.MethodName)) ∈ lw_all := lw_g (lw_at lw_m7 173 rfl) rfl
theorem q1728 : (Jvm.Cond.selects "TollRoad" ({ cls := "TollRoad", name := "addVehicle", desc := "(II)I" } : Jvm.MethodName) ({ cls := "TollRoad", name := "addVehicle", desc := "(II)I" } : Jvm.MethodName)) ∈ lw_all := lw_g (lw_at lw_m7 174 rfl) rfl
theorem q1729 : (Jvm.Cond.code ({ cls := "TollRoad", name := "addVehicle", desc := "(II)I" } : Jvm.MethodName) prog_1_method_13_code (3 : Nat) (Option.some Jvm.ClassFile.FieldType.int)) ∈ lw_all := lw_g (lw_at lw_m7 175 rfl) rfl
theorem q1730 : (Jvm.Cond.methodLink "TollRoad" (118 : Nat) ({ cls := "TollRoad", name := "checkAccount", desc := "(I)V" } : Jvm.MethodName)) ∈ lw_all := lw_g (lw_at lw_m7 176 rfl) rfl
theorem q1732 : (Jvm.Cond.instanceMethod ({ cls := "TollRoad", name := "checkAccount", desc := "(I)V" } : Jvm.MethodName)) ∈ lw_all := lw_g (lw_at lw_m7 178 rfl) rfl
theorem q1733 : (Jvm.Cond.code ({ cls := "TollRoad", name := "checkAccount", desc := "(I)V" } : Jvm.MethodName) prog_1_method_12_code (2 : Nat) (Option.none : Option Jvm.ClassFile.FieldType)) ∈ lw_all := lw_g (lw_at lw_m7 179 rfl) rfl
theorem q1734 : (Jvm.Cond.constantLong "TollRoad" (116 : Nat) (-1 : Int64)) ∈ lw_all := lw_g (lw_at lw_m7 180 rfl) rfl
theorem q1735 : (Jvm.Cond.constantLong "TollRoad" (121 : Nat) (4 : Int64)) ∈ lw_all := lw_g (lw_at lw_m7 181 rfl) rfl
theorem q1736 : (Jvm.Cond.methodLink "TollRoad" (123 : Nat) ({ cls := "TollRoad$World", name := "addVehicle", desc := "(II)I" } : Jvm.MethodName)) ∈ lw_all := lw_g (lw_at lw_m7 182 rfl) rfl
theorem q1737 : (Jvm.Cond.methodLink "TollRoadLaw" (170 : Nat) ({ cls := "TollRoadLaw", name := "set", desc := "(LTollRoad;II[J)I" } : Jvm.MethodName)) ∈ lw_all := lw_g (lw_at lw_m7 183 rfl) rfl
theorem q1738 : (Jvm.Cond.static ({ cls := "TollRoadLaw", name := "set", desc := "(LTollRoad;II[J)I" } : Jvm.MethodName)) ∈ lw_all := lw_g (lw_at lw_m7 184 rfl) rfl
theorem q1739 : (Jvm.Cond.codeWith ({ cls := "TollRoadLaw", name := "set", desc := "(LTollRoad;II[J)I" } : Jvm.MethodName) method_9_code (5 : Nat) (Option.some Jvm.ClassFile.FieldType.int) [((0 : Nat), (10 : Nat), (13 : Nat), (18 : Nat))]) ∈ lw_all := lw_g (lw_at lw_m7 185 rfl) rfl
theorem q1740 : (Jvm.Cond.methodLink "TollRoadLaw" (37 : Nat) ({ cls := "TollRoad", name := "set", desc := "(II)I" } : Jvm.MethodName)) ∈ lw_all := lw_g (lw_at lw_m7 186 rfl) rfl
theorem q1741 : (Jvm.Cond.instanceMethod ({ cls := "TollRoad", name := "set", desc := "(II)I" } : Jvm.MethodName)) ∈ lw_all := lw_g (lw_at lw_m7 187 rfl) rfl
theorem q1742 : (Jvm.Cond.selects "TollRoad" ({ cls := "TollRoad", name := "set", desc := "(II)I" } : Jvm.MethodName) ({ cls := "TollRoad", name := "set", desc := "(II)I" } : Jvm.MethodName)) ∈ lw_all := lw_g (lw_at lw_m7 188 rfl) rfl
theorem q1743 : (Jvm.Cond.code ({ cls := "TollRoad", name := "set", desc := "(II)I" } : Jvm.MethodName) prog_1_method_14_code (5 : Nat) (Option.some Jvm.ClassFile.FieldType.int)) ∈ lw_all := lw_g (lw_at lw_m7 189 rfl) rfl
theorem q1744 : (Jvm.Cond.constantLong "TollRoad" (127 : Nat) (7 : Int64)) ∈ lw_all := lw_g (lw_at lw_m7 190 rfl) rfl
theorem q1745 : (Jvm.Cond.methodLink "TollRoad" (129 : Nat) ({ cls := "TollRoad$Bounds", name := "of", desc := "(I)LTollRoad$Bounds;" } : Jvm.MethodName)) ∈ lw_all := lw_g (lw_at lw_m7 191 rfl) rfl
theorem q1747 : (Jvm.Cond.methodLink "TollRoad" (135 : Nat) ({ cls := "TollRoad$Bounds", name := "has", desc := "(I)Z" } : Jvm.MethodName)) ∈ lw_all := lw_g (lw_at lw_m7 193 rfl) rfl
theorem q1748 : (Jvm.Cond.interfaceMethod "TollRoad$Bounds" "TollRoad$Bounds" "has" "(I)Z") ∈ lw_tbl := lw_at lw_m7 194 rfl
theorem q1749 : (Jvm.Cond.declares ({ cls := "TollRoad$Bounds", name := "has", desc := "(I)Z" } : Jvm.MethodName)) ∈ lw_tbl := lw_at lw_m7 195 rfl
theorem q1750 : (Jvm.Cond.unhidden "TollRoad$Bounds$1" "has" "(I)Z") ∈ lw_tbl := lw_at lw_m7 196 rfl
theorem q1751 : (Jvm.Cond.instanceMethod ({ cls := "TollRoad$Bounds", name := "has", desc := "(I)Z" } : Jvm.MethodName)) ∈ lw_all := lw_g (lw_at lw_m7 197 rfl) rfl
theorem q1752 : (Jvm.Cond.publicMethod ({ cls := "TollRoad$Bounds", name := "has", desc := "(I)Z" } : Jvm.MethodName)) ∈ lw_tbl := lw_at lw_m7 198 rfl
theorem q1753 : (Jvm.Cond.code ({ cls := "TollRoad$Bounds", name := "has", desc := "(I)Z" } : Jvm.MethodName) prog_4_method_3_code (2 : Nat) (Option.some Jvm.ClassFile.FieldType.boolean)) ∈ lw_all := lw_g (lw_at lw_m7 199 rfl) rfl
theorem q1755 : (Jvm.Cond.methodLink "TollRoad$Bounds" (1 : Nat) ({ cls := "TollRoad$Bounds", name := "low", desc := "()I" } : Jvm.MethodName)) ∈ lw_all := lw_g (lw_at lw_m7 201 rfl) rfl
theorem q1757 : (Jvm.Cond.methodLink "TollRoad$Bounds" (7 : Nat) ({ cls := "TollRoad$Bounds", name := "high", desc := "()I" } : Jvm.MethodName)) ∈ lw_all := lw_g (lw_at lw_m7 203 rfl) rfl
theorem q1758 : (Jvm.Cond.methodLinkNest "TollRoad$Bounds" (10 : Nat) ({ cls := "TollRoad", name := "isBetween", desc := "(JJJ)Z" } : Jvm.MethodName) "TollRoad") ∈ lw_tbl := lw_at lw_m7 204 rfl
theorem q1759 : (Jvm.Cond.methodLink "TollRoadLaw" (173 : Nat) ({ cls := "TollRoadLaw", name := "count", desc := "(LTollRoad;I[J)I" } : Jvm.MethodName)) ∈ lw_all := lw_g (lw_at lw_m7 205 rfl) rfl
theorem q1760 : (Jvm.Cond.static ({ cls := "TollRoadLaw", name := "count", desc := "(LTollRoad;I[J)I" } : Jvm.MethodName)) ∈ lw_all := lw_g (lw_at lw_m7 206 rfl) rfl
theorem q1761 : (Jvm.Cond.codeWith ({ cls := "TollRoadLaw", name := "count", desc := "(LTollRoad;I[J)I" } : Jvm.MethodName) method_10_code (4 : Nat) (Option.some Jvm.ClassFile.FieldType.int) [((0 : Nat), (9 : Nat), (12 : Nat), (18 : Nat))]) ∈ lw_all := lw_g (lw_at lw_m7 207 rfl) rfl
theorem q1762 : (Jvm.Cond.methodLink "TollRoadLaw" (40 : Nat) ({ cls := "TollRoad", name := "count", desc := "(I)I" } : Jvm.MethodName)) ∈ lw_all := lw_g (lw_at lw_m7 208 rfl) rfl
theorem q1763 : (Jvm.Cond.instanceMethod ({ cls := "TollRoad", name := "count", desc := "(I)I" } : Jvm.MethodName)) ∈ lw_all := lw_g (lw_at lw_m7 209 rfl) rfl
theorem q1764 : (Jvm.Cond.selects "TollRoad" ({ cls := "TollRoad", name := "count", desc := "(I)I" } : Jvm.MethodName) ({ cls := "TollRoad", name := "count", desc := "(I)I" } : Jvm.MethodName)) ∈ lw_all := lw_g (lw_at lw_m7 210 rfl) rfl
theorem q1765 : (Jvm.Cond.code ({ cls := "TollRoad", name := "count", desc := "(I)I" } : Jvm.MethodName) prog_1_method_17_code (2 : Nat) (Option.some Jvm.ClassFile.FieldType.int)) ∈ lw_all := lw_g (lw_at lw_m7 211 rfl) rfl
theorem q1766 : (Jvm.Cond.constantLong "TollRoad" (173 : Nat) (16 : Int64)) ∈ lw_all := lw_g (lw_at lw_m7 212 rfl) rfl
theorem q1767 : (Jvm.Cond.methodLink "TollRoad" (175 : Nat) ({ cls := "TollRoad", name := "waiting", desc := "()I" } : Jvm.MethodName)) ∈ lw_all := lw_g (lw_at lw_m7 213 rfl) rfl
theorem q1769 : (Jvm.Cond.instanceMethod ({ cls := "TollRoad", name := "waiting", desc := "()I" } : Jvm.MethodName)) ∈ lw_all := lw_g (lw_at lw_m7 215 rfl) rfl
theorem q1770 : (Jvm.Cond.code ({ cls := "TollRoad", name := "waiting", desc := "()I" } : Jvm.MethodName) prog_1_method_15_code (4 : Nat) (Option.some Jvm.ClassFile.FieldType.int)) ∈ lw_all := lw_g (lw_at lw_m7 216 rfl) rfl
theorem q1771 : (Jvm.Cond.classLink "TollRoad" (160 : Nat) "TollRoad$Read") ∈ lw_all := lw_g (lw_at lw_m7 217 rfl) rfl
theorem q1772 : (Jvm.Cond.methodLink "TollRoad" (178 : Nat) ({ cls := "TollRoad", name := "disputes", desc := "(Z)I" } : Jvm.MethodName)) ∈ lw_all := lw_g (lw_at lw_m7 218 rfl) rfl
theorem q1774 : (Jvm.Cond.instanceMethod ({ cls := "TollRoad", name := "disputes", desc := "(Z)I" } : Jvm.MethodName)) ∈ lw_all := lw_g (lw_at lw_m7 220 rfl) rfl
theorem q1775 : (Jvm.Cond.code ({ cls := "TollRoad", name := "disputes", desc := "(Z)I" } : Jvm.MethodName) prog_1_method_16_code (5 : Nat) (Option.some Jvm.ClassFile.FieldType.int)) ∈ lw_all := lw_g (lw_at lw_m7 221 rfl) rfl
theorem q1776 : (Jvm.Cond.methodLink "TollRoadLaw" (176 : Nat) ({ cls := "TollRoadLaw", name := "account", desc := "(LTollRoad;II[J)I" } : Jvm.MethodName)) ∈ lw_all := lw_g (lw_at lw_m7 222 rfl) rfl
theorem q1777 : (Jvm.Cond.static ({ cls := "TollRoadLaw", name := "account", desc := "(LTollRoad;II[J)I" } : Jvm.MethodName)) ∈ lw_all := lw_g (lw_at lw_m7 223 rfl) rfl
theorem q1778 : (Jvm.Cond.codeWith ({ cls := "TollRoadLaw", name := "account", desc := "(LTollRoad;II[J)I" } : Jvm.MethodName) method_11_code (5 : Nat) (Option.some Jvm.ClassFile.FieldType.int) [((0 : Nat), (10 : Nat), (13 : Nat), (27 : Nat)), ((0 : Nat), (10 : Nat), (17 : Nat), (18 : Nat))]) ∈ lw_all := lw_g (lw_at lw_m7 224 rfl) rfl
theorem q1779 : (Jvm.Cond.methodLink "TollRoadLaw" (43 : Nat) ({ cls := "TollRoad", name := "account", desc := "(II)I" } : Jvm.MethodName)) ∈ lw_all := lw_g (lw_at lw_m7 225 rfl) rfl
theorem q1780 : (Jvm.Cond.instanceMethod ({ cls := "TollRoad", name := "account", desc := "(II)I" } : Jvm.MethodName)) ∈ lw_all := lw_g (lw_at lw_m7 226 rfl) rfl
theorem q1781 : (Jvm.Cond.selects "TollRoad" ({ cls := "TollRoad", name := "account", desc := "(II)I" } : Jvm.MethodName) ({ cls := "TollRoad", name := "account", desc := "(II)I" } : Jvm.MethodName)) ∈ lw_all := lw_g (lw_at lw_m7 227 rfl) rfl
theorem q1782 : (Jvm.Cond.code ({ cls := "TollRoad", name := "account", desc := "(II)I" } : Jvm.MethodName) prog_1_method_18_code (4 : Nat) (Option.some Jvm.ClassFile.FieldType.int)) ∈ lw_all := lw_g (lw_at lw_m7 228 rfl) rfl
theorem q1783 : (Jvm.Cond.methodLink "TollRoad" (182 : Nat) ({ cls := "TollRoad", name := "accountAt", desc := "(I)LTollRoad$Account;" } : Jvm.MethodName)) ∈ lw_all := lw_g (lw_at lw_m7 229 rfl) rfl
theorem q1785 : (Jvm.Cond.instanceMethod ({ cls := "TollRoad", name := "accountAt", desc := "(I)LTollRoad$Account;" } : Jvm.MethodName)) ∈ lw_all := lw_g (lw_at lw_m7 231 rfl) rfl
theorem q1786 : (Jvm.Cond.code ({ cls := "TollRoad", name := "accountAt", desc := "(I)LTollRoad$Account;" } : Jvm.MethodName) prog_1_method_8_code (2 : Nat) (Option.some (Jvm.ClassFile.FieldType.object "TollRoad$Account"))) ∈ lw_all := lw_g (lw_at lw_m7 232 rfl) rfl
theorem q1787 : (Jvm.Cond.constantLong "TollRoad" (186 : Nat) (5 : Int64)) ∈ lw_all := lw_g (lw_at lw_m7 233 rfl) rfl
theorem q1788 : (Jvm.Cond.methodLink "TollRoadLaw" (179 : Nat) ({ cls := "TollRoadLaw", name := "pay", desc := "(LTollRoad;II[J)I" } : Jvm.MethodName)) ∈ lw_all := lw_g (lw_at lw_m7 234 rfl) rfl
theorem q1789 : (Jvm.Cond.static ({ cls := "TollRoadLaw", name := "pay", desc := "(LTollRoad;II[J)I" } : Jvm.MethodName)) ∈ lw_all := lw_g (lw_at lw_m7 235 rfl) rfl
theorem q1790 : (Jvm.Cond.codeWith ({ cls := "TollRoadLaw", name := "pay", desc := "(LTollRoad;II[J)I" } : Jvm.MethodName) method_12_code (5 : Nat) (Option.some Jvm.ClassFile.FieldType.int) [((0 : Nat), (10 : Nat), (13 : Nat), (27 : Nat)), ((0 : Nat), (10 : Nat), (17 : Nat), (18 : Nat))]) ∈ lw_all := lw_g (lw_at lw_m7 236 rfl) rfl
theorem q1791 : (Jvm.Cond.methodLink "TollRoadLaw" (46 : Nat) ({ cls := "TollRoad", name := "pay", desc := "(II)I" } : Jvm.MethodName)) ∈ lw_all := lw_g (lw_at lw_m7 237 rfl) rfl
theorem q1792 : (Jvm.Cond.instanceMethod ({ cls := "TollRoad", name := "pay", desc := "(II)I" } : Jvm.MethodName)) ∈ lw_all := lw_g (lw_at lw_m7 238 rfl) rfl
theorem q1793 : (Jvm.Cond.selects "TollRoad" ({ cls := "TollRoad", name := "pay", desc := "(II)I" } : Jvm.MethodName) ({ cls := "TollRoad", name := "pay", desc := "(II)I" } : Jvm.MethodName)) ∈ lw_all := lw_g (lw_at lw_m7 239 rfl) rfl
theorem q1794 : (Jvm.Cond.code ({ cls := "TollRoad", name := "pay", desc := "(II)I" } : Jvm.MethodName) prog_1_method_19_code (4 : Nat) (Option.some Jvm.ClassFile.FieldType.int)) ∈ lw_all := lw_g (lw_at lw_m8 0 rfl) rfl
theorem q1795 : (Jvm.Cond.methodLink "TollRoadLaw" (182 : Nat) ({ cls := "TollRoadLaw", name := "vehicle", desc := "(LTollRoad;II[J)I" } : Jvm.MethodName)) ∈ lw_all := lw_g (lw_at lw_m8 1 rfl) rfl
theorem q1796 : (Jvm.Cond.static ({ cls := "TollRoadLaw", name := "vehicle", desc := "(LTollRoad;II[J)I" } : Jvm.MethodName)) ∈ lw_all := lw_g (lw_at lw_m8 2 rfl) rfl
theorem q1797 : (Jvm.Cond.codeWith ({ cls := "TollRoadLaw", name := "vehicle", desc := "(LTollRoad;II[J)I" } : Jvm.MethodName) method_13_code (5 : Nat) (Option.some Jvm.ClassFile.FieldType.int) [((0 : Nat), (10 : Nat), (13 : Nat), (27 : Nat)), ((0 : Nat), (10 : Nat), (17 : Nat), (18 : Nat))]) ∈ lw_all := lw_g (lw_at lw_m8 3 rfl) rfl
theorem q1798 : (Jvm.Cond.methodLink "TollRoadLaw" (49 : Nat) ({ cls := "TollRoad", name := "vehicle", desc := "(II)I" } : Jvm.MethodName)) ∈ lw_all := lw_g (lw_at lw_m8 4 rfl) rfl
theorem q1799 : (Jvm.Cond.instanceMethod ({ cls := "TollRoad", name := "vehicle", desc := "(II)I" } : Jvm.MethodName)) ∈ lw_all := lw_g (lw_at lw_m8 5 rfl) rfl
theorem q1800 : (Jvm.Cond.selects "TollRoad" ({ cls := "TollRoad", name := "vehicle", desc := "(II)I" } : Jvm.MethodName) ({ cls := "TollRoad", name := "vehicle", desc := "(II)I" } : Jvm.MethodName)) ∈ lw_all := lw_g (lw_at lw_m8 6 rfl) rfl
theorem q1801 : (Jvm.Cond.code ({ cls := "TollRoad", name := "vehicle", desc := "(II)I" } : Jvm.MethodName) prog_1_method_20_code (4 : Nat) (Option.some Jvm.ClassFile.FieldType.int)) ∈ lw_all := lw_g (lw_at lw_m8 7 rfl) rfl
theorem q1802 : (Jvm.Cond.methodLink "TollRoad" (207 : Nat) ({ cls := "TollRoad", name := "vehicleAt", desc := "(I)LTollRoad$Vehicle;" } : Jvm.MethodName)) ∈ lw_all := lw_g (lw_at lw_m8 8 rfl) rfl
theorem q1804 : (Jvm.Cond.instanceMethod ({ cls := "TollRoad", name := "vehicleAt", desc := "(I)LTollRoad$Vehicle;" } : Jvm.MethodName)) ∈ lw_all := lw_g (lw_at lw_m8 10 rfl) rfl
theorem q1805 : (Jvm.Cond.code ({ cls := "TollRoad", name := "vehicleAt", desc := "(I)LTollRoad$Vehicle;" } : Jvm.MethodName) prog_1_method_7_code (2 : Nat) (Option.some (Jvm.ClassFile.FieldType.object "TollRoad$Vehicle"))) ∈ lw_all := lw_g (lw_at lw_m8 11 rfl) rfl
theorem q1806 : (Jvm.Cond.methodLink "TollRoad" (64 : Nat) ({ cls := "java/util/ArrayList", name := "get", desc := "(I)Ljava/lang/Object;" } : Jvm.MethodName)) ∈ lw_all := lw_g (lw_at lw_m8 12 rfl) rfl
theorem q1807 : (Jvm.Cond.instanceMethod ({ cls := "java/util/ArrayList", name := "get", desc := "(I)Ljava/lang/Object;" } : Jvm.MethodName)) ∈ lw_all := lw_g (lw_at lw_m8 13 rfl) rfl
theorem q1808 : (Jvm.Cond.selects "java/util/ArrayList" ({ cls := "java/util/ArrayList", name := "get", desc := "(I)Ljava/lang/Object;" } : Jvm.MethodName) ({ cls := "java/util/ArrayList", name := "get", desc := "(I)Ljava/lang/Object;" } : Jvm.MethodName)) ∈ lw_all := lw_g (lw_at lw_m8 14 rfl) rfl
theorem q1809 : (Jvm.Cond.code ({ cls := "java/util/ArrayList", name := "get", desc := "(I)Ljava/lang/Object;" } : Jvm.MethodName) prog_56_method_20_code (2 : Nat) (Option.some (Jvm.ClassFile.FieldType.object "java/lang/Object"))) ∈ lw_all := lw_g (lw_at lw_m8 15 rfl) rfl
theorem q1810 : (Jvm.Cond.methodLink "java/util/ArrayList" (118 : Nat) ({ cls := "java/util/Objects", name := "checkIndex", desc := "(II)I" } : Jvm.MethodName)) ∈ lw_all := lw_g (lw_at lw_m8 16 rfl) rfl
theorem q1811 : (Jvm.Cond.static ({ cls := "java/util/Objects", name := "checkIndex", desc := "(II)I" } : Jvm.MethodName)) ∈ lw_all := lw_g (lw_at lw_m8 17 rfl) rfl
theorem q1812 : (Jvm.Cond.code ({ cls := "java/util/Objects", name := "checkIndex", desc := "(II)I" } : Jvm.MethodName) prog_73_method_17_code (2 : Nat) (Option.some Jvm.ClassFile.FieldType.int)) ∈ lw_all := lw_g (lw_at lw_m8 18 rfl) rfl
theorem q1813 : (Jvm.Cond.methodLink "java/util/Objects" (105 : Nat) ({ cls := "jdk/internal/util/Preconditions", name := "checkIndex", desc := "(IILjava/util/function/BiFunction;)I" } : Jvm.MethodName)) ∈ lw_all := lw_g (lw_at lw_m8 19 rfl) rfl
theorem q1814 : (Jvm.Cond.methodLink "java/util/ArrayList" (123 : Nat) ({ cls := "java/util/ArrayList", name := "elementData", desc := "(I)Ljava/lang/Object;" } : Jvm.MethodName)) ∈ lw_all := lw_g (lw_at lw_m8 20 rfl) rfl
theorem q1815 : (Jvm.Cond.instanceMethod ({ cls := "java/util/ArrayList", name := "elementData", desc := "(I)Ljava/lang/Object;" } : Jvm.MethodName)) ∈ lw_all := lw_g (lw_at lw_m8 21 rfl) rfl
theorem q1816 : (Jvm.Cond.selects "java/util/ArrayList" ({ cls := "java/util/ArrayList", name := "elementData", desc := "(I)Ljava/lang/Object;" } : Jvm.MethodName) ({ cls := "java/util/ArrayList", name := "elementData", desc := "(I)Ljava/lang/Object;" } : Jvm.MethodName)) ∈ lw_all := lw_g (lw_at lw_m8 22 rfl) rfl
theorem q1817 : (Jvm.Cond.code ({ cls := "java/util/ArrayList", name := "elementData", desc := "(I)Ljava/lang/Object;" } : Jvm.MethodName) prog_56_method_18_code (2 : Nat) (Option.some (Jvm.ClassFile.FieldType.object "java/lang/Object"))) ∈ lw_all := lw_g (lw_at lw_m8 23 rfl) rfl
theorem q1818 : (Jvm.Cond.classLink "TollRoad" (68 : Nat) "TollRoad$Vehicle") ∈ lw_all := lw_g (lw_at lw_m8 24 rfl) rfl
theorem q1819 : (Jvm.Cond.constantLong "TollRoad" (211 : Nat) (6 : Int64)) ∈ lw_all := lw_g (lw_at lw_m8 25 rfl) rfl
theorem q1820 : (Jvm.Cond.methodLink "TollRoad" (221 : Nat) ({ cls := "TollRoad$World", name := "readsWith", desc := "(II)I" } : Jvm.MethodName)) ∈ lw_all := lw_g (lw_at lw_m8 26 rfl) rfl
theorem q1821 : (Jvm.Cond.instanceMethod ({ cls := "TollRoad$World", name := "readsWith", desc := "(II)I" } : Jvm.MethodName)) ∈ lw_all := lw_g (lw_at lw_m8 27 rfl) rfl
theorem q1822 : (Jvm.Cond.selects "TollRoad$World" ({ cls := "TollRoad$World", name := "readsWith", desc := "(II)I" } : Jvm.MethodName) ({ cls := "TollRoad$World", name := "readsWith", desc := "(II)I" } : Jvm.MethodName)) ∈ lw_all := lw_g (lw_at lw_m8 28 rfl) rfl
theorem q1823 : (Jvm.Cond.code ({ cls := "TollRoad$World", name := "readsWith", desc := "(II)I" } : Jvm.MethodName) prog_19_method_9_code (6 : Nat) (Option.some Jvm.ClassFile.FieldType.int)) ∈ lw_all := lw_g (lw_at lw_m8 29 rfl) rfl
theorem q1824 : (Jvm.Cond.methodLink "TollRoad$World" (67 : Nat) ({ cls := "java/util/ArrayList", name := "iterator", desc := "()Ljava/util/Iterator;" } : Jvm.MethodName)) ∈ lw_all := lw_g (lw_at lw_m8 30 rfl) rfl
theorem q1826 : (Jvm.Cond.methodLink "TollRoad$World" (71 : Nat) ({ cls := "java/util/Iterator", name := "hasNext", desc := "()Z" } : Jvm.MethodName)) ∈ lw_all := lw_g (lw_at lw_m8 32 rfl) rfl
theorem q1828 : (Jvm.Cond.methodLink "TollRoad$World" (77 : Nat) ({ cls := "java/util/Iterator", name := "next", desc := "()Ljava/lang/Object;" } : Jvm.MethodName)) ∈ lw_all := lw_g (lw_at lw_m8 34 rfl) rfl
theorem q1829 : (Jvm.Cond.classLink "TollRoad$World" (89 : Nat) "TollRoad$Read") ∈ lw_all := lw_g (lw_at lw_m8 35 rfl) rfl
theorem q1830 : (Jvm.Cond.methodLink "TollRoadLaw" (185 : Nat) ({ cls := "TollRoadLaw", name := "setAccount", desc := "(LTollRoad;II[J)I" } : Jvm.MethodName)) ∈ lw_all := lw_g (lw_at lw_m8 36 rfl) rfl
theorem q1831 : (Jvm.Cond.static ({ cls := "TollRoadLaw", name := "setAccount", desc := "(LTollRoad;II[J)I" } : Jvm.MethodName)) ∈ lw_all := lw_g (lw_at lw_m8 37 rfl) rfl
theorem q1832 : (Jvm.Cond.codeWith ({ cls := "TollRoadLaw", name := "setAccount", desc := "(LTollRoad;II[J)I" } : Jvm.MethodName) method_14_code (5 : Nat) (Option.some Jvm.ClassFile.FieldType.int) [((0 : Nat), (10 : Nat), (13 : Nat), (27 : Nat))]) ∈ lw_all := lw_g (lw_at lw_m8 38 rfl) rfl
theorem q1833 : (Jvm.Cond.methodLink "TollRoadLaw" (52 : Nat) ({ cls := "TollRoad", name := "setAccount", desc := "(II)I" } : Jvm.MethodName)) ∈ lw_all := lw_g (lw_at lw_m8 39 rfl) rfl
theorem q1834 : (Jvm.Cond.instanceMethod ({ cls := "TollRoad", name := "setAccount", desc := "(II)I" } : Jvm.MethodName)) ∈ lw_all := lw_g (lw_at lw_m8 40 rfl) rfl
theorem q1835 : (Jvm.Cond.selects "TollRoad" ({ cls := "TollRoad", name := "setAccount", desc := "(II)I" } : Jvm.MethodName) ({ cls := "TollRoad", name := "setAccount", desc := "(II)I" } : Jvm.MethodName)) ∈ lw_all := lw_g (lw_at lw_m8 41 rfl) rfl
theorem q1836 : (Jvm.Cond.code ({ cls := "TollRoad", name := "setAccount", desc := "(II)I" } : Jvm.MethodName) prog_1_method_21_code (5 : Nat) (Option.some Jvm.ClassFile.FieldType.int)) ∈ lw_all := lw_g (lw_at lw_m8 42 rfl) rfl
theorem q1837 : (Jvm.Cond.methodLink "TollRoadLaw" (188 : Nat) ({ cls := "TollRoadLaw", name := "route", desc := "(LTollRoad;IIII[J)I" } : Jvm.MethodName)) ∈ lw_all := lw_g (lw_at lw_m8 43 rfl) rfl
theorem q1838 : (Jvm.Cond.static ({ cls := "TollRoadLaw", name := "route", desc := "(LTollRoad;IIII[J)I" } : Jvm.MethodName)) ∈ lw_all := lw_g (lw_at lw_m8 44 rfl) rfl
theorem q1839 : (Jvm.Cond.codeWith ({ cls := "TollRoadLaw", name := "route", desc := "(LTollRoad;IIII[J)I" } : Jvm.MethodName) method_15_code (7 : Nat) (Option.some Jvm.ClassFile.FieldType.int) [((0 : Nat), (14 : Nat), (17 : Nat), (27 : Nat)), ((0 : Nat), (14 : Nat), (21 : Nat), (18 : Nat))]) ∈ lw_all := lw_g (lw_at lw_m8 45 rfl) rfl
theorem q1840 : (Jvm.Cond.methodLink "TollRoadLaw" (55 : Nat) ({ cls := "TollRoad", name := "route", desc := "(IIII)I" } : Jvm.MethodName)) ∈ lw_all := lw_g (lw_at lw_m8 46 rfl) rfl
theorem q1841 : (Jvm.Cond.instanceMethod ({ cls := "TollRoad", name := "route", desc := "(IIII)I" } : Jvm.MethodName)) ∈ lw_all := lw_g (lw_at lw_m8 47 rfl) rfl
theorem q1842 : (Jvm.Cond.selects "TollRoad" ({ cls := "TollRoad", name := "route", desc := "(IIII)I" } : Jvm.MethodName) ({ cls := "TollRoad", name := "route", desc := "(IIII)I" } : Jvm.MethodName)) ∈ lw_all := lw_g (lw_at lw_m8 48 rfl) rfl
theorem q1843 : (Jvm.Cond.code ({ cls := "TollRoad", name := "route", desc := "(IIII)I" } : Jvm.MethodName) prog_1_method_24_code (6 : Nat) (Option.some Jvm.ClassFile.FieldType.int)) ∈ lw_all := lw_g (lw_at lw_m8 49 rfl) rfl
theorem q1844 : (Jvm.Cond.methodLink "TollRoad" (245 : Nat) ({ cls := "TollRoad", name := "checkEnds", desc := "(II)V" } : Jvm.MethodName)) ∈ lw_all := lw_g (lw_at lw_m8 50 rfl) rfl
theorem q1846 : (Jvm.Cond.instanceMethod ({ cls := "TollRoad", name := "checkEnds", desc := "(II)V" } : Jvm.MethodName)) ∈ lw_all := lw_g (lw_at lw_m8 52 rfl) rfl
theorem q1847 : (Jvm.Cond.code ({ cls := "TollRoad", name := "checkEnds", desc := "(II)V" } : Jvm.MethodName) prog_1_method_23_code (3 : Nat) (Option.none : Option Jvm.ClassFile.FieldType)) ∈ lw_all := lw_g (lw_at lw_m8 53 rfl) rfl
theorem q1848 : (Jvm.Cond.constantLong "TollRoad" (249 : Nat) (600 : Int64)) ∈ lw_all := lw_g (lw_at lw_m8 54 rfl) rfl
theorem q1849 : (Jvm.Cond.constantLong "TollRoad" (251 : Nat) (3 : Int64)) ∈ lw_all := lw_g (lw_at lw_m8 55 rfl) rfl
theorem q1850 : (Jvm.Cond.methodLink "TollRoad" (253 : Nat) ({ cls := "TollRoad", name := "routeOf", desc := "(III)LTollRoad$Route;" } : Jvm.MethodName)) ∈ lw_all := lw_g (lw_at lw_m8 56 rfl) rfl
theorem q1852 : (Jvm.Cond.instanceMethod ({ cls := "TollRoad", name := "routeOf", desc := "(III)LTollRoad$Route;" } : Jvm.MethodName)) ∈ lw_all := lw_g (lw_at lw_m8 58 rfl) rfl
theorem q1853 : (Jvm.Cond.code ({ cls := "TollRoad", name := "routeOf", desc := "(III)LTollRoad$Route;" } : Jvm.MethodName) prog_1_method_22_code (5 : Nat) (Option.some (Jvm.ClassFile.FieldType.object "TollRoad$Route"))) ∈ lw_all := lw_g (lw_at lw_m8 59 rfl) rfl
theorem q1854 : (Jvm.Cond.classLink "TollRoad" (231 : Nat) "TollRoad$Route") ∈ lw_all := lw_g (lw_at lw_m8 60 rfl) rfl
theorem q1855 : (Jvm.Cond.instantiable "TollRoad$Route" (11 : Nat)) ∈ lw_all := lw_g (lw_at lw_m8 61 rfl) rfl
theorem q1856 : (Jvm.Cond.methodLink "TollRoad" (233 : Nat) ({ cls := "TollRoad$Route", name := "<init>", desc := "(LTollRoad$Network;[IIII)V" } : Jvm.MethodName)) ∈ lw_all := lw_g (lw_at lw_m8 62 rfl) rfl
theorem q1857 : (Jvm.Cond.instanceMethod ({ cls := "TollRoad$Route", name := "<init>", desc := "(LTollRoad$Network;[IIII)V" } : Jvm.MethodName)) ∈ lw_all := lw_g (lw_at lw_m8 63 rfl) rfl
theorem q1858 : (Jvm.Cond.code ({ cls := "TollRoad$Route", name := "<init>", desc := "(LTollRoad$Network;[IIII)V" } : Jvm.MethodName) prog_14_method_1_code (6 : Nat) (Option.none : Option Jvm.ClassFile.FieldType)) ∈ lw_all := lw_g (lw_at lw_m8 64 rfl) rfl
theorem q1859 : (Jvm.Cond.methodLink "TollRoad$Route" (3 : Nat) ({ cls := "TollRoad$Search", name := "<init>", desc := "(LTollRoad$Network;II)V" } : Jvm.MethodName)) ∈ lw_all := lw_g (lw_at lw_m8 65 rfl) rfl
theorem q1860 : (Jvm.Cond.instanceMethod ({ cls := "TollRoad$Search", name := "<init>", desc := "(LTollRoad$Network;II)V" } : Jvm.MethodName)) ∈ lw_all := lw_g (lw_at lw_m8 66 rfl) rfl
theorem q1861 : (Jvm.Cond.code ({ cls := "TollRoad$Search", name := "<init>", desc := "(LTollRoad$Network;II)V" } : Jvm.MethodName) prog_15_method_1_code (4 : Nat) (Option.none : Option Jvm.ClassFile.FieldType)) ∈ lw_all := lw_g (lw_at lw_m8 67 rfl) rfl
theorem q1862 : (Jvm.Cond.methodLink "TollRoad$Search" (3 : Nat) ({ cls := "java/lang/Object", name := "<init>", desc := "()V" } : Jvm.MethodName)) ∈ lw_all := lw_g (lw_at lw_m8 68 rfl) rfl
theorem q1863 : (Jvm.Cond.fieldLink "TollRoad$Route" (9 : Nat) "TollRoad$Route" "elapsed" "I") ∈ lw_all := lw_g (lw_at lw_m8 69 rfl) rfl
theorem q1864 : (Jvm.Cond.fieldLink "TollRoad$Route" (15 : Nat) "TollRoad$Route" "slack" "I") ∈ lw_all := lw_g (lw_at lw_m8 70 rfl) rfl
theorem q1865 : (Jvm.Cond.fieldLink "TollRoad$Route" (18 : Nat) "TollRoad$Route" "fastest" "I") ∈ lw_all := lw_g (lw_at lw_m8 71 rfl) rfl
theorem q1866 : (Jvm.Cond.fieldLink "TollRoad$Route" (31 : Nat) "TollRoad$Route" "cost" "I") ∈ lw_all := lw_g (lw_at lw_m8 72 rfl) rfl
theorem q1867 : (Jvm.Cond.fieldLinkNest "TollRoad$Trip" (83 : Nat) "TollRoad$Route" "cost" "I" "TollRoad") ∈ lw_tbl := lw_at lw_m8 73 rfl
theorem q1868 : (Jvm.Cond.fieldLinkNest "TollRoad" (257 : Nat) "TollRoad$Route" "cost" "I" "TollRoad") ∈ lw_tbl := lw_at lw_m8 74 rfl
theorem q1869 : (Jvm.Cond.fieldLink "TollRoad$Route" (37 : Nat) "TollRoad$Route" "minutes" "I") ∈ lw_all := lw_g (lw_at lw_m8 75 rfl) rfl
theorem q1870 : (Jvm.Cond.fieldLinkNest "TollRoad" (266 : Nat) "TollRoad$Route" "minutes" "I" "TollRoad") ∈ lw_tbl := lw_at lw_m8 76 rfl
theorem q1871 : (Jvm.Cond.fieldLink "TollRoad$Route" (40 : Nat) "TollRoad$Route" "toll" "I") ∈ lw_all := lw_g (lw_at lw_m8 77 rfl) rfl
theorem q1872 : (Jvm.Cond.fieldLinkNest "TollRoad$Trip" (77 : Nat) "TollRoad$Route" "toll" "I" "TollRoad") ∈ lw_tbl := lw_at lw_m8 78 rfl
theorem q1873 : (Jvm.Cond.fieldLinkNest "TollRoad" (263 : Nat) "TollRoad$Route" "toll" "I" "TollRoad") ∈ lw_tbl := lw_at lw_m8 79 rfl
theorem q1874 : (Jvm.Cond.fieldLink "TollRoad$Search" (22 : Nat) "TollRoad$Search" "network" "LTollRoad$Network;") ∈ lw_all := lw_g (lw_at lw_m8 80 rfl) rfl
theorem q1875 : (Jvm.Cond.fieldLink "TollRoad$Search" (26 : Nat) "TollRoad$Search" "target" "I") ∈ lw_all := lw_g (lw_at lw_m8 81 rfl) rfl
theorem q1876 : (Jvm.Cond.fieldLink "TollRoad$Search" (9 : Nat) "TollRoad$Search" "way" "[I") ∈ lw_all := lw_g (lw_at lw_m8 82 rfl) rfl
theorem q1877 : (Jvm.Cond.fieldLink "TollRoad$Search" (15 : Nat) "TollRoad$Search" "best" "[I") ∈ lw_all := lw_g (lw_at lw_m8 83 rfl) rfl
theorem q1878 : (Jvm.Cond.fieldLinkNest "TollRoad$Trip" (64 : Nat) "TollRoad$Search" "best" "[I" "TollRoad") ∈ lw_tbl := lw_at lw_m8 84 rfl
theorem q1879 : (Jvm.Cond.fieldLinkNest "TollRoad" (269 : Nat) "TollRoad$Search" "best" "[I" "TollRoad") ∈ lw_tbl := lw_at lw_m8 85 rfl
theorem q1880 : (Jvm.Cond.fieldLink "TollRoad$Search" (18 : Nat) "TollRoad$Search" "steps" "I") ∈ lw_all := lw_g (lw_at lw_m8 86 rfl) rfl
theorem q1881 : (Jvm.Cond.fieldLinkNest "TollRoad$Route" (34 : Nat) "TollRoad$Search" "steps" "I" "TollRoad") ∈ lw_tbl := lw_at lw_m8 87 rfl
theorem q1882 : (Jvm.Cond.fieldLinkNest "TollRoad$Trip" (68 : Nat) "TollRoad$Search" "steps" "I" "TollRoad") ∈ lw_tbl := lw_at lw_m8 88 rfl
theorem q1883 : (Jvm.Cond.fieldLinkNest "TollRoad" (260 : Nat) "TollRoad$Search" "steps" "I" "TollRoad") ∈ lw_tbl := lw_at lw_m8 89 rfl
theorem q1907 : (Jvm.Cond.methodLink "TollRoad" (236 : Nat) ({ cls := "TollRoad$Route", name := "search", desc := "()LTollRoad$Search;" } : Jvm.MethodName)) ∈ lw_all := lw_g (lw_at lw_m8 113 rfl) rfl
theorem q1908 : (Jvm.Cond.sameMethod "TollRoad$Route" "TollRoad$Search" "search" "()LTollRoad$Search;") ∈ lw_all := lw_g (lw_at lw_m8 114 rfl) rfl
theorem q1910 : (Jvm.Cond.selects "TollRoad$Route" ({ cls := "TollRoad$Route", name := "search", desc := "()LTollRoad$Search;" } : Jvm.MethodName) ({ cls := "TollRoad$Search", name := "search", desc := "()LTollRoad$Search;" } : Jvm.MethodName)) ∈ lw_all := lw_g (lw_at lw_m8 116 rfl) rfl
theorem q1911 : (Jvm.Cond.instanceMethod ({ cls := "TollRoad$Search", name := "search", desc := "()LTollRoad$Search;" } : Jvm.MethodName)) ∈ lw_all := lw_g (lw_at lw_m8 117 rfl) rfl
theorem q1912 : (Jvm.Cond.code ({ cls := "TollRoad$Search", name := "search", desc := "()LTollRoad$Search;" } : Jvm.MethodName) prog_15_method_5_code (1 : Nat) (Option.some (Jvm.ClassFile.FieldType.object "TollRoad$Search"))) ∈ lw_all := lw_g (lw_at lw_m8 118 rfl) rfl
theorem q1913 : (Jvm.Cond.methodLink "TollRoad$Search" (59 : Nat) ({ cls := "TollRoad$Search", name := "go", desc := "(IIIII)V" } : Jvm.MethodName)) ∈ lw_all := lw_g (lw_at lw_m8 119 rfl) rfl
theorem q1914 : (Jvm.Cond.instanceMethod ({ cls := "TollRoad$Search", name := "go", desc := "(IIIII)V" } : Jvm.MethodName)) ∈ lw_all := lw_g (lw_at lw_m8 120 rfl) rfl
theorem q1915 : (Jvm.Cond.sameMethod "TollRoad$Search" "TollRoad$Search" "go" "(IIIII)V") ∈ lw_all := lw_g (lw_at lw_m8 121 rfl) rfl
theorem q1916 : (Jvm.Cond.selects "TollRoad$Cheapest" ({ cls := "TollRoad$Search", name := "go", desc := "(IIIII)V" } : Jvm.MethodName) ({ cls := "TollRoad$Search", name := "go", desc := "(IIIII)V" } : Jvm.MethodName)) ∈ lw_all := lw_g (lw_at lw_m8 122 rfl) rfl
theorem q1917 : (Jvm.Cond.selects "TollRoad$Route" ({ cls := "TollRoad$Search", name := "go", desc := "(IIIII)V" } : Jvm.MethodName) ({ cls := "TollRoad$Search", name := "go", desc := "(IIIII)V" } : Jvm.MethodName)) ∈ lw_all := lw_g (lw_at lw_m8 123 rfl) rfl
theorem q1918 : (Jvm.Cond.code ({ cls := "TollRoad$Search", name := "go", desc := "(IIIII)V" } : Jvm.MethodName) prog_15_method_3_code (10 : Nat) (Option.none : Option Jvm.ClassFile.FieldType)) ∈ lw_all := lw_g (lw_at lw_m8 124 rfl) rfl
theorem q1919 : (Jvm.Cond.methodLink "TollRoad$Search" (29 : Nat) ({ cls := "TollRoad$Search", name := "takes", desc := "(IIII)Z" } : Jvm.MethodName)) ∈ lw_all := lw_g (lw_at lw_m8 125 rfl) rfl
theorem q1920 : (Jvm.Cond.declares ({ cls := "TollRoad$Search", name := "takes", desc := "(IIII)Z" } : Jvm.MethodName)) ∈ lw_tbl := lw_at lw_m8 126 rfl
theorem q1921 : (Jvm.Cond.sameMethod "TollRoad$Search" "TollRoad$Search" "takes" "(IIII)Z") ∈ lw_all := lw_g (lw_at lw_m8 127 rfl) rfl
theorem q1922 : (Jvm.Cond.selects "TollRoad$Cheapest" ({ cls := "TollRoad$Search", name := "takes", desc := "(IIII)Z" } : Jvm.MethodName) ({ cls := "TollRoad$Cheapest", name := "takes", desc := "(IIII)Z" } : Jvm.MethodName)) ∈ lw_all := lw_g (lw_at lw_m8 128 rfl) rfl
theorem q1923 : (Jvm.Cond.instanceMethod ({ cls := "TollRoad$Cheapest", name := "takes", desc := "(IIII)Z" } : Jvm.MethodName)) ∈ lw_all := lw_g (lw_at lw_m8 129 rfl) rfl
theorem q1924 : (Jvm.Cond.code ({ cls := "TollRoad$Cheapest", name := "takes", desc := "(IIII)Z" } : Jvm.MethodName) prog_6_method_2_code (5 : Nat) (Option.some Jvm.ClassFile.FieldType.boolean)) ∈ lw_all := lw_g (lw_at lw_m8 130 rfl) rfl
theorem q1925 : (Jvm.Cond.methodLink "TollRoad$Cheapest" (15 : Nat) ({ cls := "TollRoad$Cheapest", name := "isFound", desc := "()Z" } : Jvm.MethodName)) ∈ lw_all := lw_g (lw_at lw_m8 131 rfl) rfl
theorem q1926 : (Jvm.Cond.sameMethod "TollRoad$Cheapest" "TollRoad$Search" "isFound" "()Z") ∈ lw_all := lw_g (lw_at lw_m8 132 rfl) rfl
theorem q1928 : (Jvm.Cond.selects "TollRoad$Cheapest" ({ cls := "TollRoad$Cheapest", name := "isFound", desc := "()Z" } : Jvm.MethodName) ({ cls := "TollRoad$Search", name := "isFound", desc := "()Z" } : Jvm.MethodName)) ∈ lw_all := lw_g (lw_at lw_m8 134 rfl) rfl
theorem q1929 : (Jvm.Cond.instanceMethod ({ cls := "TollRoad$Search", name := "isFound", desc := "()Z" } : Jvm.MethodName)) ∈ lw_all := lw_g (lw_at lw_m8 135 rfl) rfl
theorem q1930 : (Jvm.Cond.code ({ cls := "TollRoad$Search", name := "isFound", desc := "()Z" } : Jvm.MethodName) prog_15_method_4_code (1 : Nat) (Option.some Jvm.ClassFile.FieldType.boolean)) ∈ lw_all := lw_g (lw_at lw_m8 136 rfl) rfl
theorem q1931 : (Jvm.Cond.selects "TollRoad$Route" ({ cls := "TollRoad$Search", name := "takes", desc := "(IIII)Z" } : Jvm.MethodName) ({ cls := "TollRoad$Route", name := "takes", desc := "(IIII)Z" } : Jvm.MethodName)) ∈ lw_all := lw_g (lw_at lw_m8 137 rfl) rfl
theorem q1932 : (Jvm.Cond.instanceMethod ({ cls := "TollRoad$Route", name := "takes", desc := "(IIII)Z" } : Jvm.MethodName)) ∈ lw_all := lw_g (lw_at lw_m8 138 rfl) rfl
theorem q1933 : (Jvm.Cond.code ({ cls := "TollRoad$Route", name := "takes", desc := "(IIII)Z" } : Jvm.MethodName) prog_14_method_2_code (7 : Nat) (Option.some Jvm.ClassFile.FieldType.boolean)) ∈ lw_all := lw_g (lw_at lw_m8 139 rfl) rfl
theorem q1934 : (Jvm.Cond.methodLink "TollRoad$Route" (21 : Nat) ({ cls := "java/lang/Math", name := "abs", desc := "(I)I" } : Jvm.MethodName)) ∈ lw_all := lw_g (lw_at lw_m8 140 rfl) rfl
theorem q1935 : (Jvm.Cond.static ({ cls := "java/lang/Math", name := "abs", desc := "(I)I" } : Jvm.MethodName)) ∈ lw_all := lw_g (lw_at lw_m8 141 rfl) rfl
theorem q1936 : (Jvm.Cond.code ({ cls := "java/lang/Math", name := "abs", desc := "(I)I" } : Jvm.MethodName) prog_37_method_59_code (1 : Nat) (Option.some Jvm.ClassFile.FieldType.int)) ∈ lw_all := lw_g (lw_at lw_m8 142 rfl) rfl
theorem q1937 : (Jvm.Cond.methodLink "TollRoad$Route" (27 : Nat) ({ cls := "TollRoad$Route", name := "isFound", desc := "()Z" } : Jvm.MethodName)) ∈ lw_all := lw_g (lw_at lw_m8 143 rfl) rfl
theorem q1938 : (Jvm.Cond.sameMethod "TollRoad$Route" "TollRoad$Search" "isFound" "()Z") ∈ lw_all := lw_g (lw_at lw_m8 144 rfl) rfl
theorem q1939 : (Jvm.Cond.selects "TollRoad$Route" ({ cls := "TollRoad$Route", name := "isFound", desc := "()Z" } : Jvm.MethodName) ({ cls := "TollRoad$Search", name := "isFound", desc := "()Z" } : Jvm.MethodName)) ∈ lw_all := lw_g (lw_at lw_m8 145 rfl) rfl
theorem q1940 : (Jvm.Cond.methodLink "TollRoad$Search" (33 : Nat) ({ cls := "java/lang/System", name := "arraycopy", desc := "(Ljava/lang/Object;ILjava/lang/Object;II)V" } : Jvm.MethodName)) ∈ lw_all := lw_g (lw_at lw_m8 146 rfl) rfl
theorem q1941 : (Jvm.Cond.methodLink "TollRoad$Search" (47 : Nat) ({ cls := "TollRoad$Network", name := "road", desc := "(II)LTollRoad$Road;" } : Jvm.MethodName)) ∈ lw_all := lw_g (lw_at lw_m8 147 rfl) rfl
theorem q1942 : (Jvm.Cond.methodLink "TollRoad" (240 : Nat) ({ cls := "TollRoad$Search", name := "isFound", desc := "()Z" } : Jvm.MethodName)) ∈ lw_all := lw_g (lw_at lw_m8 148 rfl) rfl
theorem q1943 : (Jvm.Cond.methodLink "TollRoadLaw" (191 : Nat) ({ cls := "TollRoadLaw", name := "routeGantry", desc := "(LTollRoad;IIII[J)I" } : Jvm.MethodName)) ∈ lw_all := lw_g (lw_at lw_m8 149 rfl) rfl
theorem q1944 : (Jvm.Cond.static ({ cls := "TollRoadLaw", name := "routeGantry", desc := "(LTollRoad;IIII[J)I" } : Jvm.MethodName)) ∈ lw_all := lw_g (lw_at lw_m8 150 rfl) rfl
theorem q1945 : (Jvm.Cond.codeWith ({ cls := "TollRoadLaw", name := "routeGantry", desc := "(LTollRoad;IIII[J)I" } : Jvm.MethodName) method_16_code (7 : Nat) (Option.some Jvm.ClassFile.FieldType.int) [((0 : Nat), (14 : Nat), (17 : Nat), (27 : Nat)), ((0 : Nat), (14 : Nat), (21 : Nat), (18 : Nat))]) ∈ lw_all := lw_g (lw_at lw_m8 151 rfl) rfl
theorem q1946 : (Jvm.Cond.methodLink "TollRoadLaw" (58 : Nat) ({ cls := "TollRoad", name := "routeGantry", desc := "(IIII)I" } : Jvm.MethodName)) ∈ lw_all := lw_g (lw_at lw_m8 152 rfl) rfl
theorem q1947 : (Jvm.Cond.instanceMethod ({ cls := "TollRoad", name := "routeGantry", desc := "(IIII)I" } : Jvm.MethodName)) ∈ lw_all := lw_g (lw_at lw_m8 153 rfl) rfl
theorem q1948 : (Jvm.Cond.selects "TollRoad" ({ cls := "TollRoad", name := "routeGantry", desc := "(IIII)I" } : Jvm.MethodName) ({ cls := "TollRoad", name := "routeGantry", desc := "(IIII)I" } : Jvm.MethodName)) ∈ lw_all := lw_g (lw_at lw_m8 154 rfl) rfl
theorem q1949 : (Jvm.Cond.code ({ cls := "TollRoad", name := "routeGantry", desc := "(IIII)I" } : Jvm.MethodName) prog_1_method_25_code (6 : Nat) (Option.some Jvm.ClassFile.FieldType.int)) ∈ lw_all := lw_g (lw_at lw_m8 155 rfl) rfl
theorem q1950 : (Jvm.Cond.methodLink "TollRoadLaw" (194 : Nat) ({ cls := "TollRoadLaw", name := "leastToll", desc := "(LTollRoad;II[J)I" } : Jvm.MethodName)) ∈ lw_all := lw_g (lw_at lw_m8 156 rfl) rfl
theorem q1951 : (Jvm.Cond.static ({ cls := "TollRoadLaw", name := "leastToll", desc := "(LTollRoad;II[J)I" } : Jvm.MethodName)) ∈ lw_all := lw_g (lw_at lw_m8 157 rfl) rfl
theorem q1952 : (Jvm.Cond.codeWith ({ cls := "TollRoadLaw", name := "leastToll", desc := "(LTollRoad;II[J)I" } : Jvm.MethodName) method_17_code (5 : Nat) (Option.some Jvm.ClassFile.FieldType.int) [((0 : Nat), (10 : Nat), (13 : Nat), (27 : Nat))]) ∈ lw_all := lw_g (lw_at lw_m8 158 rfl) rfl
theorem q1953 : (Jvm.Cond.methodLink "TollRoadLaw" (61 : Nat) ({ cls := "TollRoad", name := "leastToll", desc := "(II)I" } : Jvm.MethodName)) ∈ lw_all := lw_g (lw_at lw_m8 159 rfl) rfl
theorem q1954 : (Jvm.Cond.instanceMethod ({ cls := "TollRoad", name := "leastToll", desc := "(II)I" } : Jvm.MethodName)) ∈ lw_all := lw_g (lw_at lw_m8 160 rfl) rfl
theorem q1955 : (Jvm.Cond.selects "TollRoad" ({ cls := "TollRoad", name := "leastToll", desc := "(II)I" } : Jvm.MethodName) ({ cls := "TollRoad", name := "leastToll", desc := "(II)I" } : Jvm.MethodName)) ∈ lw_all := lw_g (lw_at lw_m8 161 rfl) rfl
theorem q1956 : (Jvm.Cond.code ({ cls := "TollRoad", name := "leastToll", desc := "(II)I" } : Jvm.MethodName) prog_1_method_26_code (3 : Nat) (Option.some Jvm.ClassFile.FieldType.int)) ∈ lw_all := lw_g (lw_at lw_m8 162 rfl) rfl
theorem q1957 : (Jvm.Cond.methodLink "TollRoad" (272 : Nat) ({ cls := "TollRoad$World", name := "leastToll", desc := "(II)I" } : Jvm.MethodName)) ∈ lw_all := lw_g (lw_at lw_m8 163 rfl) rfl
theorem q1958 : (Jvm.Cond.instanceMethod ({ cls := "TollRoad$World", name := "leastToll", desc := "(II)I" } : Jvm.MethodName)) ∈ lw_all := lw_g (lw_at lw_m8 164 rfl) rfl
theorem q1959 : (Jvm.Cond.selects "TollRoad$World" ({ cls := "TollRoad$World", name := "leastToll", desc := "(II)I" } : Jvm.MethodName) ({ cls := "TollRoad$World", name := "leastToll", desc := "(II)I" } : Jvm.MethodName)) ∈ lw_all := lw_g (lw_at lw_m8 165 rfl) rfl
theorem q1960 : (Jvm.Cond.code ({ cls := "TollRoad$World", name := "leastToll", desc := "(II)I" } : Jvm.MethodName) prog_19_method_19_code (4 : Nat) (Option.some Jvm.ClassFile.FieldType.int)) ∈ lw_all := lw_g (lw_at lw_m8 166 rfl) rfl
theorem q1961 : (Jvm.Cond.classLink "TollRoad$World" (282 : Nat) "TollRoad$Cheapest") ∈ lw_all := lw_g (lw_at lw_m8 167 rfl) rfl
theorem q1962 : (Jvm.Cond.instantiable "TollRoad$Cheapest" (6 : Nat)) ∈ lw_all := lw_g (lw_at lw_m8 168 rfl) rfl
theorem q1963 : (Jvm.Cond.methodLink "TollRoad$World" (284 : Nat) ({ cls := "TollRoad$Cheapest", name := "<init>", desc := "(LTollRoad$Network;II)V" } : Jvm.MethodName)) ∈ lw_all := lw_g (lw_at lw_m8 169 rfl) rfl
theorem q1964 : (Jvm.Cond.instanceMethod ({ cls := "TollRoad$Cheapest", name := "<init>", desc := "(LTollRoad$Network;II)V" } : Jvm.MethodName)) ∈ lw_all := lw_g (lw_at lw_m8 170 rfl) rfl
theorem q1965 : (Jvm.Cond.code ({ cls := "TollRoad$Cheapest", name := "<init>", desc := "(LTollRoad$Network;II)V" } : Jvm.MethodName) prog_6_method_1_code (4 : Nat) (Option.none : Option Jvm.ClassFile.FieldType)) ∈ lw_all := lw_g (lw_at lw_m8 171 rfl) rfl
theorem q1966 : (Jvm.Cond.methodLink "TollRoad$Cheapest" (3 : Nat) ({ cls := "TollRoad$Search", name := "<init>", desc := "(LTollRoad$Network;II)V" } : Jvm.MethodName)) ∈ lw_all := lw_g (lw_at lw_m8 172 rfl) rfl
theorem q1967 : (Jvm.Cond.fieldLink "TollRoad$Cheapest" (9 : Nat) "TollRoad$Cheapest" "toll" "I") ∈ lw_all := lw_g (lw_at lw_m8 173 rfl) rfl
theorem q1968 : (Jvm.Cond.fieldLinkNest "TollRoad$World" (296 : Nat) "TollRoad$Cheapest" "toll" "I" "TollRoad") ∈ lw_tbl := lw_at lw_m8 174 rfl
theorem q1977 : (Jvm.Cond.methodLink "TollRoad$World" (287 : Nat) ({ cls := "TollRoad$Cheapest", name := "search", desc := "()LTollRoad$Search;" } : Jvm.MethodName)) ∈ lw_all := lw_g (lw_at lw_m8 183 rfl) rfl
theorem q1978 : (Jvm.Cond.sameMethod "TollRoad$Cheapest" "TollRoad$Search" "search" "()LTollRoad$Search;") ∈ lw_all := lw_g (lw_at lw_m8 184 rfl) rfl
theorem q1979 : (Jvm.Cond.selects "TollRoad$Cheapest" ({ cls := "TollRoad$Cheapest", name := "search", desc := "()LTollRoad$Search;" } : Jvm.MethodName) ({ cls := "TollRoad$Search", name := "search", desc := "()LTollRoad$Search;" } : Jvm.MethodName)) ∈ lw_all := lw_g (lw_at lw_m8 185 rfl) rfl
theorem q1980 : (Jvm.Cond.methodLink "TollRoad$World" (291 : Nat) ({ cls := "TollRoad$Search", name := "isFound", desc := "()Z" } : Jvm.MethodName)) ∈ lw_all := lw_g (lw_at lw_m8 186 rfl) rfl
theorem q1981 : (Jvm.Cond.methodLink "TollRoadLaw" (197 : Nat) ({ cls := "TollRoadLaw", name := "tagRead", desc := "(LTollRoad;III[J)I" } : Jvm.MethodName)) ∈ lw_all := lw_g (lw_at lw_m8 187 rfl) rfl
theorem q1982 : (Jvm.Cond.static ({ cls := "TollRoadLaw", name := "tagRead", desc := "(LTollRoad;III[J)I" } : Jvm.MethodName)) ∈ lw_all := lw_g (lw_at lw_m8 188 rfl) rfl
theorem q1983 : (Jvm.Cond.codeWith ({ cls := "TollRoadLaw", name := "tagRead", desc := "(LTollRoad;III[J)I" } : Jvm.MethodName) method_18_code (6 : Nat) (Option.some Jvm.ClassFile.FieldType.int) [((0 : Nat), (12 : Nat), (15 : Nat), (27 : Nat)), ((0 : Nat), (12 : Nat), (19 : Nat), (18 : Nat)), ((0 : Nat), (12 : Nat), (23 : Nat), (13 : Nat))]) ∈ lw_all := lw_g (lw_at lw_m8 189 rfl) rfl
theorem q1984 : (Jvm.Cond.methodLink "TollRoadLaw" (64 : Nat) ({ cls := "TollRoad", name := "tagRead", desc := "(III)I" } : Jvm.MethodName)) ∈ lw_all := lw_g (lw_at lw_m8 190 rfl) rfl
theorem q1985 : (Jvm.Cond.instanceMethod ({ cls := "TollRoad", name := "tagRead", desc := "(III)I" } : Jvm.MethodName)) ∈ lw_all := lw_g (lw_at lw_m8 191 rfl) rfl
theorem q1986 : (Jvm.Cond.selects "TollRoad" ({ cls := "TollRoad", name := "tagRead", desc := "(III)I" } : Jvm.MethodName) ({ cls := "TollRoad", name := "tagRead", desc := "(III)I" } : Jvm.MethodName)) ∈ lw_all := lw_g (lw_at lw_m8 192 rfl) rfl
theorem q1987 : (Jvm.Cond.code ({ cls := "TollRoad", name := "tagRead", desc := "(III)I" } : Jvm.MethodName) prog_1_method_27_code (5 : Nat) (Option.some Jvm.ClassFile.FieldType.int)) ∈ lw_all := lw_g (lw_at lw_m8 193 rfl) rfl
theorem q1988 : (Jvm.Cond.instantiable "TollRoad$Read" (8 : Nat)) ∈ lw_all := lw_g (lw_at lw_m8 194 rfl) rfl
theorem q1989 : (Jvm.Cond.methodLink "TollRoad" (275 : Nat) ({ cls := "TollRoad$Read", name := "<init>", desc := "(IIIZ)V" } : Jvm.MethodName)) ∈ lw_all := lw_g (lw_at lw_m8 195 rfl) rfl
theorem q1990 : (Jvm.Cond.instanceMethod ({ cls := "TollRoad$Read", name := "<init>", desc := "(IIIZ)V" } : Jvm.MethodName)) ∈ lw_all := lw_g (lw_at lw_m8 196 rfl) rfl
theorem q1991 : (Jvm.Cond.code ({ cls := "TollRoad$Read", name := "<init>", desc := "(IIIZ)V" } : Jvm.MethodName) prog_12_method_1_code (5 : Nat) (Option.none : Option Jvm.ClassFile.FieldType)) ∈ lw_all := lw_g (lw_at lw_m8 197 rfl) rfl
theorem q1992 : (Jvm.Cond.methodLink "TollRoad$Read" (3 : Nat) ({ cls := "java/lang/Object", name := "<init>", desc := "()V" } : Jvm.MethodName)) ∈ lw_all := lw_g (lw_at lw_m8 198 rfl) rfl
theorem q1993 : (Jvm.Cond.fieldLink "TollRoad$Read" (15 : Nat) "TollRoad$Read" "number" "I") ∈ lw_all := lw_g (lw_at lw_m8 199 rfl) rfl
theorem q1994 : (Jvm.Cond.fieldLinkNest "TollRoad$Order" (45 : Nat) "TollRoad$Read" "number" "I" "TollRoad") ∈ lw_tbl := lw_at lw_m8 200 rfl
theorem q1995 : (Jvm.Cond.fieldLinkNest "TollRoad$World" (165 : Nat) "TollRoad$Read" "number" "I" "TollRoad") ∈ lw_tbl := lw_at lw_m8 201 rfl
theorem q1996 : (Jvm.Cond.fieldLinkNest "TollRoad" (310 : Nat) "TollRoad$Read" "number" "I" "TollRoad") ∈ lw_tbl := lw_at lw_m8 202 rfl
theorem q1997 : (Jvm.Cond.fieldLink "TollRoad$Read" (18 : Nat) "TollRoad$Read" "gantry" "I") ∈ lw_all := lw_g (lw_at lw_m8 203 rfl) rfl
theorem q1998 : (Jvm.Cond.fieldLinkNest "TollRoad$Trip" (31 : Nat) "TollRoad$Read" "gantry" "I" "TollRoad") ∈ lw_tbl := lw_at lw_m8 204 rfl
theorem q1999 : (Jvm.Cond.fieldLinkNest "TollRoad" (398 : Nat) "TollRoad$Read" "gantry" "I" "TollRoad") ∈ lw_tbl := lw_at lw_m8 205 rfl
theorem q2000 : (Jvm.Cond.fieldLink "TollRoad$Read" (21 : Nat) "TollRoad$Read" "time" "I") ∈ lw_all := lw_g (lw_at lw_m8 206 rfl) rfl
theorem q2001 : (Jvm.Cond.fieldLinkNest "TollRoad$Trip" (46 : Nat) "TollRoad$Read" "time" "I" "TollRoad") ∈ lw_tbl := lw_at lw_m8 207 rfl
theorem q2002 : (Jvm.Cond.fieldLinkNest "TollRoad$Order" (42 : Nat) "TollRoad$Read" "time" "I" "TollRoad") ∈ lw_tbl := lw_at lw_m8 208 rfl
theorem q2003 : (Jvm.Cond.fieldLinkNest "TollRoad$World" (148 : Nat) "TollRoad$Read" "time" "I" "TollRoad") ∈ lw_tbl := lw_at lw_m8 209 rfl
theorem q2004 : (Jvm.Cond.fieldLink "TollRoad$Read" (24 : Nat) "TollRoad$Read" "isImage" "Z") ∈ lw_all := lw_g (lw_at lw_m8 210 rfl) rfl
theorem q2005 : (Jvm.Cond.fieldLinkNest "TollRoad$Trip" (91 : Nat) "TollRoad$Read" "isImage" "Z" "TollRoad") ∈ lw_tbl := lw_at lw_m8 211 rfl
theorem q2006 : (Jvm.Cond.fieldLinkNest "TollRoad$World" (157 : Nat) "TollRoad$Read" "isImage" "Z" "TollRoad") ∈ lw_tbl := lw_at lw_m8 212 rfl
theorem q2007 : (Jvm.Cond.fieldLinkNest "TollRoad$Order" (19 : Nat) "TollRoad$Read" "vehicle" "I" "TollRoad") ∈ lw_tbl := lw_at lw_m8 213 rfl
theorem q2008 : (Jvm.Cond.fieldLink "TollRoad$Read" (31 : Nat) "TollRoad$Read" "vehicle" "I") ∈ lw_all := lw_g (lw_at lw_m8 214 rfl) rfl
theorem q2009 : (Jvm.Cond.fieldLinkNest "TollRoad$World" (138 : Nat) "TollRoad$Read" "vehicle" "I" "TollRoad") ∈ lw_tbl := lw_at lw_m8 215 rfl
theorem q2010 : (Jvm.Cond.fieldLink "TollRoad$Read" (34 : Nat) "TollRoad$Read" "confidence" "I") ∈ lw_all := lw_g (lw_at lw_m8 216 rfl) rfl
theorem q2011 : (Jvm.Cond.fieldLinkNest "TollRoad$Order" (39 : Nat) "TollRoad$Read" "confidence" "I" "TollRoad") ∈ lw_tbl := lw_at lw_m8 217 rfl
theorem q2012 : (Jvm.Cond.fieldLinkNest "TollRoad$World" (154 : Nat) "TollRoad$Read" "confidence" "I" "TollRoad") ∈ lw_tbl := lw_at lw_m8 218 rfl
theorem q2013 : (Jvm.Cond.fieldLinkNest "TollRoad" (313 : Nat) "TollRoad$Read" "confidence" "I" "TollRoad") ∈ lw_tbl := lw_at lw_m8 219 rfl
theorem q2014 : (Jvm.Cond.fieldLink "TollRoad$Read" (37 : Nat) "TollRoad$Read" "state" "I") ∈ lw_all := lw_g (lw_at lw_m8 220 rfl) rfl
theorem q2015 : (Jvm.Cond.fieldLinkNest "TollRoad$World" (151 : Nat) "TollRoad$Read" "state" "I" "TollRoad") ∈ lw_tbl := lw_at lw_m8 221 rfl
theorem q2016 : (Jvm.Cond.fieldLinkNest "TollRoad" (162 : Nat) "TollRoad$Read" "state" "I" "TollRoad") ∈ lw_tbl := lw_at lw_m8 222 rfl
theorem q2017 : (Jvm.Cond.fieldLink "TollRoad$Read" (9 : Nat) "TollRoad$Read" "bill" "I") ∈ lw_all := lw_g (lw_at lw_m8 223 rfl) rfl
theorem q2018 : (Jvm.Cond.fieldLinkNest "TollRoad$World" (238 : Nat) "TollRoad$Read" "bill" "I" "TollRoad") ∈ lw_tbl := lw_at lw_m8 224 rfl
theorem q2036 : (Jvm.Cond.methodLink "TollRoad" (278 : Nat) ({ cls := "TollRoad$World", name := "add", desc := "(LTollRoad$Read;II)I" } : Jvm.MethodName)) ∈ lw_all := lw_g (lw_at lw_m9 2 rfl) rfl
theorem q2037 : (Jvm.Cond.instanceMethod ({ cls := "TollRoad$World", name := "add", desc := "(LTollRoad$Read;II)I" } : Jvm.MethodName)) ∈ lw_all := lw_g (lw_at lw_m9 3 rfl) rfl
theorem q2038 : (Jvm.Cond.selects "TollRoad$World" ({ cls := "TollRoad$World", name := "add", desc := "(LTollRoad$Read;II)I" } : Jvm.MethodName) ({ cls := "TollRoad$World", name := "add", desc := "(LTollRoad$Read;II)I" } : Jvm.MethodName)) ∈ lw_all := lw_g (lw_at lw_m9 4 rfl) rfl
theorem q2039 : (Jvm.Cond.code ({ cls := "TollRoad$World", name := "add", desc := "(LTollRoad$Read;II)I" } : Jvm.MethodName) prog_19_method_8_code (4 : Nat) (Option.some Jvm.ClassFile.FieldType.int)) ∈ lw_all := lw_g (lw_at lw_m9 5 rfl) rfl
theorem q2040 : (Jvm.Cond.methodLink "TollRoad$World" (161 : Nat) ({ cls := "TollRoad$World", name := "count", desc := "(LTollRoad$Read;I)V" } : Jvm.MethodName)) ∈ lw_all := lw_g (lw_at lw_m9 6 rfl) rfl
theorem q2041 : (Jvm.Cond.instanceMethod ({ cls := "TollRoad$World", name := "count", desc := "(LTollRoad$Read;I)V" } : Jvm.MethodName)) ∈ lw_all := lw_g (lw_at lw_m9 7 rfl) rfl
theorem q2042 : (Jvm.Cond.selects "TollRoad$World" ({ cls := "TollRoad$World", name := "count", desc := "(LTollRoad$Read;I)V" } : Jvm.MethodName) ({ cls := "TollRoad$World", name := "count", desc := "(LTollRoad$Read;I)V" } : Jvm.MethodName)) ∈ lw_all := lw_g (lw_at lw_m9 8 rfl) rfl
theorem q2043 : (Jvm.Cond.code ({ cls := "TollRoad$World", name := "count", desc := "(LTollRoad$Read;I)V" } : Jvm.MethodName) prog_19_method_7_code (3 : Nat) (Option.none : Option Jvm.ClassFile.FieldType)) ∈ lw_all := lw_g (lw_at lw_m9 9 rfl) rfl
theorem q2044 : (Jvm.Cond.methodLink "TollRoad$World" (141 : Nat) ({ cls := "java/util/ArrayList", name := "get", desc := "(I)Ljava/lang/Object;" } : Jvm.MethodName)) ∈ lw_all := lw_g (lw_at lw_m9 10 rfl) rfl
theorem q2045 : (Jvm.Cond.methodLink "TollRoadLaw" (200 : Nat) ({ cls := "TollRoadLaw", name := "imageRead", desc := "(LTollRoad;IIII[J)I" } : Jvm.MethodName)) ∈ lw_all := lw_g (lw_at lw_m9 11 rfl) rfl
theorem q2046 : (Jvm.Cond.static ({ cls := "TollRoadLaw", name := "imageRead", desc := "(LTollRoad;IIII[J)I" } : Jvm.MethodName)) ∈ lw_all := lw_g (lw_at lw_m9 12 rfl) rfl
theorem q2047 : (Jvm.Cond.codeWith ({ cls := "TollRoadLaw", name := "imageRead", desc := "(LTollRoad;IIII[J)I" } : Jvm.MethodName) method_19_code (7 : Nat) (Option.some Jvm.ClassFile.FieldType.int) [((0 : Nat), (14 : Nat), (17 : Nat), (27 : Nat)), ((0 : Nat), (14 : Nat), (21 : Nat), (18 : Nat)), ((0 : Nat), (14 : Nat), (25 : Nat), (13 : Nat))]) ∈ lw_all := lw_g (lw_at lw_m9 13 rfl) rfl
theorem q2048 : (Jvm.Cond.methodLink "TollRoadLaw" (67 : Nat) ({ cls := "TollRoad", name := "imageRead", desc := "(IIII)I" } : Jvm.MethodName)) ∈ lw_all := lw_g (lw_at lw_m9 14 rfl) rfl
theorem q2049 : (Jvm.Cond.instanceMethod ({ cls := "TollRoad", name := "imageRead", desc := "(IIII)I" } : Jvm.MethodName)) ∈ lw_all := lw_g (lw_at lw_m9 15 rfl) rfl
theorem q2050 : (Jvm.Cond.selects "TollRoad" ({ cls := "TollRoad", name := "imageRead", desc := "(IIII)I" } : Jvm.MethodName) ({ cls := "TollRoad", name := "imageRead", desc := "(IIII)I" } : Jvm.MethodName)) ∈ lw_all := lw_g (lw_at lw_m9 16 rfl) rfl
theorem q2051 : (Jvm.Cond.code ({ cls := "TollRoad", name := "imageRead", desc := "(IIII)I" } : Jvm.MethodName) prog_1_method_28_code (6 : Nat) (Option.some Jvm.ClassFile.FieldType.int)) ∈ lw_all := lw_g (lw_at lw_m9 17 rfl) rfl
theorem q2052 : (Jvm.Cond.constantLong "TollRoad" (281 : Nat) (100 : Int64)) ∈ lw_all := lw_g (lw_at lw_m9 18 rfl) rfl
theorem q2053 : (Jvm.Cond.methodLink "TollRoadLaw" (203 : Nat) ({ cls := "TollRoadLaw", name := "read", desc := "(LTollRoad;II[J)I" } : Jvm.MethodName)) ∈ lw_all := lw_g (lw_at lw_m9 19 rfl) rfl
theorem q2054 : (Jvm.Cond.static ({ cls := "TollRoadLaw", name := "read", desc := "(LTollRoad;II[J)I" } : Jvm.MethodName)) ∈ lw_all := lw_g (lw_at lw_m9 20 rfl) rfl
theorem q2055 : (Jvm.Cond.codeWith ({ cls := "TollRoadLaw", name := "read", desc := "(LTollRoad;II[J)I" } : Jvm.MethodName) method_20_code (5 : Nat) (Option.some Jvm.ClassFile.FieldType.int) [((0 : Nat), (10 : Nat), (13 : Nat), (27 : Nat)), ((0 : Nat), (10 : Nat), (17 : Nat), (18 : Nat))]) ∈ lw_all := lw_g (lw_at lw_m9 21 rfl) rfl
theorem q2056 : (Jvm.Cond.methodLink "TollRoadLaw" (70 : Nat) ({ cls := "TollRoad", name := "read", desc := "(II)I" } : Jvm.MethodName)) ∈ lw_all := lw_g (lw_at lw_m9 22 rfl) rfl
theorem q2057 : (Jvm.Cond.instanceMethod ({ cls := "TollRoad", name := "read", desc := "(II)I" } : Jvm.MethodName)) ∈ lw_all := lw_g (lw_at lw_m9 23 rfl) rfl
theorem q2058 : (Jvm.Cond.selects "TollRoad" ({ cls := "TollRoad", name := "read", desc := "(II)I" } : Jvm.MethodName) ({ cls := "TollRoad", name := "read", desc := "(II)I" } : Jvm.MethodName)) ∈ lw_all := lw_g (lw_at lw_m9 24 rfl) rfl
theorem q2059 : (Jvm.Cond.code ({ cls := "TollRoad", name := "read", desc := "(II)I" } : Jvm.MethodName) prog_1_method_30_code (4 : Nat) (Option.some Jvm.ClassFile.FieldType.int)) ∈ lw_all := lw_g (lw_at lw_m9 25 rfl) rfl
theorem q2060 : (Jvm.Cond.methodLink "TollRoad" (283 : Nat) ({ cls := "TollRoad", name := "readAt", desc := "(I)LTollRoad$Read;" } : Jvm.MethodName)) ∈ lw_all := lw_g (lw_at lw_m9 26 rfl) rfl
theorem q2062 : (Jvm.Cond.instanceMethod ({ cls := "TollRoad", name := "readAt", desc := "(I)LTollRoad$Read;" } : Jvm.MethodName)) ∈ lw_all := lw_g (lw_at lw_m9 28 rfl) rfl
theorem q2063 : (Jvm.Cond.code ({ cls := "TollRoad", name := "readAt", desc := "(I)LTollRoad$Read;" } : Jvm.MethodName) prog_1_method_29_code (2 : Nat) (Option.some (Jvm.ClassFile.FieldType.object "TollRoad$Read"))) ∈ lw_all := lw_g (lw_at lw_m9 29 rfl) rfl
theorem q2064 : (Jvm.Cond.methodLink "TollRoad" (287 : Nat) ({ cls := "TollRoad$Read", name := "of", desc := "(I)I" } : Jvm.MethodName)) ∈ lw_all := lw_g (lw_at lw_m9 30 rfl) rfl
theorem q2065 : (Jvm.Cond.instanceMethod ({ cls := "TollRoad$Read", name := "of", desc := "(I)I" } : Jvm.MethodName)) ∈ lw_all := lw_g (lw_at lw_m9 31 rfl) rfl
theorem q2066 : (Jvm.Cond.selects "TollRoad$Read" ({ cls := "TollRoad$Read", name := "of", desc := "(I)I" } : Jvm.MethodName) ({ cls := "TollRoad$Read", name := "of", desc := "(I)I" } : Jvm.MethodName)) ∈ lw_all := lw_g (lw_at lw_m9 32 rfl) rfl
theorem q2067 : (Jvm.Cond.code ({ cls := "TollRoad$Read", name := "of", desc := "(I)I" } : Jvm.MethodName) prog_12_method_3_code (2 : Nat) (Option.some Jvm.ClassFile.FieldType.int)) ∈ lw_all := lw_g (lw_at lw_m9 33 rfl) rfl
theorem q2068 : (Jvm.Cond.methodLink "TollRoadLaw" (206 : Nat) ({ cls := "TollRoadLaw", name := "review", desc := "(LTollRoad;I[J)I" } : Jvm.MethodName)) ∈ lw_all := lw_g (lw_at lw_m9 34 rfl) rfl
theorem q2069 : (Jvm.Cond.static ({ cls := "TollRoadLaw", name := "review", desc := "(LTollRoad;I[J)I" } : Jvm.MethodName)) ∈ lw_all := lw_g (lw_at lw_m9 35 rfl) rfl
theorem q2070 : (Jvm.Cond.codeWith ({ cls := "TollRoadLaw", name := "review", desc := "(LTollRoad;I[J)I" } : Jvm.MethodName) method_21_code (4 : Nat) (Option.some Jvm.ClassFile.FieldType.int) [((0 : Nat), (9 : Nat), (12 : Nat), (27 : Nat))]) ∈ lw_all := lw_g (lw_at lw_m9 36 rfl) rfl
theorem q2071 : (Jvm.Cond.methodLink "TollRoadLaw" (73 : Nat) ({ cls := "TollRoad", name := "review", desc := "(I)I" } : Jvm.MethodName)) ∈ lw_all := lw_g (lw_at lw_m9 37 rfl) rfl
theorem q2072 : (Jvm.Cond.instanceMethod ({ cls := "TollRoad", name := "review", desc := "(I)I" } : Jvm.MethodName)) ∈ lw_all := lw_g (lw_at lw_m9 38 rfl) rfl
theorem q2073 : (Jvm.Cond.selects "TollRoad" ({ cls := "TollRoad", name := "review", desc := "(I)I" } : Jvm.MethodName) ({ cls := "TollRoad", name := "review", desc := "(I)I" } : Jvm.MethodName)) ∈ lw_all := lw_g (lw_at lw_m9 39 rfl) rfl
theorem q2074 : (Jvm.Cond.code ({ cls := "TollRoad", name := "review", desc := "(I)I" } : Jvm.MethodName) prog_1_method_32_code (5 : Nat) (Option.some Jvm.ClassFile.FieldType.int)) ∈ lw_all := lw_g (lw_at lw_m9 40 rfl) rfl
theorem q2075 : (Jvm.Cond.methodLink "TollRoad" (302 : Nat) ({ cls := "TollRoad", name := "reviews", desc := "()Ljava/util/PriorityQueue;" } : Jvm.MethodName)) ∈ lw_all := lw_g (lw_at lw_m9 41 rfl) rfl
theorem q2077 : (Jvm.Cond.instanceMethod ({ cls := "TollRoad", name := "reviews", desc := "()Ljava/util/PriorityQueue;" } : Jvm.MethodName)) ∈ lw_all := lw_g (lw_at lw_m9 43 rfl) rfl
theorem q2078 : (Jvm.Cond.code ({ cls := "TollRoad", name := "reviews", desc := "()Ljava/util/PriorityQueue;" } : Jvm.MethodName) prog_1_method_31_code (4 : Nat) (Option.some (Jvm.ClassFile.FieldType.object "java/util/PriorityQueue"))) ∈ lw_all := lw_g (lw_at lw_m9 44 rfl) rfl
theorem q2079 : (Jvm.Cond.classLink "TollRoad" (289 : Nat) "java/util/PriorityQueue") ∈ lw_all := lw_g (lw_at lw_m9 45 rfl) rfl
theorem q2080 : (Jvm.Cond.instantiable "java/util/PriorityQueue" (4 : Nat)) ∈ lw_all := lw_g (lw_at lw_m9 46 rfl) rfl
theorem q2081 : (Jvm.Cond.classLink "TollRoad" (291 : Nat) "TollRoad$Order") ∈ lw_all := lw_g (lw_at lw_m9 47 rfl) rfl
theorem q2082 : (Jvm.Cond.instantiable "TollRoad$Order" (1 : Nat)) ∈ lw_all := lw_g (lw_at lw_m9 48 rfl) rfl
theorem q2083 : (Jvm.Cond.methodLink "TollRoad" (293 : Nat) ({ cls := "TollRoad$Order", name := "<init>", desc := "(LTollRoad$World;)V" } : Jvm.MethodName)) ∈ lw_all := lw_g (lw_at lw_m9 49 rfl) rfl
theorem q2084 : (Jvm.Cond.instanceMethod ({ cls := "TollRoad$Order", name := "<init>", desc := "(LTollRoad$World;)V" } : Jvm.MethodName)) ∈ lw_all := lw_g (lw_at lw_m9 50 rfl) rfl
theorem q2085 : (Jvm.Cond.code ({ cls := "TollRoad$Order", name := "<init>", desc := "(LTollRoad$World;)V" } : Jvm.MethodName) prog_9_method_1_code (2 : Nat) (Option.none : Option Jvm.ClassFile.FieldType)) ∈ lw_all := lw_g (lw_at lw_m9 51 rfl) rfl
theorem q2086 : (Jvm.Cond.methodLink "TollRoad$Order" (1 : Nat) ({ cls := "java/lang/Object", name := "<init>", desc := "()V" } : Jvm.MethodName)) ∈ lw_all := lw_g (lw_at lw_m9 52 rfl) rfl
theorem q2087 : (Jvm.Cond.fieldLink "TollRoad$Order" (7 : Nat) "TollRoad$Order" "world" "LTollRoad$World;") ∈ lw_all := lw_g (lw_at lw_m9 53 rfl) rfl
theorem q2091 : (Jvm.Cond.methodLink "TollRoad" (296 : Nat) ({ cls := "java/util/PriorityQueue", name := "<init>", desc := "(ILjava/util/Comparator;)V" } : Jvm.MethodName)) ∈ lw_all := lw_g (lw_at lw_m9 57 rfl) rfl
theorem q2092 : (Jvm.Cond.instanceMethod ({ cls := "java/util/PriorityQueue", name := "<init>", desc := "(ILjava/util/Comparator;)V" } : Jvm.MethodName)) ∈ lw_all := lw_g (lw_at lw_m9 58 rfl) rfl
theorem q2093 : (Jvm.Cond.code ({ cls := "java/util/PriorityQueue", name := "<init>", desc := "(ILjava/util/Comparator;)V" } : Jvm.MethodName) prog_74_method_4_code (3 : Nat) (Option.none : Option Jvm.ClassFile.FieldType)) ∈ lw_all := lw_g (lw_at lw_m9 59 rfl) rfl
theorem q2094 : (Jvm.Cond.methodLink "java/util/PriorityQueue" (7 : Nat) ({ cls := "java/util/AbstractQueue", name := "<init>", desc := "()V" } : Jvm.MethodName)) ∈ lw_all := lw_g (lw_at lw_m9 60 rfl) rfl
theorem q2095 : (Jvm.Cond.instanceMethod ({ cls := "java/util/AbstractQueue", name := "<init>", desc := "()V" } : Jvm.MethodName)) ∈ lw_all := lw_g (lw_at lw_m9 61 rfl) rfl
theorem q2096 : (Jvm.Cond.code ({ cls := "java/util/AbstractQueue", name := "<init>", desc := "()V" } : Jvm.MethodName) prog_53_method_1_code (1 : Nat) (Option.none : Option Jvm.ClassFile.FieldType)) ∈ lw_all := lw_g (lw_at lw_m9 62 rfl) rfl
theorem q2097 : (Jvm.Cond.methodLink "java/util/AbstractQueue" (1 : Nat) ({ cls := "java/util/AbstractCollection", name := "<init>", desc := "()V" } : Jvm.MethodName)) ∈ lw_all := lw_g (lw_at lw_m9 63 rfl) rfl
theorem q2099 : (Jvm.Cond.methodLink "java/util/PriorityQueue" (14 : Nat) ({ cls := "java/lang/IllegalArgumentException", name := "<init>", desc := "()V" } : Jvm.MethodName)) ∈ lw_all := lw_g (lw_at lw_m9 65 rfl) rfl
theorem q2100 : (Jvm.Cond.classLink "java/util/PriorityQueue" (15 : Nat) "java/lang/Object") ∈ lw_all := lw_g (lw_at lw_m9 66 rfl) rfl
theorem q2102 : (Jvm.Cond.fieldLink "java/util/PriorityQueue" (17 : Nat) "java/util/PriorityQueue" "queue" "[Ljava/lang/Object;") ∈ lw_all := lw_g (lw_at lw_m9 68 rfl) rfl
theorem q2104 : (Jvm.Cond.fieldLink "java/util/PriorityQueue" (58 : Nat) "java/util/PriorityQueue" "size" "I") ∈ lw_all := lw_g (lw_at lw_m9 70 rfl) rfl
theorem q2105 : (Jvm.Cond.fieldLink "java/util/PriorityQueue" (21 : Nat) "java/util/PriorityQueue" "comparator" "Ljava/util/Comparator;") ∈ lw_all := lw_g (lw_at lw_m9 71 rfl) rfl
theorem q2107 : (Jvm.Cond.fieldLink "java/util/PriorityQueue" (93 : Nat) "java/util/PriorityQueue" "modCount" "I") ∈ lw_all := lw_g (lw_at lw_m9 73 rfl) rfl
theorem q2117 : (Jvm.Cond.methodLink "TollRoad" (299 : Nat) ({ cls := "java/util/PriorityQueue", name := "add", desc := "(Ljava/lang/Object;)Z" } : Jvm.MethodName)) ∈ lw_all := lw_g (lw_at lw_m9 83 rfl) rfl
theorem q2118 : (Jvm.Cond.instanceMethod ({ cls := "java/util/PriorityQueue", name := "add", desc := "(Ljava/lang/Object;)Z" } : Jvm.MethodName)) ∈ lw_all := lw_g (lw_at lw_m9 84 rfl) rfl
theorem q2119 : (Jvm.Cond.selects "java/util/PriorityQueue" ({ cls := "java/util/PriorityQueue", name := "add", desc := "(Ljava/lang/Object;)Z" } : Jvm.MethodName) ({ cls := "java/util/PriorityQueue", name := "add", desc := "(Ljava/lang/Object;)Z" } : Jvm.MethodName)) ∈ lw_all := lw_g (lw_at lw_m9 85 rfl) rfl
theorem q2120 : (Jvm.Cond.code ({ cls := "java/util/PriorityQueue", name := "add", desc := "(Ljava/lang/Object;)Z" } : Jvm.MethodName) prog_74_method_13_code (2 : Nat) (Option.some Jvm.ClassFile.FieldType.boolean)) ∈ lw_all := lw_g (lw_at lw_m9 86 rfl) rfl
theorem q2121 : (Jvm.Cond.methodLink "java/util/PriorityQueue" (89 : Nat) ({ cls := "java/util/PriorityQueue", name := "offer", desc := "(Ljava/lang/Object;)Z" } : Jvm.MethodName)) ∈ lw_all := lw_g (lw_at lw_m9 87 rfl) rfl
theorem q2122 : (Jvm.Cond.instanceMethod ({ cls := "java/util/PriorityQueue", name := "offer", desc := "(Ljava/lang/Object;)Z" } : Jvm.MethodName)) ∈ lw_all := lw_g (lw_at lw_m9 88 rfl) rfl
theorem q2123 : (Jvm.Cond.selects "java/util/PriorityQueue" ({ cls := "java/util/PriorityQueue", name := "offer", desc := "(Ljava/lang/Object;)Z" } : Jvm.MethodName) ({ cls := "java/util/PriorityQueue", name := "offer", desc := "(Ljava/lang/Object;)Z" } : Jvm.MethodName)) ∈ lw_all := lw_g (lw_at lw_m9 89 rfl) rfl
theorem q2124 : (Jvm.Cond.code ({ cls := "java/util/PriorityQueue", name := "offer", desc := "(Ljava/lang/Object;)Z" } : Jvm.MethodName) prog_74_method_14_code (3 : Nat) (Option.some Jvm.ClassFile.FieldType.boolean)) ∈ lw_all := lw_g (lw_at lw_m9 90 rfl) rfl
theorem q2126 : (Jvm.Cond.castable "java/lang/NullPointerException" "java/lang/NullPointerException") ∈ lw_tbl := lw_at lw_m9 92 rfl
theorem q2133 : (Jvm.Cond.methodLink "java/util/PriorityQueue" (76 : Nat) ({ cls := "java/lang/NullPointerException", name := "<init>", desc := "()V" } : Jvm.MethodName)) ∈ lw_all := lw_g (lw_at lw_m9 99 rfl) rfl
theorem q2144 : (Jvm.Cond.methodLink "java/util/PriorityQueue" (96 : Nat) ({ cls := "java/util/PriorityQueue", name := "grow", desc := "(I)V" } : Jvm.MethodName)) ∈ lw_all := lw_g (lw_at lw_m9 110 rfl) rfl
theorem q2146 : (Jvm.Cond.instanceMethod ({ cls := "java/util/PriorityQueue", name := "grow", desc := "(I)V" } : Jvm.MethodName)) ∈ lw_all := lw_g (lw_at lw_m9 112 rfl) rfl
theorem q2147 : (Jvm.Cond.code ({ cls := "java/util/PriorityQueue", name := "grow", desc := "(I)V" } : Jvm.MethodName) prog_74_method_12_code (4 : Nat) (Option.none : Option Jvm.ClassFile.FieldType)) ∈ lw_all := lw_g (lw_at lw_m9 113 rfl) rfl
theorem q2148 : (Jvm.Cond.methodLink "java/util/PriorityQueue" (80 : Nat) ({ cls := "jdk/internal/util/ArraysSupport", name := "newLength", desc := "(III)I" } : Jvm.MethodName)) ∈ lw_all := lw_g (lw_at lw_m9 114 rfl) rfl
theorem q2149 : (Jvm.Cond.methodLink "java/util/PriorityQueue" (86 : Nat) ({ cls := "java/util/Arrays", name := "copyOf", desc := "([Ljava/lang/Object;I)[Ljava/lang/Object;" } : Jvm.MethodName)) ∈ lw_all := lw_g (lw_at lw_m9 115 rfl) rfl
theorem q2150 : (Jvm.Cond.methodLink "java/util/PriorityQueue" (100 : Nat) ({ cls := "java/util/PriorityQueue", name := "siftUp", desc := "(ILjava/lang/Object;)V" } : Jvm.MethodName)) ∈ lw_all := lw_g (lw_at lw_m9 116 rfl) rfl
theorem q2152 : (Jvm.Cond.instanceMethod ({ cls := "java/util/PriorityQueue", name := "siftUp", desc := "(ILjava/lang/Object;)V" } : Jvm.MethodName)) ∈ lw_all := lw_g (lw_at lw_m9 118 rfl) rfl
theorem q2153 : (Jvm.Cond.code ({ cls := "java/util/PriorityQueue", name := "siftUp", desc := "(ILjava/lang/Object;)V" } : Jvm.MethodName) prog_74_method_27_code (3 : Nat) (Option.none : Option Jvm.ClassFile.FieldType)) ∈ lw_all := lw_g (lw_at lw_m9 119 rfl) rfl
theorem q2154 : (Jvm.Cond.methodLink "java/util/PriorityQueue" (136 : Nat) ({ cls := "java/util/PriorityQueue", name := "siftUpUsingComparator", desc := "(ILjava/lang/Object;[Ljava/lang/Object;Ljava/util/Comparator;)V" } : Jvm.MethodName)) ∈ lw_all := lw_g (lw_at lw_m9 120 rfl) rfl
theorem q2155 : (Jvm.Cond.static ({ cls := "java/util/PriorityQueue", name := "siftUpUsingComparator", desc := "(ILjava/lang/Object;[Ljava/lang/Object;Ljava/util/Comparator;)V" } : Jvm.MethodName)) ∈ lw_all := lw_g (lw_at lw_m9 121 rfl) rfl
theorem q2156 : (Jvm.Cond.code ({ cls := "java/util/PriorityQueue", name := "siftUpUsingComparator", desc := "(ILjava/lang/Object;[Ljava/lang/Object;Ljava/util/Comparator;)V" } : Jvm.MethodName) prog_74_method_29_code (6 : Nat) (Option.none : Option Jvm.ClassFile.FieldType)) ∈ lw_all := lw_g (lw_at lw_m9 122 rfl) rfl
theorem q2158 : (Jvm.Cond.methodLink "java/util/PriorityQueue" (149 : Nat) ({ cls := "java/util/Comparator", name := "compare", desc := "(Ljava/lang/Object;Ljava/lang/Object;)I" } : Jvm.MethodName)) ∈ lw_all := lw_g (lw_at lw_m9 124 rfl) rfl
theorem q2159 : (Jvm.Cond.interfaceMethod "java/util/Comparator" "java/util/Comparator" "compare" "(Ljava/lang/Object;Ljava/lang/Object;)I") ∈ lw_tbl := lw_at lw_m9 125 rfl
theorem q2160 : (Jvm.Cond.declares ({ cls := "java/util/Comparator", name := "compare", desc := "(Ljava/lang/Object;Ljava/lang/Object;)I" } : Jvm.MethodName)) ∈ lw_tbl := lw_at lw_m9 126 rfl
theorem q2161 : (Jvm.Cond.castable "TollRoad$Order" "java/util/Comparator") ∈ lw_tbl := lw_at lw_m9 127 rfl
theorem q2162 : (Jvm.Cond.selects "TollRoad$Order" ({ cls := "java/util/Comparator", name := "compare", desc := "(Ljava/lang/Object;Ljava/lang/Object;)I" } : Jvm.MethodName) ({ cls := "TollRoad$Order", name := "compare", desc := "(Ljava/lang/Object;Ljava/lang/Object;)I" } : Jvm.MethodName)) ∈ lw_all := lw_g (lw_at lw_m9 128 rfl) rfl
theorem q2163 : (Jvm.Cond.unhidden "TollRoad$Order" "compare" "(Ljava/lang/Object;Ljava/lang/Object;)I") ∈ lw_tbl := lw_at lw_m9 129 rfl
theorem q2164 : (Jvm.Cond.instanceMethod ({ cls := "TollRoad$Order", name := "compare", desc := "(Ljava/lang/Object;Ljava/lang/Object;)I" } : Jvm.MethodName)) ∈ lw_all := lw_g (lw_at lw_m9 130 rfl) rfl
theorem q2165 : (Jvm.Cond.publicMethod ({ cls := "TollRoad$Order", name := "compare", desc := "(Ljava/lang/Object;Ljava/lang/Object;)I" } : Jvm.MethodName)) ∈ lw_tbl := lw_at lw_m9 131 rfl
theorem q2166 : (Jvm.Cond.code ({ cls := "TollRoad$Order", name := "compare", desc := "(Ljava/lang/Object;Ljava/lang/Object;)I" } : Jvm.MethodName) prog_9_method_4_code (3 : Nat) (Option.some Jvm.ClassFile.FieldType.int)) ∈ lw_all := lw_g (lw_at lw_m9 132 rfl) rfl
theorem q2167 : (Jvm.Cond.classLink "TollRoad$Order" (20 : Nat) "TollRoad$Read") ∈ lw_all := lw_g (lw_at lw_m9 133 rfl) rfl
theorem q2168 : (Jvm.Cond.methodLink "TollRoad$Order" (48 : Nat) ({ cls := "TollRoad$Order", name := "compare", desc := "(LTollRoad$Read;LTollRoad$Read;)I" } : Jvm.MethodName)) ∈ lw_all := lw_g (lw_at lw_m9 134 rfl) rfl
theorem q2169 : (Jvm.Cond.instanceMethod ({ cls := "TollRoad$Order", name := "compare", desc := "(LTollRoad$Read;LTollRoad$Read;)I" } : Jvm.MethodName)) ∈ lw_all := lw_g (lw_at lw_m9 135 rfl) rfl
theorem q2170 : (Jvm.Cond.selects "TollRoad$Order" ({ cls := "TollRoad$Order", name := "compare", desc := "(LTollRoad$Read;LTollRoad$Read;)I" } : Jvm.MethodName) ({ cls := "TollRoad$Order", name := "compare", desc := "(LTollRoad$Read;LTollRoad$Read;)I" } : Jvm.MethodName)) ∈ lw_all := lw_g (lw_at lw_m9 136 rfl) rfl
theorem q2171 : (Jvm.Cond.code ({ cls := "TollRoad$Order", name := "compare", desc := "(LTollRoad$Read;LTollRoad$Read;)I" } : Jvm.MethodName) prog_9_method_3_code (3 : Nat) (Option.some Jvm.ClassFile.FieldType.int)) ∈ lw_all := lw_g (lw_at lw_m9 137 rfl) rfl
theorem q2172 : (Jvm.Cond.methodLink "TollRoad$Order" (36 : Nat) ({ cls := "TollRoad$Order", name := "size", desc := "(LTollRoad$Read;)I" } : Jvm.MethodName)) ∈ lw_all := lw_g (lw_at lw_m9 138 rfl) rfl
theorem q2174 : (Jvm.Cond.instanceMethod ({ cls := "TollRoad$Order", name := "size", desc := "(LTollRoad$Read;)I" } : Jvm.MethodName)) ∈ lw_all := lw_g (lw_at lw_m9 140 rfl) rfl
theorem q2175 : (Jvm.Cond.code ({ cls := "TollRoad$Order", name := "size", desc := "(LTollRoad$Read;)I" } : Jvm.MethodName) prog_9_method_2_code (2 : Nat) (Option.some Jvm.ClassFile.FieldType.int)) ∈ lw_all := lw_g (lw_at lw_m9 141 rfl) rfl
theorem q2176 : (Jvm.Cond.methodLink "TollRoad$Order" (25 : Nat) ({ cls := "java/util/ArrayList", name := "get", desc := "(I)Ljava/lang/Object;" } : Jvm.MethodName)) ∈ lw_all := lw_g (lw_at lw_m9 142 rfl) rfl
theorem q2177 : (Jvm.Cond.classLink "TollRoad$Order" (31 : Nat) "TollRoad$Vehicle") ∈ lw_all := lw_g (lw_at lw_m9 143 rfl) rfl
theorem q2178 : (Jvm.Cond.methodLink "java/util/PriorityQueue" (140 : Nat) ({ cls := "java/util/PriorityQueue", name := "siftUpComparable", desc := "(ILjava/lang/Object;[Ljava/lang/Object;)V" } : Jvm.MethodName)) ∈ lw_all := lw_g (lw_at lw_m9 144 rfl) rfl
theorem q2184 : (Jvm.Cond.methodLink "TollRoad" (306 : Nat) ({ cls := "java/util/PriorityQueue", name := "size", desc := "()I" } : Jvm.MethodName)) ∈ lw_all := lw_g (lw_at lw_m9 150 rfl) rfl
theorem q2185 : (Jvm.Cond.instanceMethod ({ cls := "java/util/PriorityQueue", name := "size", desc := "()I" } : Jvm.MethodName)) ∈ lw_all := lw_g (lw_at lw_m9 151 rfl) rfl
theorem q2186 : (Jvm.Cond.selects "java/util/PriorityQueue" ({ cls := "java/util/PriorityQueue", name := "size", desc := "()I" } : Jvm.MethodName) ({ cls := "java/util/PriorityQueue", name := "size", desc := "()I" } : Jvm.MethodName)) ∈ lw_all := lw_g (lw_at lw_m9 152 rfl) rfl
theorem q2187 : (Jvm.Cond.code ({ cls := "java/util/PriorityQueue", name := "size", desc := "()I" } : Jvm.MethodName) prog_74_method_23_code (1 : Nat) (Option.some Jvm.ClassFile.FieldType.int)) ∈ lw_all := lw_g (lw_at lw_m9 153 rfl) rfl
theorem q2188 : (Jvm.Cond.methodLink "TollRoad" (307 : Nat) ({ cls := "java/util/PriorityQueue", name := "poll", desc := "()Ljava/lang/Object;" } : Jvm.MethodName)) ∈ lw_all := lw_g (lw_at lw_m9 154 rfl) rfl
theorem q2189 : (Jvm.Cond.instanceMethod ({ cls := "java/util/PriorityQueue", name := "poll", desc := "()Ljava/lang/Object;" } : Jvm.MethodName)) ∈ lw_all := lw_g (lw_at lw_m9 155 rfl) rfl
theorem q2190 : (Jvm.Cond.selects "java/util/PriorityQueue" ({ cls := "java/util/PriorityQueue", name := "poll", desc := "()Ljava/lang/Object;" } : Jvm.MethodName) ({ cls := "java/util/PriorityQueue", name := "poll", desc := "()Ljava/lang/Object;" } : Jvm.MethodName)) ∈ lw_all := lw_g (lw_at lw_m9 156 rfl) rfl
theorem q2191 : (Jvm.Cond.code ({ cls := "java/util/PriorityQueue", name := "poll", desc := "()Ljava/lang/Object;" } : Jvm.MethodName) prog_74_method_25_code (6 : Nat) (Option.some (Jvm.ClassFile.FieldType.object "java/lang/Object"))) ∈ lw_all := lw_g (lw_at lw_m9 157 rfl) rfl
theorem q2192 : (Jvm.Cond.methodLink "java/util/PriorityQueue" (125 : Nat) ({ cls := "java/util/PriorityQueue", name := "siftDownComparable", desc := "(ILjava/lang/Object;[Ljava/lang/Object;I)V" } : Jvm.MethodName)) ∈ lw_all := lw_g (lw_at lw_m9 158 rfl) rfl
theorem q2195 : (Jvm.Cond.methodLink "java/util/PriorityQueue" (129 : Nat) ({ cls := "java/util/PriorityQueue", name := "siftDownUsingComparator", desc := "(ILjava/lang/Object;[Ljava/lang/Object;ILjava/util/Comparator;)V" } : Jvm.MethodName)) ∈ lw_all := lw_g (lw_at lw_m9 161 rfl) rfl
theorem q2196 : (Jvm.Cond.static ({ cls := "java/util/PriorityQueue", name := "siftDownUsingComparator", desc := "(ILjava/lang/Object;[Ljava/lang/Object;ILjava/util/Comparator;)V" } : Jvm.MethodName)) ∈ lw_all := lw_g (lw_at lw_m9 162 rfl) rfl
theorem q2197 : (Jvm.Cond.code ({ cls := "java/util/PriorityQueue", name := "siftDownUsingComparator", desc := "(ILjava/lang/Object;[Ljava/lang/Object;ILjava/util/Comparator;)V" } : Jvm.MethodName) prog_74_method_32_code (9 : Nat) (Option.none : Option Jvm.ClassFile.FieldType)) ∈ lw_all := lw_g (lw_at lw_m9 163 rfl) rfl
theorem q2198 : (Jvm.Cond.methodLink "TollRoadLaw" (209 : Nat) ({ cls := "TollRoadLaw", name := "decide", desc := "(LTollRoad;I[J)I" } : Jvm.MethodName)) ∈ lw_all := lw_g (lw_at lw_m9 164 rfl) rfl
theorem q2199 : (Jvm.Cond.static ({ cls := "TollRoadLaw", name := "decide", desc := "(LTollRoad;I[J)I" } : Jvm.MethodName)) ∈ lw_all := lw_g (lw_at lw_m9 165 rfl) rfl
theorem q2200 : (Jvm.Cond.codeWith ({ cls := "TollRoadLaw", name := "decide", desc := "(LTollRoad;I[J)I" } : Jvm.MethodName) method_22_code (4 : Nat) (Option.some Jvm.ClassFile.FieldType.int) [((0 : Nat), (9 : Nat), (12 : Nat), (27 : Nat)), ((0 : Nat), (9 : Nat), (15 : Nat), (13 : Nat))]) ∈ lw_all := lw_g (lw_at lw_m9 166 rfl) rfl
theorem q2201 : (Jvm.Cond.methodLink "TollRoadLaw" (76 : Nat) ({ cls := "TollRoad", name := "decide", desc := "(I)I" } : Jvm.MethodName)) ∈ lw_all := lw_g (lw_at lw_m9 167 rfl) rfl
theorem q2202 : (Jvm.Cond.instanceMethod ({ cls := "TollRoad", name := "decide", desc := "(I)I" } : Jvm.MethodName)) ∈ lw_all := lw_g (lw_at lw_m9 168 rfl) rfl
theorem q2203 : (Jvm.Cond.selects "TollRoad" ({ cls := "TollRoad", name := "decide", desc := "(I)I" } : Jvm.MethodName) ({ cls := "TollRoad", name := "decide", desc := "(I)I" } : Jvm.MethodName)) ∈ lw_all := lw_g (lw_at lw_m9 169 rfl) rfl
theorem q2204 : (Jvm.Cond.code ({ cls := "TollRoad", name := "decide", desc := "(I)I" } : Jvm.MethodName) prog_1_method_33_code (3 : Nat) (Option.some Jvm.ClassFile.FieldType.int)) ∈ lw_all := lw_g (lw_at lw_m9 170 rfl) rfl
theorem q2205 : (Jvm.Cond.methodLink "TollRoad" (316 : Nat) ({ cls := "TollRoad$World", name := "count", desc := "(LTollRoad$Read;I)V" } : Jvm.MethodName)) ∈ lw_all := lw_g (lw_at lw_m9 171 rfl) rfl
theorem q2206 : (Jvm.Cond.methodLink "TollRoadLaw" (212 : Nat) ({ cls := "TollRoadLaw", name := "correct", desc := "(LTollRoad;II[J)I" } : Jvm.MethodName)) ∈ lw_all := lw_g (lw_at lw_m9 172 rfl) rfl
theorem q2207 : (Jvm.Cond.static ({ cls := "TollRoadLaw", name := "correct", desc := "(LTollRoad;II[J)I" } : Jvm.MethodName)) ∈ lw_all := lw_g (lw_at lw_m9 173 rfl) rfl
theorem q2208 : (Jvm.Cond.codeWith ({ cls := "TollRoadLaw", name := "correct", desc := "(LTollRoad;II[J)I" } : Jvm.MethodName) method_23_code (5 : Nat) (Option.some Jvm.ClassFile.FieldType.int) [((0 : Nat), (10 : Nat), (13 : Nat), (27 : Nat)), ((0 : Nat), (10 : Nat), (17 : Nat), (13 : Nat))]) ∈ lw_all := lw_g (lw_at lw_m9 174 rfl) rfl
theorem q2209 : (Jvm.Cond.methodLink "TollRoadLaw" (79 : Nat) ({ cls := "TollRoad", name := "correct", desc := "(II)I" } : Jvm.MethodName)) ∈ lw_all := lw_g (lw_at lw_m9 175 rfl) rfl
theorem q2210 : (Jvm.Cond.instanceMethod ({ cls := "TollRoad", name := "correct", desc := "(II)I" } : Jvm.MethodName)) ∈ lw_all := lw_g (lw_at lw_m9 176 rfl) rfl
theorem q2211 : (Jvm.Cond.selects "TollRoad" ({ cls := "TollRoad", name := "correct", desc := "(II)I" } : Jvm.MethodName) ({ cls := "TollRoad", name := "correct", desc := "(II)I" } : Jvm.MethodName)) ∈ lw_all := lw_g (lw_at lw_m9 177 rfl) rfl
theorem q2212 : (Jvm.Cond.code ({ cls := "TollRoad", name := "correct", desc := "(II)I" } : Jvm.MethodName) prog_1_method_34_code (5 : Nat) (Option.some Jvm.ClassFile.FieldType.int)) ∈ lw_all := lw_g (lw_at lw_m9 178 rfl) rfl
theorem q2213 : (Jvm.Cond.methodLink "TollRoadLaw" (215 : Nat) ({ cls := "TollRoadLaw", name := "trips", desc := "(LTollRoad;I[J)I" } : Jvm.MethodName)) ∈ lw_all := lw_g (lw_at lw_m9 179 rfl) rfl
theorem q2214 : (Jvm.Cond.static ({ cls := "TollRoadLaw", name := "trips", desc := "(LTollRoad;I[J)I" } : Jvm.MethodName)) ∈ lw_all := lw_g (lw_at lw_m9 180 rfl) rfl
theorem q2215 : (Jvm.Cond.codeWith ({ cls := "TollRoadLaw", name := "trips", desc := "(LTollRoad;I[J)I" } : Jvm.MethodName) method_24_code (4 : Nat) (Option.some Jvm.ClassFile.FieldType.int) [((0 : Nat), (9 : Nat), (12 : Nat), (27 : Nat))]) ∈ lw_all := lw_g (lw_at lw_m9 181 rfl) rfl
theorem q2216 : (Jvm.Cond.methodLink "TollRoadLaw" (82 : Nat) ({ cls := "TollRoad", name := "trips", desc := "(I)I" } : Jvm.MethodName)) ∈ lw_all := lw_g (lw_at lw_m9 182 rfl) rfl
theorem q2217 : (Jvm.Cond.instanceMethod ({ cls := "TollRoad", name := "trips", desc := "(I)I" } : Jvm.MethodName)) ∈ lw_all := lw_g (lw_at lw_m9 183 rfl) rfl
theorem q2218 : (Jvm.Cond.selects "TollRoad" ({ cls := "TollRoad", name := "trips", desc := "(I)I" } : Jvm.MethodName) ({ cls := "TollRoad", name := "trips", desc := "(I)I" } : Jvm.MethodName)) ∈ lw_all := lw_g (lw_at lw_m9 184 rfl) rfl
theorem q2219 : (Jvm.Cond.code ({ cls := "TollRoad", name := "trips", desc := "(I)I" } : Jvm.MethodName) prog_1_method_35_code (3 : Nat) (Option.some Jvm.ClassFile.FieldType.int)) ∈ lw_all := lw_g (lw_at lw_m9 185 rfl) rfl
theorem q2220 : (Jvm.Cond.methodLink "TollRoad" (320 : Nat) ({ cls := "TollRoad$World", name := "trips", desc := "(I)Ljava/util/ArrayList;" } : Jvm.MethodName)) ∈ lw_all := lw_g (lw_at lw_m9 186 rfl) rfl
theorem q2221 : (Jvm.Cond.instanceMethod ({ cls := "TollRoad$World", name := "trips", desc := "(I)Ljava/util/ArrayList;" } : Jvm.MethodName)) ∈ lw_all := lw_g (lw_at lw_m9 187 rfl) rfl
theorem q2222 : (Jvm.Cond.selects "TollRoad$World" ({ cls := "TollRoad$World", name := "trips", desc := "(I)Ljava/util/ArrayList;" } : Jvm.MethodName) ({ cls := "TollRoad$World", name := "trips", desc := "(I)Ljava/util/ArrayList;" } : Jvm.MethodName)) ∈ lw_all := lw_g (lw_at lw_m9 188 rfl) rfl
theorem q2223 : (Jvm.Cond.code ({ cls := "TollRoad$World", name := "trips", desc := "(I)Ljava/util/ArrayList;" } : Jvm.MethodName) prog_19_method_10_code (7 : Nat) (Option.some (Jvm.ClassFile.FieldType.object "java/util/ArrayList"))) ∈ lw_all := lw_g (lw_at lw_m9 189 rfl) rfl
theorem q2224 : (Jvm.Cond.classLink "TollRoad$World" (168 : Nat) "java/util/TreeMap") ∈ lw_all := lw_g (lw_at lw_m9 190 rfl) rfl
theorem q2225 : (Jvm.Cond.instantiable "java/util/TreeMap" (9 : Nat)) ∈ lw_all := lw_g (lw_at lw_m9 191 rfl) rfl
theorem q2226 : (Jvm.Cond.methodLink "TollRoad$World" (170 : Nat) ({ cls := "java/util/TreeMap", name := "<init>", desc := "()V" } : Jvm.MethodName)) ∈ lw_all := lw_g (lw_at lw_m9 192 rfl) rfl
theorem q2227 : (Jvm.Cond.instanceMethod ({ cls := "java/util/TreeMap", name := "<init>", desc := "()V" } : Jvm.MethodName)) ∈ lw_all := lw_g (lw_at lw_m9 193 rfl) rfl
theorem q2228 : (Jvm.Cond.code ({ cls := "java/util/TreeMap", name := "<init>", desc := "()V" } : Jvm.MethodName) prog_82_method_1_code (1 : Nat) (Option.none : Option Jvm.ClassFile.FieldType)) ∈ lw_all := lw_g (lw_at lw_m9 194 rfl) rfl
theorem q2229 : (Jvm.Cond.methodLink "java/util/TreeMap" (1 : Nat) ({ cls := "java/util/AbstractMap", name := "<init>", desc := "()V" } : Jvm.MethodName)) ∈ lw_all := lw_g (lw_at lw_m9 195 rfl) rfl
theorem q2230 : (Jvm.Cond.fieldLink "java/util/TreeMap" (16 : Nat) "java/util/TreeMap" "comparator" "Ljava/util/Comparator;") ∈ lw_all := lw_g (lw_at lw_m9 196 rfl) rfl
theorem q2231 : (Jvm.Cond.fieldLink "java/util/TreeMap" (101 : Nat) "java/util/TreeMap" "root" "Ljava/util/TreeMap$Entry;") ∈ lw_all := lw_g (lw_at lw_m9 197 rfl) rfl
theorem q2232 : (Jvm.Cond.fieldLink "java/util/TreeMap" (7 : Nat) "java/util/TreeMap" "size" "I") ∈ lw_all := lw_g (lw_at lw_m9 198 rfl) rfl
theorem q2233 : (Jvm.Cond.fieldLink "java/util/TreeMap" (13 : Nat) "java/util/TreeMap" "modCount" "I") ∈ lw_all := lw_g (lw_at lw_m9 199 rfl) rfl
theorem q2234 : (Jvm.Cond.fieldLinkNest "java/util/TreeMap$PrivateEntryIterator" (13 : Nat) "java/util/TreeMap" "modCount" "I" "java/util/TreeMap") ∈ lw_tbl := lw_at lw_m9 200 rfl
theorem q2252 : (Jvm.Cond.methodLink "TollRoad$World" (171 : Nat) ({ cls := "java/lang/Integer", name := "valueOf", desc := "(I)Ljava/lang/Integer;" } : Jvm.MethodName)) ∈ lw_all := lw_g (lw_at lw_m9 218 rfl) rfl
theorem q2253 : (Jvm.Cond.static ({ cls := "java/lang/Integer", name := "valueOf", desc := "(I)Ljava/lang/Integer;" } : Jvm.MethodName)) ∈ lw_all := lw_g (lw_at lw_m9 219 rfl) rfl
theorem q2254 : (Jvm.Cond.code ({ cls := "java/lang/Integer", name := "valueOf", desc := "(I)Ljava/lang/Integer;" } : Jvm.MethodName) prog_33_method_22_code (1 : Nat) (Option.some (Jvm.ClassFile.FieldType.object "java/lang/Integer"))) ∈ lw_all := lw_g (lw_at lw_m9 220 rfl) rfl
theorem q2255 : (Jvm.Cond.fieldLink "java/lang/Integer" (191 : Nat) "java/lang/Integer$IntegerCache" "high" "I") ∈ lw_all := lw_g (lw_at lw_m9 221 rfl) rfl
theorem q2257 : (Jvm.Cond.fieldLink "java/lang/Integer" (195 : Nat) "java/lang/Integer$IntegerCache" "cache" "[Ljava/lang/Integer;") ∈ lw_all := lw_g (lw_at lw_m9 223 rfl) rfl
theorem q2259 : (Jvm.Cond.instantiable "java/lang/Integer" (1 : Nat)) ∈ lw_all := lw_g (lw_at lw_m9 225 rfl) rfl
theorem q2260 : (Jvm.Cond.methodLink "java/lang/Integer" (199 : Nat) ({ cls := "java/lang/Integer", name := "<init>", desc := "(I)V" } : Jvm.MethodName)) ∈ lw_all := lw_g (lw_at lw_m9 226 rfl) rfl
theorem q2261 : (Jvm.Cond.instanceMethod ({ cls := "java/lang/Integer", name := "<init>", desc := "(I)V" } : Jvm.MethodName)) ∈ lw_all := lw_g (lw_at lw_m9 227 rfl) rfl
theorem q2262 : (Jvm.Cond.code ({ cls := "java/lang/Integer", name := "<init>", desc := "(I)V" } : Jvm.MethodName) prog_33_method_23_code (2 : Nat) (Option.none : Option Jvm.ClassFile.FieldType)) ∈ lw_all := lw_g (lw_at lw_m9 228 rfl) rfl
theorem q2263 : (Jvm.Cond.methodLink "java/lang/Integer" (202 : Nat) ({ cls := "java/lang/Number", name := "<init>", desc := "()V" } : Jvm.MethodName)) ∈ lw_all := lw_g (lw_at lw_m9 229 rfl) rfl
theorem q2264 : (Jvm.Cond.instanceMethod ({ cls := "java/lang/Number", name := "<init>", desc := "()V" } : Jvm.MethodName)) ∈ lw_all := lw_g (lw_at lw_m9 230 rfl) rfl
theorem q2265 : (Jvm.Cond.code ({ cls := "java/lang/Number", name := "<init>", desc := "()V" } : Jvm.MethodName) prog_39_method_1_code (1 : Nat) (Option.none : Option Jvm.ClassFile.FieldType)) ∈ lw_all := lw_g (lw_at lw_m9 231 rfl) rfl
theorem q2266 : (Jvm.Cond.methodLink "java/lang/Number" (1 : Nat) ({ cls := "java/lang/Object", name := "<init>", desc := "()V" } : Jvm.MethodName)) ∈ lw_all := lw_g (lw_at lw_m9 232 rfl) rfl
theorem q2267 : (Jvm.Cond.fieldLink "java/lang/Integer" (205 : Nat) "java/lang/Integer" "value" "I") ∈ lw_all := lw_g (lw_at lw_m9 233 rfl) rfl
theorem q2271 : (Jvm.Cond.methodLink "TollRoad$World" (175 : Nat) ({ cls := "java/util/TreeMap", name := "put", desc := "(Ljava/lang/Object;Ljava/lang/Object;)Ljava/lang/Object;" } : Jvm.MethodName)) ∈ lw_all := lw_g (lw_at lw_m9 237 rfl) rfl
theorem q2272 : (Jvm.Cond.instanceMethod ({ cls := "java/util/TreeMap", name := "put", desc := "(Ljava/lang/Object;Ljava/lang/Object;)Ljava/lang/Object;" } : Jvm.MethodName)) ∈ lw_all := lw_g (lw_at lw_m9 238 rfl) rfl
theorem q2273 : (Jvm.Cond.selects "java/util/TreeMap" ({ cls := "java/util/TreeMap", name := "put", desc := "(Ljava/lang/Object;Ljava/lang/Object;)Ljava/lang/Object;" } : Jvm.MethodName) ({ cls := "java/util/TreeMap", name := "put", desc := "(Ljava/lang/Object;Ljava/lang/Object;)Ljava/lang/Object;" } : Jvm.MethodName)) ∈ lw_all := lw_g (lw_at lw_m9 239 rfl) rfl
theorem q2274 : (Jvm.Cond.code ({ cls := "java/util/TreeMap", name := "put", desc := "(Ljava/lang/Object;Ljava/lang/Object;)Ljava/lang/Object;" } : Jvm.MethodName) prog_82_method_21_code (3 : Nat) (Option.some (Jvm.ClassFile.FieldType.object "java/lang/Object"))) ∈ lw_all := lw_g (lw_at lw_m10 0 rfl) rfl
theorem q2275 : (Jvm.Cond.methodLink "java/util/TreeMap" (127 : Nat) ({ cls := "java/util/TreeMap", name := "put", desc := "(Ljava/lang/Object;Ljava/lang/Object;Z)Ljava/lang/Object;" } : Jvm.MethodName)) ∈ lw_all := lw_g (lw_at lw_m10 1 rfl) rfl
theorem q2277 : (Jvm.Cond.instanceMethod ({ cls := "java/util/TreeMap", name := "put", desc := "(Ljava/lang/Object;Ljava/lang/Object;Z)Ljava/lang/Object;" } : Jvm.MethodName)) ∈ lw_all := lw_g (lw_at lw_m10 3 rfl) rfl
theorem q2278 : (Jvm.Cond.code ({ cls := "java/util/TreeMap", name := "put", desc := "(Ljava/lang/Object;Ljava/lang/Object;Z)Ljava/lang/Object;" } : Jvm.MethodName) prog_82_method_31_code (10 : Nat) (Option.some (Jvm.ClassFile.FieldType.object "java/lang/Object"))) ∈ lw_all := lw_g (lw_at lw_m10 4 rfl) rfl
theorem q2279 : (Jvm.Cond.methodLink "java/util/TreeMap" (135 : Nat) ({ cls := "java/util/TreeMap", name := "addEntryToEmptyMap", desc := "(Ljava/lang/Object;Ljava/lang/Object;)V" } : Jvm.MethodName)) ∈ lw_all := lw_g (lw_at lw_m10 5 rfl) rfl
theorem q2281 : (Jvm.Cond.instanceMethod ({ cls := "java/util/TreeMap", name := "addEntryToEmptyMap", desc := "(Ljava/lang/Object;Ljava/lang/Object;)V" } : Jvm.MethodName)) ∈ lw_all := lw_g (lw_at lw_m10 7 rfl) rfl
theorem q2282 : (Jvm.Cond.code ({ cls := "java/util/TreeMap", name := "addEntryToEmptyMap", desc := "(Ljava/lang/Object;Ljava/lang/Object;)V" } : Jvm.MethodName) prog_82_method_30_code (3 : Nat) (Option.none : Option Jvm.ClassFile.FieldType)) ∈ lw_all := lw_g (lw_at lw_m10 8 rfl) rfl
theorem q2283 : (Jvm.Cond.methodLink "java/util/TreeMap" (123 : Nat) ({ cls := "java/util/TreeMap", name := "compare", desc := "(Ljava/lang/Object;Ljava/lang/Object;)I" } : Jvm.MethodName)) ∈ lw_all := lw_g (lw_at lw_m10 9 rfl) rfl
theorem q2284 : (Jvm.Cond.instanceMethod ({ cls := "java/util/TreeMap", name := "compare", desc := "(Ljava/lang/Object;Ljava/lang/Object;)I" } : Jvm.MethodName)) ∈ lw_all := lw_g (lw_at lw_m10 10 rfl) rfl
theorem q2285 : (Jvm.Cond.selects "java/util/TreeMap" ({ cls := "java/util/TreeMap", name := "compare", desc := "(Ljava/lang/Object;Ljava/lang/Object;)I" } : Jvm.MethodName) ({ cls := "java/util/TreeMap", name := "compare", desc := "(Ljava/lang/Object;Ljava/lang/Object;)I" } : Jvm.MethodName)) ∈ lw_all := lw_g (lw_at lw_m10 11 rfl) rfl
theorem q2286 : (Jvm.Cond.code ({ cls := "java/util/TreeMap", name := "compare", desc := "(Ljava/lang/Object;Ljava/lang/Object;)I" } : Jvm.MethodName) prog_82_method_67_code (3 : Nat) (Option.some Jvm.ClassFile.FieldType.int)) ∈ lw_all := lw_g (lw_at lw_m10 12 rfl) rfl
theorem q2287 : (Jvm.Cond.classLink "java/util/TreeMap" (99 : Nat) "java/lang/Comparable") ∈ lw_all := lw_g (lw_at lw_m10 13 rfl) rfl
theorem q2289 : (Jvm.Cond.methodLink "java/util/TreeMap" (107 : Nat) ({ cls := "java/lang/Comparable", name := "compareTo", desc := "(Ljava/lang/Object;)I" } : Jvm.MethodName)) ∈ lw_all := lw_g (lw_at lw_m10 15 rfl) rfl
theorem q2291 : (Jvm.Cond.methodLink "java/util/TreeMap" (117 : Nat) ({ cls := "java/util/Comparator", name := "compare", desc := "(Ljava/lang/Object;Ljava/lang/Object;)I" } : Jvm.MethodName)) ∈ lw_all := lw_g (lw_at lw_m10 17 rfl) rfl
theorem q2292 : (Jvm.Cond.classLink "java/util/TreeMap" (59 : Nat) "java/util/TreeMap$Entry") ∈ lw_all := lw_g (lw_at lw_m10 18 rfl) rfl
theorem q2293 : (Jvm.Cond.instantiable "java/util/TreeMap$Entry" (6 : Nat)) ∈ lw_all := lw_g (lw_at lw_m10 19 rfl) rfl
theorem q2294 : (Jvm.Cond.methodLink "java/util/TreeMap" (167 : Nat) ({ cls := "java/util/TreeMap$Entry", name := "<init>", desc := "(Ljava/lang/Object;Ljava/lang/Object;Ljava/util/TreeMap$Entry;)V" } : Jvm.MethodName)) ∈ lw_all := lw_g (lw_at lw_m10 20 rfl) rfl
theorem q2295 : (Jvm.Cond.instanceMethod ({ cls := "java/util/TreeMap$Entry", name := "<init>", desc := "(Ljava/lang/Object;Ljava/lang/Object;Ljava/util/TreeMap$Entry;)V" } : Jvm.MethodName)) ∈ lw_all := lw_g (lw_at lw_m10 21 rfl) rfl
theorem q2296 : (Jvm.Cond.code ({ cls := "java/util/TreeMap$Entry", name := "<init>", desc := "(Ljava/lang/Object;Ljava/lang/Object;Ljava/util/TreeMap$Entry;)V" } : Jvm.MethodName) prog_83_method_1_code (4 : Nat) (Option.none : Option Jvm.ClassFile.FieldType)) ∈ lw_all := lw_g (lw_at lw_m10 22 rfl) rfl
theorem q2297 : (Jvm.Cond.methodLink "java/util/TreeMap$Entry" (3 : Nat) ({ cls := "java/lang/Object", name := "<init>", desc := "()V" } : Jvm.MethodName)) ∈ lw_all := lw_g (lw_at lw_m10 23 rfl) rfl
theorem q2298 : (Jvm.Cond.fieldLink "java/util/TreeMap$Entry" (15 : Nat) "java/util/TreeMap$Entry" "key" "Ljava/lang/Object;") ∈ lw_all := lw_g (lw_at lw_m10 24 rfl) rfl
theorem q2299 : (Jvm.Cond.fieldLink "java/util/TreeMap" (105 : Nat) "java/util/TreeMap$Entry" "key" "Ljava/lang/Object;") ∈ lw_all := lw_g (lw_at lw_m10 25 rfl) rfl
theorem q2300 : (Jvm.Cond.fieldLink "java/util/TreeMap$Entry" (19 : Nat) "java/util/TreeMap$Entry" "value" "Ljava/lang/Object;") ∈ lw_all := lw_g (lw_at lw_m10 26 rfl) rfl
theorem q2301 : (Jvm.Cond.fieldLink "java/util/TreeMap$ValueIterator" (13 : Nat) "java/util/TreeMap$Entry" "value" "Ljava/lang/Object;") ∈ lw_all := lw_g (lw_at lw_m10 27 rfl) rfl
theorem q2302 : (Jvm.Cond.fieldLink "java/util/TreeMap" (58 : Nat) "java/util/TreeMap$Entry" "value" "Ljava/lang/Object;") ∈ lw_all := lw_g (lw_at lw_m10 28 rfl) rfl
theorem q2303 : (Jvm.Cond.fieldLink "java/util/TreeMap" (111 : Nat) "java/util/TreeMap$Entry" "left" "Ljava/util/TreeMap$Entry;") ∈ lw_all := lw_g (lw_at lw_m10 29 rfl) rfl
theorem q2304 : (Jvm.Cond.fieldLink "java/util/TreeMap" (114 : Nat) "java/util/TreeMap$Entry" "right" "Ljava/util/TreeMap$Entry;") ∈ lw_all := lw_g (lw_at lw_m10 30 rfl) rfl
theorem q2305 : (Jvm.Cond.fieldLink "java/util/TreeMap$Entry" (22 : Nat) "java/util/TreeMap$Entry" "parent" "Ljava/util/TreeMap$Entry;") ∈ lw_all := lw_g (lw_at lw_m10 31 rfl) rfl
theorem q2306 : (Jvm.Cond.fieldLink "java/util/TreeMap" (124 : Nat) "java/util/TreeMap$Entry" "parent" "Ljava/util/TreeMap$Entry;") ∈ lw_all := lw_g (lw_at lw_m10 32 rfl) rfl
theorem q2307 : (Jvm.Cond.fieldLink "java/util/TreeMap$Entry" (9 : Nat) "java/util/TreeMap$Entry" "color" "Z") ∈ lw_all := lw_g (lw_at lw_m10 33 rfl) rfl
theorem q2308 : (Jvm.Cond.fieldLink "java/util/TreeMap" (290 : Nat) "java/util/TreeMap$Entry" "color" "Z") ∈ lw_all := lw_g (lw_at lw_m10 34 rfl) rfl
theorem q2322 : (Jvm.Cond.methodLink "java/util/TreeMap" (95 : Nat) ({ cls := "java/util/Objects", name := "requireNonNull", desc := "(Ljava/lang/Object;)Ljava/lang/Object;" } : Jvm.MethodName)) ∈ lw_all := lw_g (lw_at lw_m10 48 rfl) rfl
theorem q2323 : (Jvm.Cond.static ({ cls := "java/util/Objects", name := "requireNonNull", desc := "(Ljava/lang/Object;)Ljava/lang/Object;" } : Jvm.MethodName)) ∈ lw_all := lw_g (lw_at lw_m10 49 rfl) rfl
theorem q2324 : (Jvm.Cond.code ({ cls := "java/util/Objects", name := "requireNonNull", desc := "(Ljava/lang/Object;)Ljava/lang/Object;" } : Jvm.MethodName) prog_73_method_10_code (1 : Nat) (Option.some (Jvm.ClassFile.FieldType.object "java/lang/Object"))) ∈ lw_all := lw_g (lw_at lw_m10 50 rfl) rfl
theorem q2326 : (Jvm.Cond.methodLink "java/util/Objects" (86 : Nat) ({ cls := "java/lang/NullPointerException", name := "<init>", desc := "()V" } : Jvm.MethodName)) ∈ lw_all := lw_g (lw_at lw_m10 52 rfl) rfl
theorem q2327 : (Jvm.Cond.methodLink "java/util/TreeMap" (139 : Nat) ({ cls := "java/util/TreeMap", name := "addEntry", desc := "(Ljava/lang/Object;Ljava/lang/Object;Ljava/util/TreeMap$Entry;Z)V" } : Jvm.MethodName)) ∈ lw_all := lw_g (lw_at lw_m10 53 rfl) rfl
theorem q2329 : (Jvm.Cond.instanceMethod ({ cls := "java/util/TreeMap", name := "addEntry", desc := "(Ljava/lang/Object;Ljava/lang/Object;Ljava/util/TreeMap$Entry;Z)V" } : Jvm.MethodName)) ∈ lw_all := lw_g (lw_at lw_m10 55 rfl) rfl
theorem q2330 : (Jvm.Cond.code ({ cls := "java/util/TreeMap", name := "addEntry", desc := "(Ljava/lang/Object;Ljava/lang/Object;Ljava/util/TreeMap$Entry;Z)V" } : Jvm.MethodName) prog_82_method_29_code (6 : Nat) (Option.none : Option Jvm.ClassFile.FieldType)) ∈ lw_all := lw_g (lw_at lw_m10 56 rfl) rfl
theorem q2331 : (Jvm.Cond.methodLink "java/util/TreeMap" (170 : Nat) ({ cls := "java/util/TreeMap", name := "fixAfterInsertion", desc := "(Ljava/util/TreeMap$Entry;)V" } : Jvm.MethodName)) ∈ lw_all := lw_g (lw_at lw_m10 57 rfl) rfl
theorem q2333 : (Jvm.Cond.instanceMethod ({ cls := "java/util/TreeMap", name := "fixAfterInsertion", desc := "(Ljava/util/TreeMap$Entry;)V" } : Jvm.MethodName)) ∈ lw_all := lw_g (lw_at lw_m10 59 rfl) rfl
theorem q2334 : (Jvm.Cond.code ({ cls := "java/util/TreeMap", name := "fixAfterInsertion", desc := "(Ljava/util/TreeMap$Entry;)V" } : Jvm.MethodName) prog_82_method_83_code (3 : Nat) (Option.none : Option Jvm.ClassFile.FieldType)) ∈ lw_all := lw_g (lw_at lw_m10 60 rfl) rfl
theorem q2335 : (Jvm.Cond.methodLink "java/util/TreeMap" (294 : Nat) ({ cls := "java/util/TreeMap", name := "parentOf", desc := "(Ljava/util/TreeMap$Entry;)Ljava/util/TreeMap$Entry;" } : Jvm.MethodName)) ∈ lw_all := lw_g (lw_at lw_m10 61 rfl) rfl
theorem q2336 : (Jvm.Cond.static ({ cls := "java/util/TreeMap", name := "parentOf", desc := "(Ljava/util/TreeMap$Entry;)Ljava/util/TreeMap$Entry;" } : Jvm.MethodName)) ∈ lw_all := lw_g (lw_at lw_m10 62 rfl) rfl
theorem q2337 : (Jvm.Cond.code ({ cls := "java/util/TreeMap", name := "parentOf", desc := "(Ljava/util/TreeMap$Entry;)Ljava/util/TreeMap$Entry;" } : Jvm.MethodName) prog_82_method_77_code (1 : Nat) (Option.some (Jvm.ClassFile.FieldType.object "java/util/TreeMap$Entry"))) ∈ lw_all := lw_g (lw_at lw_m10 63 rfl) rfl
theorem q2338 : (Jvm.Cond.methodLink "java/util/TreeMap" (297 : Nat) ({ cls := "java/util/TreeMap", name := "leftOf", desc := "(Ljava/util/TreeMap$Entry;)Ljava/util/TreeMap$Entry;" } : Jvm.MethodName)) ∈ lw_all := lw_g (lw_at lw_m10 64 rfl) rfl
theorem q2339 : (Jvm.Cond.static ({ cls := "java/util/TreeMap", name := "leftOf", desc := "(Ljava/util/TreeMap$Entry;)Ljava/util/TreeMap$Entry;" } : Jvm.MethodName)) ∈ lw_all := lw_g (lw_at lw_m10 65 rfl) rfl
theorem q2340 : (Jvm.Cond.code ({ cls := "java/util/TreeMap", name := "leftOf", desc := "(Ljava/util/TreeMap$Entry;)Ljava/util/TreeMap$Entry;" } : Jvm.MethodName) prog_82_method_79_code (1 : Nat) (Option.some (Jvm.ClassFile.FieldType.object "java/util/TreeMap$Entry"))) ∈ lw_all := lw_g (lw_at lw_m10 66 rfl) rfl
theorem q2341 : (Jvm.Cond.methodLink "java/util/TreeMap" (300 : Nat) ({ cls := "java/util/TreeMap", name := "rightOf", desc := "(Ljava/util/TreeMap$Entry;)Ljava/util/TreeMap$Entry;" } : Jvm.MethodName)) ∈ lw_all := lw_g (lw_at lw_m10 67 rfl) rfl
theorem q2342 : (Jvm.Cond.static ({ cls := "java/util/TreeMap", name := "rightOf", desc := "(Ljava/util/TreeMap$Entry;)Ljava/util/TreeMap$Entry;" } : Jvm.MethodName)) ∈ lw_all := lw_g (lw_at lw_m10 68 rfl) rfl
theorem q2343 : (Jvm.Cond.code ({ cls := "java/util/TreeMap", name := "rightOf", desc := "(Ljava/util/TreeMap$Entry;)Ljava/util/TreeMap$Entry;" } : Jvm.MethodName) prog_82_method_80_code (1 : Nat) (Option.some (Jvm.ClassFile.FieldType.object "java/util/TreeMap$Entry"))) ∈ lw_all := lw_g (lw_at lw_m10 69 rfl) rfl
theorem q2344 : (Jvm.Cond.methodLink "java/util/TreeMap" (303 : Nat) ({ cls := "java/util/TreeMap", name := "colorOf", desc := "(Ljava/util/TreeMap$Entry;)Z" } : Jvm.MethodName)) ∈ lw_all := lw_g (lw_at lw_m10 70 rfl) rfl
theorem q2345 : (Jvm.Cond.static ({ cls := "java/util/TreeMap", name := "colorOf", desc := "(Ljava/util/TreeMap$Entry;)Z" } : Jvm.MethodName)) ∈ lw_all := lw_g (lw_at lw_m10 71 rfl) rfl
theorem q2346 : (Jvm.Cond.code ({ cls := "java/util/TreeMap", name := "colorOf", desc := "(Ljava/util/TreeMap$Entry;)Z" } : Jvm.MethodName) prog_82_method_76_code (1 : Nat) (Option.some Jvm.ClassFile.FieldType.boolean)) ∈ lw_all := lw_g (lw_at lw_m10 72 rfl) rfl
theorem q2347 : (Jvm.Cond.methodLink "java/util/TreeMap" (307 : Nat) ({ cls := "java/util/TreeMap", name := "setColor", desc := "(Ljava/util/TreeMap$Entry;Z)V" } : Jvm.MethodName)) ∈ lw_all := lw_g (lw_at lw_m10 73 rfl) rfl
theorem q2348 : (Jvm.Cond.static ({ cls := "java/util/TreeMap", name := "setColor", desc := "(Ljava/util/TreeMap$Entry;Z)V" } : Jvm.MethodName)) ∈ lw_all := lw_g (lw_at lw_m10 74 rfl) rfl
theorem q2349 : (Jvm.Cond.code ({ cls := "java/util/TreeMap", name := "setColor", desc := "(Ljava/util/TreeMap$Entry;Z)V" } : Jvm.MethodName) prog_82_method_78_code (2 : Nat) (Option.none : Option Jvm.ClassFile.FieldType)) ∈ lw_all := lw_g (lw_at lw_m10 75 rfl) rfl
theorem q2350 : (Jvm.Cond.methodLink "java/util/TreeMap" (311 : Nat) ({ cls := "java/util/TreeMap", name := "rotateLeft", desc := "(Ljava/util/TreeMap$Entry;)V" } : Jvm.MethodName)) ∈ lw_all := lw_g (lw_at lw_m10 76 rfl) rfl
theorem q2352 : (Jvm.Cond.instanceMethod ({ cls := "java/util/TreeMap", name := "rotateLeft", desc := "(Ljava/util/TreeMap$Entry;)V" } : Jvm.MethodName)) ∈ lw_all := lw_g (lw_at lw_m10 78 rfl) rfl
theorem q2353 : (Jvm.Cond.code ({ cls := "java/util/TreeMap", name := "rotateLeft", desc := "(Ljava/util/TreeMap$Entry;)V" } : Jvm.MethodName) prog_82_method_81_code (3 : Nat) (Option.none : Option Jvm.ClassFile.FieldType)) ∈ lw_all := lw_g (lw_at lw_m10 79 rfl) rfl
theorem q2354 : (Jvm.Cond.methodLink "java/util/TreeMap" (314 : Nat) ({ cls := "java/util/TreeMap", name := "rotateRight", desc := "(Ljava/util/TreeMap$Entry;)V" } : Jvm.MethodName)) ∈ lw_all := lw_g (lw_at lw_m10 80 rfl) rfl
theorem q2356 : (Jvm.Cond.instanceMethod ({ cls := "java/util/TreeMap", name := "rotateRight", desc := "(Ljava/util/TreeMap$Entry;)V" } : Jvm.MethodName)) ∈ lw_all := lw_g (lw_at lw_m10 82 rfl) rfl
theorem q2357 : (Jvm.Cond.code ({ cls := "java/util/TreeMap", name := "rotateRight", desc := "(Ljava/util/TreeMap$Entry;)V" } : Jvm.MethodName) prog_82_method_82_code (3 : Nat) (Option.none : Option Jvm.ClassFile.FieldType)) ∈ lw_all := lw_g (lw_at lw_m10 83 rfl) rfl
theorem q2358 : (Jvm.Cond.methodLink "TollRoad$World" (176 : Nat) ({ cls := "java/util/TreeMap", name := "values", desc := "()Ljava/util/Collection;" } : Jvm.MethodName)) ∈ lw_all := lw_g (lw_at lw_m10 84 rfl) rfl
theorem q2359 : (Jvm.Cond.instanceMethod ({ cls := "java/util/TreeMap", name := "values", desc := "()Ljava/util/Collection;" } : Jvm.MethodName)) ∈ lw_all := lw_g (lw_at lw_m10 85 rfl) rfl
theorem q2360 : (Jvm.Cond.selects "java/util/TreeMap" ({ cls := "java/util/TreeMap", name := "values", desc := "()Ljava/util/Collection;" } : Jvm.MethodName) ({ cls := "java/util/TreeMap", name := "values", desc := "()Ljava/util/Collection;" } : Jvm.MethodName)) ∈ lw_all := lw_g (lw_at lw_m10 86 rfl) rfl
theorem q2361 : (Jvm.Cond.code ({ cls := "java/util/TreeMap", name := "values", desc := "()Ljava/util/Collection;" } : Jvm.MethodName) prog_82_method_52_code (2 : Nat) (Option.some (Jvm.ClassFile.FieldType.object "java/util/Collection"))) ∈ lw_all := lw_g (lw_at lw_m10 87 rfl) rfl
theorem q2362 : (Jvm.Cond.classLink "java/util/TreeMap" (237 : Nat) "java/util/TreeMap$Values") ∈ lw_all := lw_g (lw_at lw_m10 88 rfl) rfl
theorem q2363 : (Jvm.Cond.instantiable "java/util/TreeMap$Values" (1 : Nat)) ∈ lw_all := lw_g (lw_at lw_m10 89 rfl) rfl
theorem q2364 : (Jvm.Cond.methodLink "java/util/TreeMap" (239 : Nat) ({ cls := "java/util/TreeMap$Values", name := "<init>", desc := "(Ljava/util/TreeMap;)V" } : Jvm.MethodName)) ∈ lw_all := lw_g (lw_at lw_m10 90 rfl) rfl
theorem q2365 : (Jvm.Cond.instanceMethod ({ cls := "java/util/TreeMap$Values", name := "<init>", desc := "(Ljava/util/TreeMap;)V" } : Jvm.MethodName)) ∈ lw_all := lw_g (lw_at lw_m10 91 rfl) rfl
theorem q2366 : (Jvm.Cond.code ({ cls := "java/util/TreeMap$Values", name := "<init>", desc := "(Ljava/util/TreeMap;)V" } : Jvm.MethodName) prog_86_method_1_code (2 : Nat) (Option.none : Option Jvm.ClassFile.FieldType)) ∈ lw_all := lw_g (lw_at lw_m10 92 rfl) rfl
theorem q2367 : (Jvm.Cond.methodLink "java/util/TreeMap$Values" (7 : Nat) ({ cls := "java/util/AbstractCollection", name := "<init>", desc := "()V" } : Jvm.MethodName)) ∈ lw_all := lw_g (lw_at lw_m10 93 rfl) rfl
theorem q2368 : (Jvm.Cond.fieldLink "java/util/TreeMap$Values" (1 : Nat) "java/util/TreeMap$Values" "this$0" "Ljava/util/TreeMap;") ∈ lw_all := lw_g (lw_at lw_m10 94 rfl) rfl
theorem q2373 : (Jvm.Cond.methodLink "TollRoad$World" (180 : Nat) ({ cls := "java/util/Collection", name := "iterator", desc := "()Ljava/util/Iterator;" } : Jvm.MethodName)) ∈ lw_all := lw_g (lw_at lw_m10 99 rfl) rfl
theorem q2374 : (Jvm.Cond.interfaceMethod "java/util/Collection" "java/util/Collection" "iterator" "()Ljava/util/Iterator;") ∈ lw_tbl := lw_at lw_m10 100 rfl
theorem q2375 : (Jvm.Cond.declares ({ cls := "java/util/Collection", name := "iterator", desc := "()Ljava/util/Iterator;" } : Jvm.MethodName)) ∈ lw_tbl := lw_at lw_m10 101 rfl
theorem q2382 : (Jvm.Cond.unhidden "java/util/HashMap$EntrySet" "iterator" "()Ljava/util/Iterator;") ∈ lw_tbl := lw_at lw_m10 108 rfl
theorem q2383 : (Jvm.Cond.instanceMethod ({ cls := "java/util/HashMap$EntrySet", name := "iterator", desc := "()Ljava/util/Iterator;" } : Jvm.MethodName)) ∈ lw_all := lw_g (lw_at lw_m10 109 rfl) rfl
theorem q2384 : (Jvm.Cond.publicMethod ({ cls := "java/util/HashMap$EntrySet", name := "iterator", desc := "()Ljava/util/Iterator;" } : Jvm.MethodName)) ∈ lw_tbl := lw_at lw_m10 110 rfl
theorem q2385 : (Jvm.Cond.code ({ cls := "java/util/HashMap$EntrySet", name := "iterator", desc := "()Ljava/util/Iterator;" } : Jvm.MethodName) prog_63_method_4_code (1 : Nat) (Option.some (Jvm.ClassFile.FieldType.object "java/util/Iterator"))) ∈ lw_all := lw_g (lw_at lw_m10 111 rfl) rfl
theorem q2386 : (Jvm.Cond.classLink "java/util/HashMap$EntrySet" (22 : Nat) "java/util/HashMap$EntryIterator") ∈ lw_all := lw_g (lw_at lw_m10 112 rfl) rfl
theorem q2387 : (Jvm.Cond.instantiable "java/util/HashMap$EntryIterator" (5 : Nat)) ∈ lw_all := lw_g (lw_at lw_m10 113 rfl) rfl
theorem q2388 : (Jvm.Cond.methodLink "java/util/HashMap$EntrySet" (24 : Nat) ({ cls := "java/util/HashMap$EntryIterator", name := "<init>", desc := "(Ljava/util/HashMap;)V" } : Jvm.MethodName)) ∈ lw_all := lw_g (lw_at lw_m10 114 rfl) rfl
theorem q2389 : (Jvm.Cond.instanceMethod ({ cls := "java/util/HashMap$EntryIterator", name := "<init>", desc := "(Ljava/util/HashMap;)V" } : Jvm.MethodName)) ∈ lw_all := lw_g (lw_at lw_m10 115 rfl) rfl
theorem q2390 : (Jvm.Cond.code ({ cls := "java/util/HashMap$EntryIterator", name := "<init>", desc := "(Ljava/util/HashMap;)V" } : Jvm.MethodName) prog_62_method_1_code (2 : Nat) (Option.none : Option Jvm.ClassFile.FieldType)) ∈ lw_all := lw_g (lw_at lw_m10 116 rfl) rfl
theorem q2391 : (Jvm.Cond.methodLink "java/util/HashMap$EntryIterator" (1 : Nat) ({ cls := "java/util/HashMap$HashIterator", name := "<init>", desc := "(Ljava/util/HashMap;)V" } : Jvm.MethodName)) ∈ lw_all := lw_g (lw_at lw_m10 117 rfl) rfl
theorem q2392 : (Jvm.Cond.instanceMethod ({ cls := "java/util/HashMap$HashIterator", name := "<init>", desc := "(Ljava/util/HashMap;)V" } : Jvm.MethodName)) ∈ lw_all := lw_g (lw_at lw_m10 118 rfl) rfl
theorem q2393 : (Jvm.Cond.code ({ cls := "java/util/HashMap$HashIterator", name := "<init>", desc := "(Ljava/util/HashMap;)V" } : Jvm.MethodName) prog_64_method_1_code (3 : Nat) (Option.none : Option Jvm.ClassFile.FieldType)) ∈ lw_all := lw_g (lw_at lw_m10 119 rfl) rfl
theorem q2394 : (Jvm.Cond.methodLink "java/util/HashMap$HashIterator" (7 : Nat) ({ cls := "java/lang/Object", name := "<init>", desc := "()V" } : Jvm.MethodName)) ∈ lw_all := lw_g (lw_at lw_m10 120 rfl) rfl
theorem q2395 : (Jvm.Cond.fieldLink "java/util/HashMap$HashIterator" (26 : Nat) "java/util/HashMap$HashIterator" "next" "Ljava/util/HashMap$Node;") ∈ lw_all := lw_g (lw_at lw_m10 121 rfl) rfl
theorem q2396 : (Jvm.Cond.fieldLink "java/util/HashMap$HashIterator" (30 : Nat) "java/util/HashMap$HashIterator" "current" "Ljava/util/HashMap$Node;") ∈ lw_all := lw_g (lw_at lw_m10 122 rfl) rfl
theorem q2397 : (Jvm.Cond.fieldLink "java/util/HashMap$HashIterator" (19 : Nat) "java/util/HashMap$HashIterator" "expectedModCount" "I") ∈ lw_all := lw_g (lw_at lw_m10 123 rfl) rfl
theorem q2398 : (Jvm.Cond.fieldLink "java/util/HashMap$HashIterator" (33 : Nat) "java/util/HashMap$HashIterator" "index" "I") ∈ lw_all := lw_g (lw_at lw_m10 124 rfl) rfl
theorem q2399 : (Jvm.Cond.fieldLink "java/util/HashMap$HashIterator" (1 : Nat) "java/util/HashMap$HashIterator" "this$0" "Ljava/util/HashMap;") ∈ lw_all := lw_g (lw_at lw_m10 125 rfl) rfl
theorem q2442 : (Jvm.Cond.castable "java/util/TreeMap$Values" "java/util/Collection") ∈ lw_tbl := lw_at lw_m10 168 rfl
theorem q2443 : (Jvm.Cond.selects "java/util/TreeMap$Values" ({ cls := "java/util/Collection", name := "iterator", desc := "()Ljava/util/Iterator;" } : Jvm.MethodName) ({ cls := "java/util/TreeMap$Values", name := "iterator", desc := "()Ljava/util/Iterator;" } : Jvm.MethodName)) ∈ lw_all := lw_g (lw_at lw_m10 169 rfl) rfl
theorem q2444 : (Jvm.Cond.unhidden "java/util/TreeMap$Values" "iterator" "()Ljava/util/Iterator;") ∈ lw_tbl := lw_at lw_m10 170 rfl
theorem q2445 : (Jvm.Cond.instanceMethod ({ cls := "java/util/TreeMap$Values", name := "iterator", desc := "()Ljava/util/Iterator;" } : Jvm.MethodName)) ∈ lw_all := lw_g (lw_at lw_m10 171 rfl) rfl
theorem q2446 : (Jvm.Cond.publicMethod ({ cls := "java/util/TreeMap$Values", name := "iterator", desc := "()Ljava/util/Iterator;" } : Jvm.MethodName)) ∈ lw_tbl := lw_at lw_m10 172 rfl
theorem q2447 : (Jvm.Cond.code ({ cls := "java/util/TreeMap$Values", name := "iterator", desc := "()Ljava/util/Iterator;" } : Jvm.MethodName) prog_86_method_2_code (1 : Nat) (Option.some (Jvm.ClassFile.FieldType.object "java/util/Iterator"))) ∈ lw_all := lw_g (lw_at lw_m10 173 rfl) rfl
theorem q2448 : (Jvm.Cond.classLink "java/util/TreeMap$Values" (13 : Nat) "java/util/TreeMap$ValueIterator") ∈ lw_all := lw_g (lw_at lw_m10 174 rfl) rfl
theorem q2449 : (Jvm.Cond.instantiable "java/util/TreeMap$ValueIterator" (4 : Nat)) ∈ lw_all := lw_g (lw_at lw_m10 175 rfl) rfl
theorem q2450 : (Jvm.Cond.methodLink "java/util/TreeMap$Values" (15 : Nat) ({ cls := "java/util/TreeMap", name := "getFirstEntry", desc := "()Ljava/util/TreeMap$Entry;" } : Jvm.MethodName)) ∈ lw_all := lw_g (lw_at lw_m10 176 rfl) rfl
theorem q2451 : (Jvm.Cond.instanceMethod ({ cls := "java/util/TreeMap", name := "getFirstEntry", desc := "()Ljava/util/TreeMap$Entry;" } : Jvm.MethodName)) ∈ lw_all := lw_g (lw_at lw_m10 177 rfl) rfl
theorem q2452 : (Jvm.Cond.selects "java/util/TreeMap" ({ cls := "java/util/TreeMap", name := "getFirstEntry", desc := "()Ljava/util/TreeMap$Entry;" } : Jvm.MethodName) ({ cls := "java/util/TreeMap", name := "getFirstEntry", desc := "()Ljava/util/TreeMap$Entry;" } : Jvm.MethodName)) ∈ lw_all := lw_g (lw_at lw_m10 178 rfl) rfl
theorem q2453 : (Jvm.Cond.code ({ cls := "java/util/TreeMap", name := "getFirstEntry", desc := "()Ljava/util/TreeMap$Entry;" } : Jvm.MethodName) prog_82_method_72_code (2 : Nat) (Option.some (Jvm.ClassFile.FieldType.object "java/util/TreeMap$Entry"))) ∈ lw_all := lw_g (lw_at lw_m10 179 rfl) rfl
theorem q2454 : (Jvm.Cond.methodLink "java/util/TreeMap$Values" (21 : Nat) ({ cls := "java/util/TreeMap$ValueIterator", name := "<init>", desc := "(Ljava/util/TreeMap;Ljava/util/TreeMap$Entry;)V" } : Jvm.MethodName)) ∈ lw_all := lw_g (lw_at lw_m10 180 rfl) rfl
theorem q2455 : (Jvm.Cond.instanceMethod ({ cls := "java/util/TreeMap$ValueIterator", name := "<init>", desc := "(Ljava/util/TreeMap;Ljava/util/TreeMap$Entry;)V" } : Jvm.MethodName)) ∈ lw_all := lw_g (lw_at lw_m10 181 rfl) rfl
theorem q2456 : (Jvm.Cond.code ({ cls := "java/util/TreeMap$ValueIterator", name := "<init>", desc := "(Ljava/util/TreeMap;Ljava/util/TreeMap$Entry;)V" } : Jvm.MethodName) prog_85_method_1_code (3 : Nat) (Option.none : Option Jvm.ClassFile.FieldType)) ∈ lw_all := lw_g (lw_at lw_m10 182 rfl) rfl
theorem q2457 : (Jvm.Cond.methodLink "java/util/TreeMap$ValueIterator" (1 : Nat) ({ cls := "java/util/TreeMap$PrivateEntryIterator", name := "<init>", desc := "(Ljava/util/TreeMap;Ljava/util/TreeMap$Entry;)V" } : Jvm.MethodName)) ∈ lw_all := lw_g (lw_at lw_m10 183 rfl) rfl
theorem q2458 : (Jvm.Cond.instanceMethod ({ cls := "java/util/TreeMap$PrivateEntryIterator", name := "<init>", desc := "(Ljava/util/TreeMap;Ljava/util/TreeMap$Entry;)V" } : Jvm.MethodName)) ∈ lw_all := lw_g (lw_at lw_m10 184 rfl) rfl
theorem q2459 : (Jvm.Cond.code ({ cls := "java/util/TreeMap$PrivateEntryIterator", name := "<init>", desc := "(Ljava/util/TreeMap;Ljava/util/TreeMap$Entry;)V" } : Jvm.MethodName) prog_84_method_1_code (3 : Nat) (Option.none : Option Jvm.ClassFile.FieldType)) ∈ lw_all := lw_g (lw_at lw_m10 185 rfl) rfl
theorem q2460 : (Jvm.Cond.methodLink "java/util/TreeMap$PrivateEntryIterator" (7 : Nat) ({ cls := "java/lang/Object", name := "<init>", desc := "()V" } : Jvm.MethodName)) ∈ lw_all := lw_g (lw_at lw_m10 186 rfl) rfl
theorem q2461 : (Jvm.Cond.fieldLink "java/util/TreeMap$PrivateEntryIterator" (26 : Nat) "java/util/TreeMap$PrivateEntryIterator" "next" "Ljava/util/TreeMap$Entry;") ∈ lw_all := lw_g (lw_at lw_m10 187 rfl) rfl
theorem q2462 : (Jvm.Cond.fieldLink "java/util/TreeMap$PrivateEntryIterator" (22 : Nat) "java/util/TreeMap$PrivateEntryIterator" "lastReturned" "Ljava/util/TreeMap$Entry;") ∈ lw_all := lw_g (lw_at lw_m10 188 rfl) rfl
theorem q2463 : (Jvm.Cond.fieldLink "java/util/TreeMap$PrivateEntryIterator" (19 : Nat) "java/util/TreeMap$PrivateEntryIterator" "expectedModCount" "I") ∈ lw_all := lw_g (lw_at lw_m10 189 rfl) rfl
theorem q2464 : (Jvm.Cond.fieldLink "java/util/TreeMap$PrivateEntryIterator" (1 : Nat) "java/util/TreeMap$PrivateEntryIterator" "this$0" "Ljava/util/TreeMap;") ∈ lw_all := lw_g (lw_at lw_m10 190 rfl) rfl
theorem q2474 : (Jvm.Cond.methodLink "TollRoad$World" (183 : Nat) ({ cls := "TollRoad$Trip", name := "takes", desc := "(LTollRoad$Read;LTollRoad$Network;[I)Z" } : Jvm.MethodName)) ∈ lw_all := lw_g (lw_at lw_m10 200 rfl) rfl
theorem q2475 : (Jvm.Cond.instanceMethod ({ cls := "TollRoad$Trip", name := "takes", desc := "(LTollRoad$Read;LTollRoad$Network;[I)Z" } : Jvm.MethodName)) ∈ lw_all := lw_g (lw_at lw_m10 201 rfl) rfl
theorem q2476 : (Jvm.Cond.selects "TollRoad$Trip" ({ cls := "TollRoad$Trip", name := "takes", desc := "(LTollRoad$Read;LTollRoad$Network;[I)Z" } : Jvm.MethodName) ({ cls := "TollRoad$Trip", name := "takes", desc := "(LTollRoad$Read;LTollRoad$Network;[I)Z" } : Jvm.MethodName)) ∈ lw_all := lw_g (lw_at lw_m10 202 rfl) rfl
theorem q2477 : (Jvm.Cond.code ({ cls := "TollRoad$Trip", name := "takes", desc := "(LTollRoad$Read;LTollRoad$Network;[I)Z" } : Jvm.MethodName) prog_17_method_2_code (9 : Nat) (Option.some Jvm.ClassFile.FieldType.boolean)) ∈ lw_all := lw_g (lw_at lw_m10 203 rfl) rfl
theorem q2478 : (Jvm.Cond.methodLink "TollRoad$Trip" (27 : Nat) ({ cls := "java/util/ArrayList", name := "add", desc := "(Ljava/lang/Object;)Z" } : Jvm.MethodName)) ∈ lw_all := lw_g (lw_at lw_m10 204 rfl) rfl
theorem q2479 : (Jvm.Cond.classLink "TollRoad$Trip" (49 : Nat) "TollRoad$Route") ∈ lw_all := lw_g (lw_at lw_m10 205 rfl) rfl
theorem q2480 : (Jvm.Cond.methodLink "TollRoad$Trip" (51 : Nat) ({ cls := "TollRoad$Route", name := "<init>", desc := "(LTollRoad$Network;[IIII)V" } : Jvm.MethodName)) ∈ lw_all := lw_g (lw_at lw_m10 206 rfl) rfl
theorem q2481 : (Jvm.Cond.methodLink "TollRoad$Trip" (54 : Nat) ({ cls := "TollRoad$Route", name := "search", desc := "()LTollRoad$Search;" } : Jvm.MethodName)) ∈ lw_all := lw_g (lw_at lw_m10 207 rfl) rfl
theorem q2482 : (Jvm.Cond.methodLink "TollRoad$Trip" (58 : Nat) ({ cls := "TollRoad$Search", name := "isFound", desc := "()Z" } : Jvm.MethodName)) ∈ lw_all := lw_g (lw_at lw_m10 208 rfl) rfl
theorem q2483 : (Jvm.Cond.methodLink "TollRoad$Trip" (36 : Nat) ({ cls := "java/lang/Integer", name := "valueOf", desc := "(I)Ljava/lang/Integer;" } : Jvm.MethodName)) ∈ lw_all := lw_g (lw_at lw_m10 209 rfl) rfl
theorem q2484 : (Jvm.Cond.classLink "TollRoad$World" (184 : Nat) "TollRoad$Trip") ∈ lw_all := lw_g (lw_at lw_m10 210 rfl) rfl
theorem q2485 : (Jvm.Cond.instantiable "TollRoad$Trip" (7 : Nat)) ∈ lw_all := lw_g (lw_at lw_m10 211 rfl) rfl
theorem q2486 : (Jvm.Cond.methodLink "TollRoad$World" (191 : Nat) ({ cls := "TollRoad$Trip", name := "<init>", desc := "(LTollRoad$Read;I)V" } : Jvm.MethodName)) ∈ lw_all := lw_g (lw_at lw_m10 212 rfl) rfl
theorem q2487 : (Jvm.Cond.instanceMethod ({ cls := "TollRoad$Trip", name := "<init>", desc := "(LTollRoad$Read;I)V" } : Jvm.MethodName)) ∈ lw_all := lw_g (lw_at lw_m10 213 rfl) rfl
theorem q2488 : (Jvm.Cond.code ({ cls := "TollRoad$Trip", name := "<init>", desc := "(LTollRoad$Read;I)V" } : Jvm.MethodName) prog_17_method_1_code (3 : Nat) (Option.none : Option Jvm.ClassFile.FieldType)) ∈ lw_all := lw_g (lw_at lw_m10 214 rfl) rfl
theorem q2489 : (Jvm.Cond.methodLink "TollRoad$Trip" (3 : Nat) ({ cls := "java/lang/Object", name := "<init>", desc := "()V" } : Jvm.MethodName)) ∈ lw_all := lw_g (lw_at lw_m10 215 rfl) rfl
theorem q2490 : (Jvm.Cond.classLink "TollRoad$Trip" (9 : Nat) "java/util/ArrayList") ∈ lw_all := lw_g (lw_at lw_m10 216 rfl) rfl
theorem q2491 : (Jvm.Cond.methodLink "TollRoad$Trip" (11 : Nat) ({ cls := "java/util/ArrayList", name := "<init>", desc := "(I)V" } : Jvm.MethodName)) ∈ lw_all := lw_g (lw_at lw_m10 217 rfl) rfl
theorem q2492 : (Jvm.Cond.fieldLink "TollRoad$Trip" (23 : Nat) "TollRoad$Trip" "size" "I") ∈ lw_all := lw_g (lw_at lw_m10 218 rfl) rfl
theorem q2493 : (Jvm.Cond.fieldLinkNest "TollRoad$World" (302 : Nat) "TollRoad$Trip" "size" "I" "TollRoad") ∈ lw_tbl := lw_at lw_m10 219 rfl
theorem q2494 : (Jvm.Cond.fieldLink "TollRoad$Trip" (14 : Nat) "TollRoad$Trip" "reads" "Ljava/util/ArrayList;") ∈ lw_all := lw_g (lw_at lw_m10 220 rfl) rfl
theorem q2495 : (Jvm.Cond.fieldLinkNest "TollRoad$World" (237 : Nat) "TollRoad$Trip" "reads" "Ljava/util/ArrayList;" "TollRoad") ∈ lw_tbl := lw_at lw_m10 221 rfl
theorem q2496 : (Jvm.Cond.fieldLinkNest "TollRoad" (336 : Nat) "TollRoad$Trip" "reads" "Ljava/util/ArrayList;" "TollRoad") ∈ lw_tbl := lw_at lw_m10 222 rfl
theorem q2497 : (Jvm.Cond.fieldLink "TollRoad$Trip" (20 : Nat) "TollRoad$Trip" "gantries" "Ljava/util/ArrayList;") ∈ lw_all := lw_g (lw_at lw_m10 223 rfl) rfl
theorem q2498 : (Jvm.Cond.fieldLinkNest "TollRoad$World" (253 : Nat) "TollRoad$Trip" "gantries" "Ljava/util/ArrayList;" "TollRoad") ∈ lw_tbl := lw_at lw_m10 224 rfl
theorem q2499 : (Jvm.Cond.fieldLinkNest "TollRoad" (337 : Nat) "TollRoad$Trip" "gantries" "Ljava/util/ArrayList;" "TollRoad") ∈ lw_tbl := lw_at lw_m10 225 rfl
theorem q2500 : (Jvm.Cond.fieldLink "TollRoad$Trip" (42 : Nat) "TollRoad$Trip" "last" "LTollRoad$Read;") ∈ lw_all := lw_g (lw_at lw_m10 226 rfl) rfl
theorem q2501 : (Jvm.Cond.fieldLink "TollRoad$Trip" (71 : Nat) "TollRoad$Trip" "missing" "I") ∈ lw_all := lw_g (lw_at lw_m10 227 rfl) rfl
theorem q2502 : (Jvm.Cond.fieldLinkNest "TollRoad$World" (303 : Nat) "TollRoad$Trip" "missing" "I" "TollRoad") ∈ lw_tbl := lw_at lw_m10 228 rfl
theorem q2503 : (Jvm.Cond.fieldLinkNest "TollRoad" (339 : Nat) "TollRoad$Trip" "missing" "I" "TollRoad") ∈ lw_tbl := lw_at lw_m10 229 rfl
theorem q2504 : (Jvm.Cond.fieldLink "TollRoad$Trip" (74 : Nat) "TollRoad$Trip" "tolls" "I") ∈ lw_all := lw_g (lw_at lw_m10 230 rfl) rfl
theorem q2505 : (Jvm.Cond.fieldLink "TollRoad$Trip" (80 : Nat) "TollRoad$Trip" "cost" "I") ∈ lw_all := lw_g (lw_at lw_m10 231 rfl) rfl
theorem q2506 : (Jvm.Cond.fieldLinkNest "TollRoad" (344 : Nat) "TollRoad$Trip" "cost" "I" "TollRoad") ∈ lw_tbl := lw_at lw_m10 232 rfl
theorem q2522 : (Jvm.Cond.methodLink "TollRoadLaw" (218 : Nat) ({ cls := "TollRoadLaw", name := "trip", desc := "(LTollRoad;III[J)I" } : Jvm.MethodName)) ∈ lw_all := lw_g (lw_at lw_m11 8 rfl) rfl
theorem q2523 : (Jvm.Cond.static ({ cls := "TollRoadLaw", name := "trip", desc := "(LTollRoad;III[J)I" } : Jvm.MethodName)) ∈ lw_all := lw_g (lw_at lw_m11 9 rfl) rfl
theorem q2524 : (Jvm.Cond.codeWith ({ cls := "TollRoadLaw", name := "trip", desc := "(LTollRoad;III[J)I" } : Jvm.MethodName) method_25_code (6 : Nat) (Option.some Jvm.ClassFile.FieldType.int) [((0 : Nat), (12 : Nat), (15 : Nat), (27 : Nat)), ((0 : Nat), (12 : Nat), (19 : Nat), (18 : Nat))]) ∈ lw_all := lw_g (lw_at lw_m11 10 rfl) rfl
theorem q2525 : (Jvm.Cond.methodLink "TollRoadLaw" (85 : Nat) ({ cls := "TollRoad", name := "trip", desc := "(III)I" } : Jvm.MethodName)) ∈ lw_all := lw_g (lw_at lw_m11 11 rfl) rfl
theorem q2526 : (Jvm.Cond.instanceMethod ({ cls := "TollRoad", name := "trip", desc := "(III)I" } : Jvm.MethodName)) ∈ lw_all := lw_g (lw_at lw_m11 12 rfl) rfl
theorem q2527 : (Jvm.Cond.selects "TollRoad" ({ cls := "TollRoad", name := "trip", desc := "(III)I" } : Jvm.MethodName) ({ cls := "TollRoad", name := "trip", desc := "(III)I" } : Jvm.MethodName)) ∈ lw_all := lw_g (lw_at lw_m11 13 rfl) rfl
theorem q2528 : (Jvm.Cond.code ({ cls := "TollRoad", name := "trip", desc := "(III)I" } : Jvm.MethodName) prog_1_method_37_code (5 : Nat) (Option.some Jvm.ClassFile.FieldType.int)) ∈ lw_all := lw_g (lw_at lw_m11 14 rfl) rfl
theorem q2529 : (Jvm.Cond.methodLink "TollRoad" (326 : Nat) ({ cls := "TollRoad", name := "tripAt", desc := "(II)LTollRoad$Trip;" } : Jvm.MethodName)) ∈ lw_all := lw_g (lw_at lw_m11 15 rfl) rfl
theorem q2531 : (Jvm.Cond.instanceMethod ({ cls := "TollRoad", name := "tripAt", desc := "(II)LTollRoad$Trip;" } : Jvm.MethodName)) ∈ lw_all := lw_g (lw_at lw_m11 17 rfl) rfl
theorem q2532 : (Jvm.Cond.code ({ cls := "TollRoad", name := "tripAt", desc := "(II)LTollRoad$Trip;" } : Jvm.MethodName) prog_1_method_36_code (5 : Nat) (Option.some (Jvm.ClassFile.FieldType.object "TollRoad$Trip"))) ∈ lw_all := lw_g (lw_at lw_m11 18 rfl) rfl
theorem q2533 : (Jvm.Cond.classLink "TollRoad" (324 : Nat) "TollRoad$Trip") ∈ lw_all := lw_g (lw_at lw_m11 19 rfl) rfl
theorem q2534 : (Jvm.Cond.methodLink "TollRoad" (330 : Nat) ({ cls := "TollRoad$Trip", name := "from", desc := "()I" } : Jvm.MethodName)) ∈ lw_all := lw_g (lw_at lw_m11 20 rfl) rfl
theorem q2535 : (Jvm.Cond.instanceMethod ({ cls := "TollRoad$Trip", name := "from", desc := "()I" } : Jvm.MethodName)) ∈ lw_all := lw_g (lw_at lw_m11 21 rfl) rfl
theorem q2536 : (Jvm.Cond.selects "TollRoad$Trip" ({ cls := "TollRoad$Trip", name := "from", desc := "()I" } : Jvm.MethodName) ({ cls := "TollRoad$Trip", name := "from", desc := "()I" } : Jvm.MethodName)) ∈ lw_all := lw_g (lw_at lw_m11 22 rfl) rfl
theorem q2537 : (Jvm.Cond.code ({ cls := "TollRoad$Trip", name := "from", desc := "()I" } : Jvm.MethodName) prog_17_method_3_code (1 : Nat) (Option.some Jvm.ClassFile.FieldType.int)) ∈ lw_all := lw_g (lw_at lw_m11 23 rfl) rfl
theorem q2538 : (Jvm.Cond.methodLink "TollRoad$Trip" (84 : Nat) ({ cls := "java/util/ArrayList", name := "get", desc := "(I)Ljava/lang/Object;" } : Jvm.MethodName)) ∈ lw_all := lw_g (lw_at lw_m11 24 rfl) rfl
theorem q2539 : (Jvm.Cond.classLink "TollRoad$Trip" (32 : Nat) "TollRoad$Read") ∈ lw_all := lw_g (lw_at lw_m11 25 rfl) rfl
theorem q2540 : (Jvm.Cond.methodLink "TollRoad" (333 : Nat) ({ cls := "TollRoad$Trip", name := "to", desc := "()I" } : Jvm.MethodName)) ∈ lw_all := lw_g (lw_at lw_m11 26 rfl) rfl
theorem q2541 : (Jvm.Cond.instanceMethod ({ cls := "TollRoad$Trip", name := "to", desc := "()I" } : Jvm.MethodName)) ∈ lw_all := lw_g (lw_at lw_m11 27 rfl) rfl
theorem q2542 : (Jvm.Cond.selects "TollRoad$Trip" ({ cls := "TollRoad$Trip", name := "to", desc := "()I" } : Jvm.MethodName) ({ cls := "TollRoad$Trip", name := "to", desc := "()I" } : Jvm.MethodName)) ∈ lw_all := lw_g (lw_at lw_m11 28 rfl) rfl
theorem q2543 : (Jvm.Cond.code ({ cls := "TollRoad$Trip", name := "to", desc := "()I" } : Jvm.MethodName) prog_17_method_4_code (1 : Nat) (Option.some Jvm.ClassFile.FieldType.int)) ∈ lw_all := lw_g (lw_at lw_m11 29 rfl) rfl
theorem q2544 : (Jvm.Cond.methodLink "TollRoad$Trip" (88 : Nat) ({ cls := "java/util/ArrayList", name := "size", desc := "()I" } : Jvm.MethodName)) ∈ lw_all := lw_g (lw_at lw_m11 30 rfl) rfl
theorem q2545 : (Jvm.Cond.methodLink "TollRoad" (342 : Nat) ({ cls := "TollRoad$Trip", name := "toll", desc := "()I" } : Jvm.MethodName)) ∈ lw_all := lw_g (lw_at lw_m11 31 rfl) rfl
theorem q2546 : (Jvm.Cond.instanceMethod ({ cls := "TollRoad$Trip", name := "toll", desc := "()I" } : Jvm.MethodName)) ∈ lw_all := lw_g (lw_at lw_m11 32 rfl) rfl
theorem q2547 : (Jvm.Cond.selects "TollRoad$Trip" ({ cls := "TollRoad$Trip", name := "toll", desc := "()I" } : Jvm.MethodName) ({ cls := "TollRoad$Trip", name := "toll", desc := "()I" } : Jvm.MethodName)) ∈ lw_all := lw_g (lw_at lw_m11 33 rfl) rfl
theorem q2548 : (Jvm.Cond.code ({ cls := "TollRoad$Trip", name := "toll", desc := "()I" } : Jvm.MethodName) prog_17_method_5_code (1 : Nat) (Option.some Jvm.ClassFile.FieldType.int)) ∈ lw_all := lw_g (lw_at lw_m11 34 rfl) rfl
theorem q2549 : (Jvm.Cond.methodLink "TollRoad" (345 : Nat) ({ cls := "TollRoad$Trip", name := "imageCount", desc := "()I" } : Jvm.MethodName)) ∈ lw_all := lw_g (lw_at lw_m11 35 rfl) rfl
theorem q2550 : (Jvm.Cond.instanceMethod ({ cls := "TollRoad$Trip", name := "imageCount", desc := "()I" } : Jvm.MethodName)) ∈ lw_all := lw_g (lw_at lw_m11 36 rfl) rfl
theorem q2551 : (Jvm.Cond.selects "TollRoad$Trip" ({ cls := "TollRoad$Trip", name := "imageCount", desc := "()I" } : Jvm.MethodName) ({ cls := "TollRoad$Trip", name := "imageCount", desc := "()I" } : Jvm.MethodName)) ∈ lw_all := lw_g (lw_at lw_m11 37 rfl) rfl
theorem q2552 : (Jvm.Cond.code ({ cls := "TollRoad$Trip", name := "imageCount", desc := "()I" } : Jvm.MethodName) prog_17_method_6_code (3 : Nat) (Option.some Jvm.ClassFile.FieldType.int)) ∈ lw_all := lw_g (lw_at lw_m11 38 rfl) rfl
theorem q2553 : (Jvm.Cond.methodLink "TollRoadLaw" (221 : Nat) ({ cls := "TollRoadLaw", name := "tripGantry", desc := "(LTollRoad;III[J)I" } : Jvm.MethodName)) ∈ lw_all := lw_g (lw_at lw_m11 39 rfl) rfl
theorem q2554 : (Jvm.Cond.static ({ cls := "TollRoadLaw", name := "tripGantry", desc := "(LTollRoad;III[J)I" } : Jvm.MethodName)) ∈ lw_all := lw_g (lw_at lw_m11 40 rfl) rfl
theorem q2555 : (Jvm.Cond.codeWith ({ cls := "TollRoadLaw", name := "tripGantry", desc := "(LTollRoad;III[J)I" } : Jvm.MethodName) method_26_code (6 : Nat) (Option.some Jvm.ClassFile.FieldType.int) [((0 : Nat), (12 : Nat), (15 : Nat), (27 : Nat))]) ∈ lw_all := lw_g (lw_at lw_m11 41 rfl) rfl
theorem q2556 : (Jvm.Cond.methodLink "TollRoadLaw" (88 : Nat) ({ cls := "TollRoad", name := "tripGantry", desc := "(III)I" } : Jvm.MethodName)) ∈ lw_all := lw_g (lw_at lw_m11 42 rfl) rfl
theorem q2557 : (Jvm.Cond.instanceMethod ({ cls := "TollRoad", name := "tripGantry", desc := "(III)I" } : Jvm.MethodName)) ∈ lw_all := lw_g (lw_at lw_m11 43 rfl) rfl
theorem q2558 : (Jvm.Cond.selects "TollRoad" ({ cls := "TollRoad", name := "tripGantry", desc := "(III)I" } : Jvm.MethodName) ({ cls := "TollRoad", name := "tripGantry", desc := "(III)I" } : Jvm.MethodName)) ∈ lw_all := lw_g (lw_at lw_m11 44 rfl) rfl
theorem q2559 : (Jvm.Cond.code ({ cls := "TollRoad", name := "tripGantry", desc := "(III)I" } : Jvm.MethodName) prog_1_method_38_code (5 : Nat) (Option.some Jvm.ClassFile.FieldType.int)) ∈ lw_all := lw_g (lw_at lw_m11 45 rfl) rfl
theorem q2560 : (Jvm.Cond.classLink "TollRoad" (348 : Nat) "java/lang/Integer") ∈ lw_all := lw_g (lw_at lw_m11 46 rfl) rfl
theorem q2561 : (Jvm.Cond.methodLink "TollRoad" (350 : Nat) ({ cls := "java/lang/Integer", name := "intValue", desc := "()I" } : Jvm.MethodName)) ∈ lw_all := lw_g (lw_at lw_m11 47 rfl) rfl
theorem q2562 : (Jvm.Cond.methodLink "TollRoadLaw" (224 : Nat) ({ cls := "TollRoadLaw", name := "bill", desc := "(LTollRoad;II[J)I" } : Jvm.MethodName)) ∈ lw_all := lw_g (lw_at lw_m11 48 rfl) rfl
theorem q2563 : (Jvm.Cond.static ({ cls := "TollRoadLaw", name := "bill", desc := "(LTollRoad;II[J)I" } : Jvm.MethodName)) ∈ lw_all := lw_g (lw_at lw_m11 49 rfl) rfl
theorem q2564 : (Jvm.Cond.codeWith ({ cls := "TollRoadLaw", name := "bill", desc := "(LTollRoad;II[J)I" } : Jvm.MethodName) method_27_code (5 : Nat) (Option.some Jvm.ClassFile.FieldType.int) [((0 : Nat), (10 : Nat), (13 : Nat), (27 : Nat)), ((0 : Nat), (10 : Nat), (17 : Nat), (18 : Nat))]) ∈ lw_all := lw_g (lw_at lw_m11 50 rfl) rfl
theorem q2565 : (Jvm.Cond.methodLink "TollRoadLaw" (91 : Nat) ({ cls := "TollRoad", name := "bill", desc := "(II)I" } : Jvm.MethodName)) ∈ lw_all := lw_g (lw_at lw_m11 51 rfl) rfl
theorem q2566 : (Jvm.Cond.instanceMethod ({ cls := "TollRoad", name := "bill", desc := "(II)I" } : Jvm.MethodName)) ∈ lw_all := lw_g (lw_at lw_m11 52 rfl) rfl
theorem q2567 : (Jvm.Cond.selects "TollRoad" ({ cls := "TollRoad", name := "bill", desc := "(II)I" } : Jvm.MethodName) ({ cls := "TollRoad", name := "bill", desc := "(II)I" } : Jvm.MethodName)) ∈ lw_all := lw_g (lw_at lw_m11 53 rfl) rfl
theorem q2568 : (Jvm.Cond.code ({ cls := "TollRoad", name := "bill", desc := "(II)I" } : Jvm.MethodName) prog_1_method_40_code (4 : Nat) (Option.some Jvm.ClassFile.FieldType.int)) ∈ lw_all := lw_g (lw_at lw_m11 54 rfl) rfl
theorem q2569 : (Jvm.Cond.methodLink "TollRoad" (355 : Nat) ({ cls := "TollRoad", name := "isUntil", desc := "(I)Z" } : Jvm.MethodName)) ∈ lw_all := lw_g (lw_at lw_m11 55 rfl) rfl
theorem q2570 : (Jvm.Cond.static ({ cls := "TollRoad", name := "isUntil", desc := "(I)Z" } : Jvm.MethodName)) ∈ lw_all := lw_g (lw_at lw_m11 56 rfl) rfl
theorem q2571 : (Jvm.Cond.code ({ cls := "TollRoad", name := "isUntil", desc := "(I)Z" } : Jvm.MethodName) prog_1_method_39_code (1 : Nat) (Option.some Jvm.ClassFile.FieldType.boolean)) ∈ lw_all := lw_g (lw_at lw_m11 57 rfl) rfl
theorem q2572 : (Jvm.Cond.constantLong "TollRoad" (353 : Nat) (200000 : Int64)) ∈ lw_all := lw_g (lw_at lw_m11 58 rfl) rfl
theorem q2573 : (Jvm.Cond.methodLink "TollRoad" (358 : Nat) ({ cls := "TollRoad$World", name := "bill", desc := "(II)I" } : Jvm.MethodName)) ∈ lw_all := lw_g (lw_at lw_m11 59 rfl) rfl
theorem q2574 : (Jvm.Cond.instanceMethod ({ cls := "TollRoad$World", name := "bill", desc := "(II)I" } : Jvm.MethodName)) ∈ lw_all := lw_g (lw_at lw_m11 60 rfl) rfl
theorem q2575 : (Jvm.Cond.selects "TollRoad$World" ({ cls := "TollRoad$World", name := "bill", desc := "(II)I" } : Jvm.MethodName) ({ cls := "TollRoad$World", name := "bill", desc := "(II)I" } : Jvm.MethodName)) ∈ lw_all := lw_g (lw_at lw_m11 61 rfl) rfl
theorem q2576 : (Jvm.Cond.code ({ cls := "TollRoad$World", name := "bill", desc := "(II)I" } : Jvm.MethodName) prog_19_method_16_code (5 : Nat) (Option.some Jvm.ClassFile.FieldType.int)) ∈ lw_all := lw_g (lw_at lw_m11 62 rfl) rfl
theorem q2577 : (Jvm.Cond.methodLink "TollRoad$World" (261 : Nat) ({ cls := "TollRoad$World", name := "trips", desc := "(I)Ljava/util/ArrayList;" } : Jvm.MethodName)) ∈ lw_all := lw_g (lw_at lw_m11 63 rfl) rfl
theorem q2578 : (Jvm.Cond.methodLink "TollRoad$World" (265 : Nat) ({ cls := "TollRoad$World", name := "isEarly", desc := "(LTollRoad$Trip;I)Z" } : Jvm.MethodName)) ∈ lw_all := lw_g (lw_at lw_m11 64 rfl) rfl
theorem q2579 : (Jvm.Cond.instanceMethod ({ cls := "TollRoad$World", name := "isEarly", desc := "(LTollRoad$Trip;I)Z" } : Jvm.MethodName)) ∈ lw_all := lw_g (lw_at lw_m11 65 rfl) rfl
theorem q2580 : (Jvm.Cond.selects "TollRoad$World" ({ cls := "TollRoad$World", name := "isEarly", desc := "(LTollRoad$Trip;I)Z" } : Jvm.MethodName) ({ cls := "TollRoad$World", name := "isEarly", desc := "(LTollRoad$Trip;I)Z" } : Jvm.MethodName)) ∈ lw_all := lw_g (lw_at lw_m11 66 rfl) rfl
theorem q2581 : (Jvm.Cond.code ({ cls := "TollRoad$World", name := "isEarly", desc := "(LTollRoad$Trip;I)Z" } : Jvm.MethodName) prog_19_method_11_code (3 : Nat) (Option.some Jvm.ClassFile.FieldType.boolean)) ∈ lw_all := lw_g (lw_at lw_m11 67 rfl) rfl
theorem q2582 : (Jvm.Cond.methodLink "TollRoad$World" (193 : Nat) ({ cls := "TollRoad$Trip", name := "to", desc := "()I" } : Jvm.MethodName)) ∈ lw_all := lw_g (lw_at lw_m11 68 rfl) rfl
theorem q2583 : (Jvm.Cond.methodLink "TollRoad$World" (269 : Nat) ({ cls := "TollRoad$World", name := "bill", desc := "(ILTollRoad$Trip;I)LTollRoad$Bill;" } : Jvm.MethodName)) ∈ lw_all := lw_g (lw_at lw_m11 69 rfl) rfl
theorem q2584 : (Jvm.Cond.instanceMethod ({ cls := "TollRoad$World", name := "bill", desc := "(ILTollRoad$Trip;I)LTollRoad$Bill;" } : Jvm.MethodName)) ∈ lw_all := lw_g (lw_at lw_m11 70 rfl) rfl
theorem q2585 : (Jvm.Cond.selects "TollRoad$World" ({ cls := "TollRoad$World", name := "bill", desc := "(ILTollRoad$Trip;I)LTollRoad$Bill;" } : Jvm.MethodName) ({ cls := "TollRoad$World", name := "bill", desc := "(ILTollRoad$Trip;I)LTollRoad$Bill;" } : Jvm.MethodName)) ∈ lw_all := lw_g (lw_at lw_m11 71 rfl) rfl
theorem q2586 : (Jvm.Cond.code ({ cls := "TollRoad$World", name := "bill", desc := "(ILTollRoad$Trip;I)LTollRoad$Bill;" } : Jvm.MethodName) prog_19_method_12_code (7 : Nat) (Option.some (Jvm.ClassFile.FieldType.object "TollRoad$Bill"))) ∈ lw_all := lw_g (lw_at lw_m11 72 rfl) rfl
theorem q2587 : (Jvm.Cond.methodLink "TollRoad$World" (199 : Nat) ({ cls := "TollRoad$Trip", name := "imageCount", desc := "()I" } : Jvm.MethodName)) ∈ lw_all := lw_g (lw_at lw_m11 73 rfl) rfl
theorem q2588 : (Jvm.Cond.methodLink "TollRoad$World" (202 : Nat) ({ cls := "TollRoad$World", name := "accountOf", desc := "(I)LTollRoad$Account;" } : Jvm.MethodName)) ∈ lw_all := lw_g (lw_at lw_m11 74 rfl) rfl
theorem q2589 : (Jvm.Cond.instanceMethod ({ cls := "TollRoad$World", name := "accountOf", desc := "(I)LTollRoad$Account;" } : Jvm.MethodName)) ∈ lw_all := lw_g (lw_at lw_m11 75 rfl) rfl
theorem q2590 : (Jvm.Cond.selects "TollRoad$World" ({ cls := "TollRoad$World", name := "accountOf", desc := "(I)LTollRoad$Account;" } : Jvm.MethodName) ({ cls := "TollRoad$World", name := "accountOf", desc := "(I)LTollRoad$Account;" } : Jvm.MethodName)) ∈ lw_all := lw_g (lw_at lw_m11 76 rfl) rfl
theorem q2591 : (Jvm.Cond.code ({ cls := "TollRoad$World", name := "accountOf", desc := "(I)LTollRoad$Account;" } : Jvm.MethodName) prog_19_method_5_code (2 : Nat) (Option.some (Jvm.ClassFile.FieldType.object "TollRoad$Account"))) ∈ lw_all := lw_g (lw_at lw_m11 77 rfl) rfl
theorem q2592 : (Jvm.Cond.methodLink "TollRoad$World" (206 : Nat) ({ cls := "TollRoad$World", name := "reductionOf", desc := "(LTollRoad$Account;I)I" } : Jvm.MethodName)) ∈ lw_all := lw_g (lw_at lw_m11 78 rfl) rfl
theorem q2593 : (Jvm.Cond.instanceMethod ({ cls := "TollRoad$World", name := "reductionOf", desc := "(LTollRoad$Account;I)I" } : Jvm.MethodName)) ∈ lw_all := lw_g (lw_at lw_m11 79 rfl) rfl
theorem q2594 : (Jvm.Cond.selects "TollRoad$World" ({ cls := "TollRoad$World", name := "reductionOf", desc := "(LTollRoad$Account;I)I" } : Jvm.MethodName) ({ cls := "TollRoad$World", name := "reductionOf", desc := "(LTollRoad$Account;I)I" } : Jvm.MethodName)) ∈ lw_all := lw_g (lw_at lw_m11 80 rfl) rfl
theorem q2595 : (Jvm.Cond.codeWith ({ cls := "TollRoad$World", name := "reductionOf", desc := "(LTollRoad$Account;I)I" } : Jvm.MethodName) prog_19_method_6_code (4 : Nat) (Option.some Jvm.ClassFile.FieldType.int) [((0 : Nat), (5 : Nat), (6 : Nat), (136 : Nat))]) ∈ lw_all := lw_g (lw_at lw_m11 81 rfl) rfl
theorem q2596 : (Jvm.Cond.classLink "TollRoad$World" (136 : Nat) "java/lang/NullPointerException") ∈ lw_all := lw_g (lw_at lw_m11 82 rfl) rfl
theorem q2598 : (Jvm.Cond.methodLink "TollRoad$World" (132 : Nat) ({ cls := "TollRoad$Account", name := "reduction", desc := "(I)I" } : Jvm.MethodName)) ∈ lw_all := lw_g (lw_at lw_m11 84 rfl) rfl
theorem q2599 : (Jvm.Cond.instanceMethod ({ cls := "TollRoad$Account", name := "reduction", desc := "(I)I" } : Jvm.MethodName)) ∈ lw_all := lw_g (lw_at lw_m11 85 rfl) rfl
theorem q2600 : (Jvm.Cond.selects "TollRoad$Account" ({ cls := "TollRoad$Account", name := "reduction", desc := "(I)I" } : Jvm.MethodName) ({ cls := "TollRoad$Account", name := "reduction", desc := "(I)I" } : Jvm.MethodName)) ∈ lw_all := lw_g (lw_at lw_m11 86 rfl) rfl
theorem q2601 : (Jvm.Cond.code ({ cls := "TollRoad$Account", name := "reduction", desc := "(I)I" } : Jvm.MethodName) prog_2_method_3_code (2 : Nat) (Option.some Jvm.ClassFile.FieldType.int)) ∈ lw_all := lw_g (lw_at lw_m11 87 rfl) rfl
theorem q2602 : (Jvm.Cond.classLink "TollRoad$World" (94 : Nat) "TollRoad$Bill") ∈ lw_all := lw_g (lw_at lw_m11 88 rfl) rfl
theorem q2603 : (Jvm.Cond.instantiable "TollRoad$Bill" (10 : Nat)) ∈ lw_all := lw_g (lw_at lw_m11 89 rfl) rfl
theorem q2604 : (Jvm.Cond.methodLink "TollRoad$World" (210 : Nat) ({ cls := "TollRoad$Bill", name := "<init>", desc := "(IILTollRoad$Trip;III)V" } : Jvm.MethodName)) ∈ lw_all := lw_g (lw_at lw_m11 90 rfl) rfl
theorem q2605 : (Jvm.Cond.instanceMethod ({ cls := "TollRoad$Bill", name := "<init>", desc := "(IILTollRoad$Trip;III)V" } : Jvm.MethodName)) ∈ lw_all := lw_g (lw_at lw_m11 91 rfl) rfl
theorem q2606 : (Jvm.Cond.code ({ cls := "TollRoad$Bill", name := "<init>", desc := "(IILTollRoad$Trip;III)V" } : Jvm.MethodName) prog_3_method_1_code (7 : Nat) (Option.none : Option Jvm.ClassFile.FieldType)) ∈ lw_all := lw_g (lw_at lw_m11 92 rfl) rfl
theorem q2607 : (Jvm.Cond.methodLink "TollRoad$Bill" (3 : Nat) ({ cls := "java/lang/Object", name := "<init>", desc := "()V" } : Jvm.MethodName)) ∈ lw_all := lw_g (lw_at lw_m11 93 rfl) rfl
theorem q2608 : (Jvm.Cond.methodLink "TollRoad$Bill" (31 : Nat) ({ cls := "TollRoad$Trip", name := "toll", desc := "()I" } : Jvm.MethodName)) ∈ lw_all := lw_g (lw_at lw_m11 94 rfl) rfl
theorem q2609 : (Jvm.Cond.methodLink "TollRoad$Bill" (39 : Nat) ({ cls := "TollRoad$Priced", name := "amount", desc := "(LTollRoad$Priced;III)I" } : Jvm.MethodName)) ∈ lw_all := lw_g (lw_at lw_m11 95 rfl) rfl
theorem q2610 : (Jvm.Cond.static ({ cls := "TollRoad$Priced", name := "amount", desc := "(LTollRoad$Priced;III)I" } : Jvm.MethodName)) ∈ lw_all := lw_g (lw_at lw_m11 96 rfl) rfl
theorem q2611 : (Jvm.Cond.code ({ cls := "TollRoad$Priced", name := "amount", desc := "(LTollRoad$Priced;III)I" } : Jvm.MethodName) prog_11_method_4_code (4 : Nat) (Option.some Jvm.ClassFile.FieldType.int)) ∈ lw_all := lw_g (lw_at lw_m11 97 rfl) rfl
theorem q2613 : (Jvm.Cond.methodLink "TollRoad$Priced" (3 : Nat) ({ cls := "TollRoad$Priced", name := "toll", desc := "()I" } : Jvm.MethodName)) ∈ lw_all := lw_g (lw_at lw_m11 99 rfl) rfl
theorem q2614 : (Jvm.Cond.interfaceMethod "TollRoad$Priced" "TollRoad$Priced" "toll" "()I") ∈ lw_tbl := lw_at lw_m11 100 rfl
theorem q2615 : (Jvm.Cond.declares ({ cls := "TollRoad$Priced", name := "toll", desc := "()I" } : Jvm.MethodName)) ∈ lw_tbl := lw_at lw_m11 101 rfl
theorem q2616 : (Jvm.Cond.castable "TollRoad$Trip" "TollRoad$Priced") ∈ lw_tbl := lw_at lw_m11 102 rfl
theorem q2617 : (Jvm.Cond.selects "TollRoad$Trip" ({ cls := "TollRoad$Priced", name := "toll", desc := "()I" } : Jvm.MethodName) ({ cls := "TollRoad$Trip", name := "toll", desc := "()I" } : Jvm.MethodName)) ∈ lw_all := lw_g (lw_at lw_m11 103 rfl) rfl
theorem q2618 : (Jvm.Cond.unhidden "TollRoad$Trip" "toll" "()I") ∈ lw_tbl := lw_at lw_m11 104 rfl
theorem q2619 : (Jvm.Cond.publicMethod ({ cls := "TollRoad$Trip", name := "toll", desc := "()I" } : Jvm.MethodName)) ∈ lw_tbl := lw_at lw_m11 105 rfl
theorem q2621 : (Jvm.Cond.methodLink "TollRoad$Priced" (9 : Nat) ({ cls := "TollRoad$Priced", name := "discount", desc := "(I)I" } : Jvm.MethodName)) ∈ lw_all := lw_g (lw_at lw_m11 107 rfl) rfl
theorem q2622 : (Jvm.Cond.interfaceMethod "TollRoad$Priced" "TollRoad$Priced" "discount" "(I)I") ∈ lw_tbl := lw_at lw_m11 108 rfl
theorem q2623 : (Jvm.Cond.declares ({ cls := "TollRoad$Priced", name := "discount", desc := "(I)I" } : Jvm.MethodName)) ∈ lw_tbl := lw_at lw_m11 109 rfl
theorem q2624 : (Jvm.Cond.unhidden "TollRoad$Trip" "discount" "(I)I") ∈ lw_tbl := lw_at lw_m11 110 rfl
theorem q2625 : (Jvm.Cond.instanceMethod ({ cls := "TollRoad$Priced", name := "discount", desc := "(I)I" } : Jvm.MethodName)) ∈ lw_all := lw_g (lw_at lw_m11 111 rfl) rfl
theorem q2626 : (Jvm.Cond.publicMethod ({ cls := "TollRoad$Priced", name := "discount", desc := "(I)I" } : Jvm.MethodName)) ∈ lw_tbl := lw_at lw_m11 112 rfl
theorem q2627 : (Jvm.Cond.code ({ cls := "TollRoad$Priced", name := "discount", desc := "(I)I" } : Jvm.MethodName) prog_11_method_3_code (2 : Nat) (Option.some Jvm.ClassFile.FieldType.int)) ∈ lw_all := lw_g (lw_at lw_m11 113 rfl) rfl
theorem q2628 : (Jvm.Cond.fieldLink "TollRoad$Bill" (9 : Nat) "TollRoad$Bill" "vehicle" "I") ∈ lw_all := lw_g (lw_at lw_m11 114 rfl) rfl
theorem q2629 : (Jvm.Cond.fieldLinkNest "TollRoad$World" (222 : Nat) "TollRoad$Bill" "vehicle" "I" "TollRoad") ∈ lw_tbl := lw_at lw_m11 115 rfl
theorem q2630 : (Jvm.Cond.fieldLinkNest "TollRoad" (370 : Nat) "TollRoad$Bill" "vehicle" "I" "TollRoad") ∈ lw_tbl := lw_at lw_m11 116 rfl
theorem q2631 : (Jvm.Cond.fieldLink "TollRoad$Bill" (15 : Nat) "TollRoad$Bill" "account" "I") ∈ lw_all := lw_g (lw_at lw_m11 117 rfl) rfl
theorem q2632 : (Jvm.Cond.fieldLinkNest "TollRoad$World" (223 : Nat) "TollRoad$Bill" "account" "I" "TollRoad") ∈ lw_tbl := lw_at lw_m11 118 rfl
theorem q2633 : (Jvm.Cond.fieldLinkNest "TollRoad" (373 : Nat) "TollRoad$Bill" "account" "I" "TollRoad") ∈ lw_tbl := lw_at lw_m11 119 rfl
theorem q2634 : (Jvm.Cond.fieldLink "TollRoad$Bill" (45 : Nat) "TollRoad$Bill" "amount" "I") ∈ lw_all := lw_g (lw_at lw_m11 120 rfl) rfl
theorem q2635 : (Jvm.Cond.fieldLinkNest "TollRoad$World" (224 : Nat) "TollRoad$Bill" "amount" "I" "TollRoad") ∈ lw_tbl := lw_at lw_m11 121 rfl
theorem q2636 : (Jvm.Cond.fieldLinkNest "TollRoad" (374 : Nat) "TollRoad$Bill" "amount" "I" "TollRoad") ∈ lw_tbl := lw_at lw_m11 122 rfl
theorem q2637 : (Jvm.Cond.fieldLink "TollRoad$Bill" (37 : Nat) "TollRoad$Bill" "toll" "I") ∈ lw_all := lw_g (lw_at lw_m11 123 rfl) rfl
theorem q2638 : (Jvm.Cond.fieldLinkNest "TollRoad$World" (306 : Nat) "TollRoad$Bill" "toll" "I" "TollRoad") ∈ lw_tbl := lw_at lw_m11 124 rfl
theorem q2639 : (Jvm.Cond.fieldLinkNest "TollRoad" (377 : Nat) "TollRoad$Bill" "toll" "I" "TollRoad") ∈ lw_tbl := lw_at lw_m11 125 rfl
theorem q2640 : (Jvm.Cond.fieldLink "TollRoad$Bill" (22 : Nat) "TollRoad$Bill" "percent" "I") ∈ lw_all := lw_g (lw_at lw_m11 126 rfl) rfl
theorem q2641 : (Jvm.Cond.fieldLink "TollRoad$Bill" (25 : Nat) "TollRoad$Bill" "images" "I") ∈ lw_all := lw_g (lw_at lw_m11 127 rfl) rfl
theorem q2642 : (Jvm.Cond.fieldLinkNest "TollRoad$World" (310 : Nat) "TollRoad$Bill" "images" "I" "TollRoad") ∈ lw_tbl := lw_at lw_m11 128 rfl
theorem q2643 : (Jvm.Cond.fieldLinkNest "TollRoad" (381 : Nat) "TollRoad$Bill" "images" "I" "TollRoad") ∈ lw_tbl := lw_at lw_m11 129 rfl
theorem q2644 : (Jvm.Cond.fieldLink "TollRoad$Bill" (28 : Nat) "TollRoad$Bill" "invoice" "I") ∈ lw_all := lw_g (lw_at lw_m11 130 rfl) rfl
theorem q2645 : (Jvm.Cond.fieldLink "TollRoad$Bill" (18 : Nat) "TollRoad$Bill" "trip" "LTollRoad$Trip;") ∈ lw_all := lw_g (lw_at lw_m11 131 rfl) rfl
theorem q2646 : (Jvm.Cond.fieldLinkNest "TollRoad$World" (233 : Nat) "TollRoad$Bill" "trip" "LTollRoad$Trip;" "TollRoad") ∈ lw_tbl := lw_at lw_m11 132 rfl
theorem q2647 : (Jvm.Cond.fieldLinkNest "TollRoad" (384 : Nat) "TollRoad$Bill" "trip" "LTollRoad$Trip;" "TollRoad") ∈ lw_tbl := lw_at lw_m11 133 rfl
theorem q2648 : (Jvm.Cond.fieldLink "TollRoad$Bill" (50 : Nat) "TollRoad$Bill" "dispute" "I") ∈ lw_all := lw_g (lw_at lw_m11 134 rfl) rfl
theorem q2649 : (Jvm.Cond.fieldLinkNest "TollRoad" (170 : Nat) "TollRoad$Bill" "dispute" "I" "TollRoad") ∈ lw_tbl := lw_at lw_m11 135 rfl
theorem q2650 : (Jvm.Cond.fieldLinkNest "TollRoad$World" (327 : Nat) "TollRoad$Bill" "dispute" "I" "TollRoad") ∈ lw_tbl := lw_at lw_m11 136 rfl
theorem q2651 : (Jvm.Cond.fieldLink "TollRoad$Bill" (53 : Nat) "TollRoad$Bill" "refund" "I") ∈ lw_all := lw_g (lw_at lw_m11 137 rfl) rfl
theorem q2652 : (Jvm.Cond.fieldLinkNest "TollRoad$World" (330 : Nat) "TollRoad$Bill" "refund" "I" "TollRoad") ∈ lw_tbl := lw_at lw_m11 138 rfl
theorem q2653 : (Jvm.Cond.fieldLinkNest "TollRoad" (388 : Nat) "TollRoad$Bill" "refund" "I" "TollRoad") ∈ lw_tbl := lw_at lw_m11 139 rfl
theorem q2675 : (Jvm.Cond.methodLink "TollRoad$World" (272 : Nat) ({ cls := "TollRoad$World", name := "close", desc := "(LTollRoad$Bill;)V" } : Jvm.MethodName)) ∈ lw_all := lw_g (lw_at lw_m11 161 rfl) rfl
theorem q2677 : (Jvm.Cond.instanceMethod ({ cls := "TollRoad$World", name := "close", desc := "(LTollRoad$Bill;)V" } : Jvm.MethodName)) ∈ lw_all := lw_g (lw_at lw_m11 163 rfl) rfl
theorem q2678 : (Jvm.Cond.codeWith ({ cls := "TollRoad$World", name := "close", desc := "(LTollRoad$Bill;)V" } : Jvm.MethodName) prog_19_method_15_code (7 : Nat) (Option.none : Option Jvm.ClassFile.FieldType) [((24 : Nat), (32 : Nat), (35 : Nat), (136 : Nat))]) ∈ lw_all := lw_g (lw_at lw_m11 164 rfl) rfl
theorem q2679 : (Jvm.Cond.methodLink "TollRoad$World" (227 : Nat) ({ cls := "TollRoad$Account", name := "charge", desc := "(I)V" } : Jvm.MethodName)) ∈ lw_all := lw_g (lw_at lw_m11 165 rfl) rfl
theorem q2680 : (Jvm.Cond.instanceMethod ({ cls := "TollRoad$Account", name := "charge", desc := "(I)V" } : Jvm.MethodName)) ∈ lw_all := lw_g (lw_at lw_m11 166 rfl) rfl
theorem q2681 : (Jvm.Cond.selects "TollRoad$Account" ({ cls := "TollRoad$Account", name := "charge", desc := "(I)V" } : Jvm.MethodName) ({ cls := "TollRoad$Account", name := "charge", desc := "(I)V" } : Jvm.MethodName)) ∈ lw_all := lw_g (lw_at lw_m11 167 rfl) rfl
theorem q2682 : (Jvm.Cond.code ({ cls := "TollRoad$Account", name := "charge", desc := "(I)V" } : Jvm.MethodName) prog_2_method_4_code (2 : Nat) (Option.none : Option Jvm.ClassFile.FieldType)) ∈ lw_all := lw_g (lw_at lw_m11 168 rfl) rfl
theorem q2683 : (Jvm.Cond.methodLink "TollRoad$World" (241 : Nat) ({ cls := "java/lang/Math", name := "max", desc := "(II)I" } : Jvm.MethodName)) ∈ lw_all := lw_g (lw_at lw_m11 169 rfl) rfl
theorem q2684 : (Jvm.Cond.methodLink "TollRoad$World" (250 : Nat) ({ cls := "TollRoad$Trip", name := "marks", desc := "()[Z" } : Jvm.MethodName)) ∈ lw_all := lw_g (lw_at lw_m11 170 rfl) rfl
theorem q2685 : (Jvm.Cond.instanceMethod ({ cls := "TollRoad$Trip", name := "marks", desc := "()[Z" } : Jvm.MethodName)) ∈ lw_all := lw_g (lw_at lw_m11 171 rfl) rfl
theorem q2686 : (Jvm.Cond.selects "TollRoad$Trip" ({ cls := "TollRoad$Trip", name := "marks", desc := "()[Z" } : Jvm.MethodName) ({ cls := "TollRoad$Trip", name := "marks", desc := "()[Z" } : Jvm.MethodName)) ∈ lw_all := lw_g (lw_at lw_m11 172 rfl) rfl
theorem q2687 : (Jvm.Cond.code ({ cls := "TollRoad$Trip", name := "marks", desc := "()[Z" } : Jvm.MethodName) prog_17_method_7_code (6 : Nat) (Option.some (Jvm.ClassFile.FieldType.array Jvm.ClassFile.FieldType.boolean))) ∈ lw_all := lw_g (lw_at lw_m11 173 rfl) rfl
theorem q2688 : (Jvm.Cond.classLink "TollRoad$Trip" (37 : Nat) "java/lang/Integer") ∈ lw_all := lw_g (lw_at lw_m11 174 rfl) rfl
theorem q2689 : (Jvm.Cond.methodLink "TollRoad$Trip" (95 : Nat) ({ cls := "java/lang/Integer", name := "intValue", desc := "()I" } : Jvm.MethodName)) ∈ lw_all := lw_g (lw_at lw_m11 175 rfl) rfl
theorem q2690 : (Jvm.Cond.methodLink "TollRoad$World" (256 : Nat) ({ cls := "TollRoad$World", name := "mark", desc := "(IZ)V" } : Jvm.MethodName)) ∈ lw_all := lw_g (lw_at lw_m11 176 rfl) rfl
theorem q2692 : (Jvm.Cond.instanceMethod ({ cls := "TollRoad$World", name := "mark", desc := "(IZ)V" } : Jvm.MethodName)) ∈ lw_all := lw_g (lw_at lw_m11 178 rfl) rfl
theorem q2693 : (Jvm.Cond.code ({ cls := "TollRoad$World", name := "mark", desc := "(IZ)V" } : Jvm.MethodName) prog_19_method_13_code (5 : Nat) (Option.none : Option Jvm.ClassFile.FieldType)) ∈ lw_all := lw_g (lw_at lw_m11 179 rfl) rfl
theorem q2694 : (Jvm.Cond.methodLink "TollRoad$World" (118 : Nat) ({ cls := "java/util/HashMap", name := "put", desc := "(Ljava/lang/Object;Ljava/lang/Object;)Ljava/lang/Object;" } : Jvm.MethodName)) ∈ lw_all := lw_g (lw_at lw_m11 180 rfl) rfl
theorem q2695 : (Jvm.Cond.instanceMethod ({ cls := "java/util/HashMap", name := "put", desc := "(Ljava/lang/Object;Ljava/lang/Object;)Ljava/lang/Object;" } : Jvm.MethodName)) ∈ lw_all := lw_g (lw_at lw_m11 181 rfl) rfl
theorem q2696 : (Jvm.Cond.selects "java/util/HashMap" ({ cls := "java/util/HashMap", name := "put", desc := "(Ljava/lang/Object;Ljava/lang/Object;)Ljava/lang/Object;" } : Jvm.MethodName) ({ cls := "java/util/HashMap", name := "put", desc := "(Ljava/lang/Object;Ljava/lang/Object;)Ljava/lang/Object;" } : Jvm.MethodName)) ∈ lw_all := lw_g (lw_at lw_m11 182 rfl) rfl
theorem q2697 : (Jvm.Cond.code ({ cls := "java/util/HashMap", name := "put", desc := "(Ljava/lang/Object;Ljava/lang/Object;)Ljava/lang/Object;" } : Jvm.MethodName) prog_61_method_15_code (3 : Nat) (Option.some (Jvm.ClassFile.FieldType.object "java/lang/Object"))) ∈ lw_all := lw_g (lw_at lw_m11 183 rfl) rfl
theorem q2698 : (Jvm.Cond.methodLink "java/util/HashMap" (152 : Nat) ({ cls := "java/util/HashMap", name := "putVal", desc := "(ILjava/lang/Object;Ljava/lang/Object;ZZ)Ljava/lang/Object;" } : Jvm.MethodName)) ∈ lw_all := lw_g (lw_at lw_m11 184 rfl) rfl
theorem q2699 : (Jvm.Cond.instanceMethod ({ cls := "java/util/HashMap", name := "putVal", desc := "(ILjava/lang/Object;Ljava/lang/Object;ZZ)Ljava/lang/Object;" } : Jvm.MethodName)) ∈ lw_all := lw_g (lw_at lw_m11 185 rfl) rfl
theorem q2700 : (Jvm.Cond.selects "java/util/HashMap" ({ cls := "java/util/HashMap", name := "putVal", desc := "(ILjava/lang/Object;Ljava/lang/Object;ZZ)Ljava/lang/Object;" } : Jvm.MethodName) ({ cls := "java/util/HashMap", name := "putVal", desc := "(ILjava/lang/Object;Ljava/lang/Object;ZZ)Ljava/lang/Object;" } : Jvm.MethodName)) ∈ lw_all := lw_g (lw_at lw_m11 186 rfl) rfl
theorem q2701 : (Jvm.Cond.code ({ cls := "java/util/HashMap", name := "putVal", desc := "(ILjava/lang/Object;Ljava/lang/Object;ZZ)Ljava/lang/Object;" } : Jvm.MethodName) prog_61_method_16_code (13 : Nat) (Option.some (Jvm.ClassFile.FieldType.object "java/lang/Object"))) ∈ lw_all := lw_g (lw_at lw_m11 187 rfl) rfl
theorem q2702 : (Jvm.Cond.methodLink "java/util/HashMap" (117 : Nat) ({ cls := "java/util/HashMap", name := "resize", desc := "()[Ljava/util/HashMap$Node;" } : Jvm.MethodName)) ∈ lw_all := lw_g (lw_at lw_m11 188 rfl) rfl
theorem q2703 : (Jvm.Cond.instanceMethod ({ cls := "java/util/HashMap", name := "resize", desc := "()[Ljava/util/HashMap$Node;" } : Jvm.MethodName)) ∈ lw_all := lw_g (lw_at lw_m11 189 rfl) rfl
theorem q2704 : (Jvm.Cond.selects "java/util/HashMap" ({ cls := "java/util/HashMap", name := "resize", desc := "()[Ljava/util/HashMap$Node;" } : Jvm.MethodName) ({ cls := "java/util/HashMap", name := "resize", desc := "()[Ljava/util/HashMap$Node;" } : Jvm.MethodName)) ∈ lw_all := lw_g (lw_at lw_m11 190 rfl) rfl
theorem q2705 : (Jvm.Cond.code ({ cls := "java/util/HashMap", name := "resize", desc := "()[Ljava/util/HashMap$Node;" } : Jvm.MethodName) prog_61_method_17_code (14 : Nat) (Option.some (Jvm.ClassFile.FieldType.array (Jvm.ClassFile.FieldType.object "java/util/HashMap$Node")))) ∈ lw_all := lw_g (lw_at lw_m11 191 rfl) rfl
theorem q2706 : (Jvm.Cond.constant "java/util/HashMap" (42 : Nat) (1073741824 : Int32)) ∈ lw_all := lw_g (lw_at lw_m11 192 rfl) rfl
theorem q2707 : (Jvm.Cond.constant "java/util/HashMap" (209 : Nat) (2147483647 : Int32)) ∈ lw_all := lw_g (lw_at lw_m11 193 rfl) rfl
theorem q2708 : (Jvm.Cond.constantFloat "java/util/HashMap" (210 : Nat) (1317011456 : UInt32)) ∈ lw_all := lw_g (lw_at lw_m11 194 rfl) rfl
theorem q2709 : (Jvm.Cond.classLink "java/util/HashMap" (163 : Nat) "java/util/HashMap$Node") ∈ lw_all := lw_g (lw_at lw_m11 195 rfl) rfl
theorem q2710 : (Jvm.Cond.arrayOver (Jvm.ClassFile.FieldType.object "java/util/HashMap$Node")) ∈ lw_tbl := lw_at lw_m11 196 rfl
theorem q2711 : (Jvm.Cond.methodLink "java/util/HashMap" (211 : Nat) ({ cls := "java/util/HashMap$TreeNode", name := "split", desc := "(Ljava/util/HashMap;[Ljava/util/HashMap$Node;II)V" } : Jvm.MethodName)) ∈ lw_all := lw_g (lw_at lw_m11 197 rfl) rfl
theorem q2724 : (Jvm.Cond.instantiable "java/util/HashMap$Node" (4 : Nat)) ∈ lw_all := lw_g (lw_at lw_m11 210 rfl) rfl
theorem q2725 : (Jvm.Cond.methodLink "java/util/HashMap" (375 : Nat) ({ cls := "java/util/HashMap$Node", name := "<init>", desc := "(ILjava/lang/Object;Ljava/lang/Object;Ljava/util/HashMap$Node;)V" } : Jvm.MethodName)) ∈ lw_all := lw_g (lw_at lw_m11 211 rfl) rfl
theorem q2726 : (Jvm.Cond.instanceMethod ({ cls := "java/util/HashMap$Node", name := "<init>", desc := "(ILjava/lang/Object;Ljava/lang/Object;Ljava/util/HashMap$Node;)V" } : Jvm.MethodName)) ∈ lw_all := lw_g (lw_at lw_m11 212 rfl) rfl
theorem q2727 : (Jvm.Cond.code ({ cls := "java/util/HashMap$Node", name := "<init>", desc := "(ILjava/lang/Object;Ljava/lang/Object;Ljava/util/HashMap$Node;)V" } : Jvm.MethodName) prog_65_method_1_code (5 : Nat) (Option.none : Option Jvm.ClassFile.FieldType)) ∈ lw_all := lw_g (lw_at lw_m11 213 rfl) rfl
theorem q2728 : (Jvm.Cond.methodLink "java/util/HashMap$Node" (1 : Nat) ({ cls := "java/lang/Object", name := "<init>", desc := "()V" } : Jvm.MethodName)) ∈ lw_all := lw_g (lw_at lw_m11 214 rfl) rfl
theorem q2729 : (Jvm.Cond.fieldLink "java/util/HashMap$Node" (7 : Nat) "java/util/HashMap$Node" "hash" "I") ∈ lw_all := lw_g (lw_at lw_m11 215 rfl) rfl
theorem q2732 : (Jvm.Cond.fieldLink "java/util/HashMap" (168 : Nat) "java/util/HashMap$Node" "hash" "I") ∈ lw_all := lw_g (lw_at lw_m11 218 rfl) rfl
theorem q2733 : (Jvm.Cond.fieldLink "java/util/HashMap$Node" (13 : Nat) "java/util/HashMap$Node" "key" "Ljava/lang/Object;") ∈ lw_all := lw_g (lw_at lw_m11 219 rfl) rfl
theorem q2736 : (Jvm.Cond.fieldLink "java/util/HashMap" (170 : Nat) "java/util/HashMap$Node" "key" "Ljava/lang/Object;") ∈ lw_all := lw_g (lw_at lw_m11 222 rfl) rfl
theorem q2737 : (Jvm.Cond.fieldLink "java/util/HashMap$Node" (17 : Nat) "java/util/HashMap$Node" "value" "Ljava/lang/Object;") ∈ lw_all := lw_g (lw_at lw_m11 223 rfl) rfl
theorem q2738 : (Jvm.Cond.fieldLink "java/util/HashMap" (162 : Nat) "java/util/HashMap$Node" "value" "Ljava/lang/Object;") ∈ lw_all := lw_g (lw_at lw_m11 224 rfl) rfl
theorem q2739 : (Jvm.Cond.fieldLink "java/util/HashMap$Node" (20 : Nat) "java/util/HashMap$Node" "next" "Ljava/util/HashMap$Node;") ∈ lw_all := lw_g (lw_at lw_m11 225 rfl) rfl
theorem q2740 : (Jvm.Cond.fieldLink "java/util/HashMap$HashIterator" (45 : Nat) "java/util/HashMap$Node" "next" "Ljava/util/HashMap$Node;") ∈ lw_all := lw_g (lw_at lw_m11 226 rfl) rfl
theorem q2744 : (Jvm.Cond.fieldLink "java/util/HashMap" (177 : Nat) "java/util/HashMap$Node" "next" "Ljava/util/HashMap$Node;") ∈ lw_all := lw_g (lw_at lw_m11 230 rfl) rfl
theorem q2755 : (Jvm.Cond.arrayClass Jvm.ClassFile.FieldType.boolean) ∈ lw_all := lw_g (lw_at lw_m12 1 rfl) rfl
theorem q2774 : (Jvm.Cond.methodLink "java/util/HashMap" (186 : Nat) ({ cls := "java/util/HashMap", name := "newNode", desc := "(ILjava/lang/Object;Ljava/lang/Object;Ljava/util/HashMap$Node;)Ljava/util/HashMap$Node;" } : Jvm.MethodName)) ∈ lw_all := lw_g (lw_at lw_m12 20 rfl) rfl
theorem q2775 : (Jvm.Cond.instanceMethod ({ cls := "java/util/HashMap", name := "newNode", desc := "(ILjava/lang/Object;Ljava/lang/Object;Ljava/util/HashMap$Node;)Ljava/util/HashMap$Node;" } : Jvm.MethodName)) ∈ lw_all := lw_g (lw_at lw_m12 21 rfl) rfl
theorem q2776 : (Jvm.Cond.selects "java/util/HashMap" ({ cls := "java/util/HashMap", name := "newNode", desc := "(ILjava/lang/Object;Ljava/lang/Object;Ljava/util/HashMap$Node;)Ljava/util/HashMap$Node;" } : Jvm.MethodName) ({ cls := "java/util/HashMap", name := "newNode", desc := "(ILjava/lang/Object;Ljava/lang/Object;Ljava/util/HashMap$Node;)Ljava/util/HashMap$Node;" } : Jvm.MethodName)) ∈ lw_all := lw_g (lw_at lw_m12 22 rfl) rfl
theorem q2777 : (Jvm.Cond.code ({ cls := "java/util/HashMap", name := "newNode", desc := "(ILjava/lang/Object;Ljava/lang/Object;Ljava/util/HashMap$Node;)Ljava/util/HashMap$Node;" } : Jvm.MethodName) prog_61_method_46_code (5 : Nat) (Option.some (Jvm.ClassFile.FieldType.object "java/util/HashMap$Node"))) ∈ lw_all := lw_g (lw_at lw_m12 23 rfl) rfl
theorem q2778 : (Jvm.Cond.methodLink "java/util/HashMap" (190 : Nat) ({ cls := "java/util/HashMap$TreeNode", name := "putTreeVal", desc := "(Ljava/util/HashMap;[Ljava/util/HashMap$Node;ILjava/lang/Object;Ljava/lang/Object;)Ljava/util/HashMap$TreeNode;" } : Jvm.MethodName)) ∈ lw_all := lw_g (lw_at lw_m12 24 rfl) rfl
theorem q2819 : (Jvm.Cond.methodLink "java/util/HashMap" (194 : Nat) ({ cls := "java/util/HashMap", name := "treeifyBin", desc := "([Ljava/util/HashMap$Node;I)V" } : Jvm.MethodName)) ∈ lw_all := lw_g (lw_at lw_m12 65 rfl) rfl
theorem q2828 : (Jvm.Cond.methodLink "java/util/HashMap" (198 : Nat) ({ cls := "java/util/HashMap", name := "afterNodeAccess", desc := "(Ljava/util/HashMap$Node;)V" } : Jvm.MethodName)) ∈ lw_all := lw_g (lw_at lw_m12 74 rfl) rfl
theorem q2829 : (Jvm.Cond.instanceMethod ({ cls := "java/util/HashMap", name := "afterNodeAccess", desc := "(Ljava/util/HashMap$Node;)V" } : Jvm.MethodName)) ∈ lw_all := lw_g (lw_at lw_m12 75 rfl) rfl
theorem q2830 : (Jvm.Cond.selects "java/util/HashMap" ({ cls := "java/util/HashMap", name := "afterNodeAccess", desc := "(Ljava/util/HashMap$Node;)V" } : Jvm.MethodName) ({ cls := "java/util/HashMap", name := "afterNodeAccess", desc := "(Ljava/util/HashMap$Node;)V" } : Jvm.MethodName)) ∈ lw_all := lw_g (lw_at lw_m12 76 rfl) rfl
theorem q2831 : (Jvm.Cond.code ({ cls := "java/util/HashMap", name := "afterNodeAccess", desc := "(Ljava/util/HashMap$Node;)V" } : Jvm.MethodName) prog_61_method_51_code (2 : Nat) (Option.none : Option Jvm.ClassFile.FieldType)) ∈ lw_all := lw_g (lw_at lw_m12 77 rfl) rfl
theorem q2832 : (Jvm.Cond.methodLink "java/util/HashMap" (205 : Nat) ({ cls := "java/util/HashMap", name := "afterNodeInsertion", desc := "(Z)V" } : Jvm.MethodName)) ∈ lw_all := lw_g (lw_at lw_m12 78 rfl) rfl
theorem q2833 : (Jvm.Cond.instanceMethod ({ cls := "java/util/HashMap", name := "afterNodeInsertion", desc := "(Z)V" } : Jvm.MethodName)) ∈ lw_all := lw_g (lw_at lw_m12 79 rfl) rfl
theorem q2834 : (Jvm.Cond.selects "java/util/HashMap" ({ cls := "java/util/HashMap", name := "afterNodeInsertion", desc := "(Z)V" } : Jvm.MethodName) ({ cls := "java/util/HashMap", name := "afterNodeInsertion", desc := "(Z)V" } : Jvm.MethodName)) ∈ lw_all := lw_g (lw_at lw_m12 80 rfl) rfl
theorem q2835 : (Jvm.Cond.code ({ cls := "java/util/HashMap", name := "afterNodeInsertion", desc := "(Z)V" } : Jvm.MethodName) prog_61_method_52_code (2 : Nat) (Option.none : Option Jvm.ClassFile.FieldType)) ∈ lw_all := lw_g (lw_at lw_m12 81 rfl) rfl
theorem q2836 : (Jvm.Cond.methodLink "TollRoadLaw" (227 : Nat) ({ cls := "TollRoadLaw", name := "billAll", desc := "(LTollRoad;I[J)I" } : Jvm.MethodName)) ∈ lw_all := lw_g (lw_at lw_m12 82 rfl) rfl
theorem q2837 : (Jvm.Cond.static ({ cls := "TollRoadLaw", name := "billAll", desc := "(LTollRoad;I[J)I" } : Jvm.MethodName)) ∈ lw_all := lw_g (lw_at lw_m12 83 rfl) rfl
theorem q2838 : (Jvm.Cond.codeWith ({ cls := "TollRoadLaw", name := "billAll", desc := "(LTollRoad;I[J)I" } : Jvm.MethodName) method_28_code (4 : Nat) (Option.some Jvm.ClassFile.FieldType.int) [((0 : Nat), (9 : Nat), (12 : Nat), (18 : Nat))]) ∈ lw_all := lw_g (lw_at lw_m12 84 rfl) rfl
theorem q2839 : (Jvm.Cond.methodLink "TollRoadLaw" (94 : Nat) ({ cls := "TollRoad", name := "billAll", desc := "(I)I" } : Jvm.MethodName)) ∈ lw_all := lw_g (lw_at lw_m12 85 rfl) rfl
theorem q2840 : (Jvm.Cond.instanceMethod ({ cls := "TollRoad", name := "billAll", desc := "(I)I" } : Jvm.MethodName)) ∈ lw_all := lw_g (lw_at lw_m12 86 rfl) rfl
theorem q2841 : (Jvm.Cond.selects "TollRoad" ({ cls := "TollRoad", name := "billAll", desc := "(I)I" } : Jvm.MethodName) ({ cls := "TollRoad", name := "billAll", desc := "(I)I" } : Jvm.MethodName)) ∈ lw_all := lw_g (lw_at lw_m12 87 rfl) rfl
theorem q2842 : (Jvm.Cond.code ({ cls := "TollRoad", name := "billAll", desc := "(I)I" } : Jvm.MethodName) prog_1_method_41_code (4 : Nat) (Option.some Jvm.ClassFile.FieldType.int)) ∈ lw_all := lw_g (lw_at lw_m12 88 rfl) rfl
theorem q2843 : (Jvm.Cond.methodLink "TollRoadLaw" (230 : Nat) ({ cls := "TollRoadLaw", name := "due", desc := "(LTollRoad;II[J)I" } : Jvm.MethodName)) ∈ lw_all := lw_g (lw_at lw_m12 89 rfl) rfl
theorem q2844 : (Jvm.Cond.static ({ cls := "TollRoadLaw", name := "due", desc := "(LTollRoad;II[J)I" } : Jvm.MethodName)) ∈ lw_all := lw_g (lw_at lw_m12 90 rfl) rfl
theorem q2845 : (Jvm.Cond.codeWith ({ cls := "TollRoadLaw", name := "due", desc := "(LTollRoad;II[J)I" } : Jvm.MethodName) method_29_code (5 : Nat) (Option.some Jvm.ClassFile.FieldType.int) [((0 : Nat), (10 : Nat), (13 : Nat), (27 : Nat)), ((0 : Nat), (10 : Nat), (17 : Nat), (18 : Nat))]) ∈ lw_all := lw_g (lw_at lw_m12 91 rfl) rfl
theorem q2846 : (Jvm.Cond.methodLink "TollRoadLaw" (97 : Nat) ({ cls := "TollRoad", name := "due", desc := "(II)I" } : Jvm.MethodName)) ∈ lw_all := lw_g (lw_at lw_m12 92 rfl) rfl
theorem q2847 : (Jvm.Cond.instanceMethod ({ cls := "TollRoad", name := "due", desc := "(II)I" } : Jvm.MethodName)) ∈ lw_all := lw_g (lw_at lw_m12 93 rfl) rfl
theorem q2848 : (Jvm.Cond.selects "TollRoad" ({ cls := "TollRoad", name := "due", desc := "(II)I" } : Jvm.MethodName) ({ cls := "TollRoad", name := "due", desc := "(II)I" } : Jvm.MethodName)) ∈ lw_all := lw_g (lw_at lw_m12 94 rfl) rfl
theorem q2849 : (Jvm.Cond.code ({ cls := "TollRoad", name := "due", desc := "(II)I" } : Jvm.MethodName) prog_1_method_42_code (4 : Nat) (Option.some Jvm.ClassFile.FieldType.int)) ∈ lw_all := lw_g (lw_at lw_m12 95 rfl) rfl
theorem q2850 : (Jvm.Cond.methodLink "TollRoad" (361 : Nat) ({ cls := "TollRoad$World", name := "due", desc := "(II)I" } : Jvm.MethodName)) ∈ lw_all := lw_g (lw_at lw_m12 96 rfl) rfl
theorem q2851 : (Jvm.Cond.instanceMethod ({ cls := "TollRoad$World", name := "due", desc := "(II)I" } : Jvm.MethodName)) ∈ lw_all := lw_g (lw_at lw_m12 97 rfl) rfl
theorem q2852 : (Jvm.Cond.selects "TollRoad$World" ({ cls := "TollRoad$World", name := "due", desc := "(II)I" } : Jvm.MethodName) ({ cls := "TollRoad$World", name := "due", desc := "(II)I" } : Jvm.MethodName)) ∈ lw_all := lw_g (lw_at lw_m12 98 rfl) rfl
theorem q2853 : (Jvm.Cond.code ({ cls := "TollRoad$World", name := "due", desc := "(II)I" } : Jvm.MethodName) prog_19_method_17_code (6 : Nat) (Option.some Jvm.ClassFile.FieldType.int)) ∈ lw_all := lw_g (lw_at lw_m12 99 rfl) rfl
theorem q2854 : (Jvm.Cond.methodLink "TollRoadLaw" (233 : Nat) ({ cls := "TollRoadLaw", name := "billed", desc := "(LTollRoad;II[J)I" } : Jvm.MethodName)) ∈ lw_all := lw_g (lw_at lw_m12 100 rfl) rfl
theorem q2855 : (Jvm.Cond.static ({ cls := "TollRoadLaw", name := "billed", desc := "(LTollRoad;II[J)I" } : Jvm.MethodName)) ∈ lw_all := lw_g (lw_at lw_m12 101 rfl) rfl
theorem q2856 : (Jvm.Cond.codeWith ({ cls := "TollRoadLaw", name := "billed", desc := "(LTollRoad;II[J)I" } : Jvm.MethodName) method_30_code (5 : Nat) (Option.some Jvm.ClassFile.FieldType.int) [((0 : Nat), (10 : Nat), (13 : Nat), (27 : Nat)), ((0 : Nat), (10 : Nat), (17 : Nat), (18 : Nat))]) ∈ lw_all := lw_g (lw_at lw_m12 102 rfl) rfl
theorem q2857 : (Jvm.Cond.methodLink "TollRoadLaw" (100 : Nat) ({ cls := "TollRoad", name := "billed", desc := "(II)I" } : Jvm.MethodName)) ∈ lw_all := lw_g (lw_at lw_m12 103 rfl) rfl
theorem q2858 : (Jvm.Cond.instanceMethod ({ cls := "TollRoad", name := "billed", desc := "(II)I" } : Jvm.MethodName)) ∈ lw_all := lw_g (lw_at lw_m12 104 rfl) rfl
theorem q2859 : (Jvm.Cond.selects "TollRoad" ({ cls := "TollRoad", name := "billed", desc := "(II)I" } : Jvm.MethodName) ({ cls := "TollRoad", name := "billed", desc := "(II)I" } : Jvm.MethodName)) ∈ lw_all := lw_g (lw_at lw_m12 105 rfl) rfl
theorem q2860 : (Jvm.Cond.code ({ cls := "TollRoad", name := "billed", desc := "(II)I" } : Jvm.MethodName) prog_1_method_44_code (4 : Nat) (Option.some Jvm.ClassFile.FieldType.int)) ∈ lw_all := lw_g (lw_at lw_m12 106 rfl) rfl
theorem q2861 : (Jvm.Cond.methodLink "TollRoad" (364 : Nat) ({ cls := "TollRoad", name := "billAt", desc := "(I)LTollRoad$Bill;" } : Jvm.MethodName)) ∈ lw_all := lw_g (lw_at lw_m12 107 rfl) rfl
theorem q2863 : (Jvm.Cond.instanceMethod ({ cls := "TollRoad", name := "billAt", desc := "(I)LTollRoad$Bill;" } : Jvm.MethodName)) ∈ lw_all := lw_g (lw_at lw_m12 109 rfl) rfl
theorem q2864 : (Jvm.Cond.code ({ cls := "TollRoad", name := "billAt", desc := "(I)LTollRoad$Bill;" } : Jvm.MethodName) prog_1_method_43_code (2 : Nat) (Option.some (Jvm.ClassFile.FieldType.object "TollRoad$Bill"))) ∈ lw_all := lw_g (lw_at lw_m12 110 rfl) rfl
theorem q2865 : (Jvm.Cond.constantLong "TollRoad" (368 : Nat) (12 : Int64)) ∈ lw_all := lw_g (lw_at lw_m12 111 rfl) rfl
theorem q2866 : (Jvm.Cond.methodLink "TollRoad" (378 : Nat) ({ cls := "TollRoad$Bill", name := "discount", desc := "()I" } : Jvm.MethodName)) ∈ lw_all := lw_g (lw_at lw_m12 112 rfl) rfl
theorem q2867 : (Jvm.Cond.instanceMethod ({ cls := "TollRoad$Bill", name := "discount", desc := "()I" } : Jvm.MethodName)) ∈ lw_all := lw_g (lw_at lw_m12 113 rfl) rfl
theorem q2868 : (Jvm.Cond.selects "TollRoad$Bill" ({ cls := "TollRoad$Bill", name := "discount", desc := "()I" } : Jvm.MethodName) ({ cls := "TollRoad$Bill", name := "discount", desc := "()I" } : Jvm.MethodName)) ∈ lw_all := lw_g (lw_at lw_m12 114 rfl) rfl
theorem q2869 : (Jvm.Cond.code ({ cls := "TollRoad$Bill", name := "discount", desc := "()I" } : Jvm.MethodName) prog_3_method_3_code (2 : Nat) (Option.some Jvm.ClassFile.FieldType.int)) ∈ lw_all := lw_g (lw_at lw_m12 115 rfl) rfl
theorem q2871 : (Jvm.Cond.methodLink "TollRoad$Bill" (56 : Nat) ({ cls := "TollRoad$Priced", name := "discount", desc := "(I)I" } : Jvm.MethodName)) ∈ lw_all := lw_g (lw_at lw_m12 117 rfl) rfl
theorem q2872 : (Jvm.Cond.methodLink "TollRoadLaw" (236 : Nat) ({ cls := "TollRoadLaw", name := "billedGantry", desc := "(LTollRoad;II[J)I" } : Jvm.MethodName)) ∈ lw_all := lw_g (lw_at lw_m12 118 rfl) rfl
theorem q2873 : (Jvm.Cond.static ({ cls := "TollRoadLaw", name := "billedGantry", desc := "(LTollRoad;II[J)I" } : Jvm.MethodName)) ∈ lw_all := lw_g (lw_at lw_m12 119 rfl) rfl
theorem q2874 : (Jvm.Cond.codeWith ({ cls := "TollRoadLaw", name := "billedGantry", desc := "(LTollRoad;II[J)I" } : Jvm.MethodName) method_31_code (5 : Nat) (Option.some Jvm.ClassFile.FieldType.int) [((0 : Nat), (10 : Nat), (13 : Nat), (27 : Nat))]) ∈ lw_all := lw_g (lw_at lw_m12 120 rfl) rfl
theorem q2875 : (Jvm.Cond.methodLink "TollRoadLaw" (103 : Nat) ({ cls := "TollRoad", name := "billedGantry", desc := "(II)I" } : Jvm.MethodName)) ∈ lw_all := lw_g (lw_at lw_m12 121 rfl) rfl
theorem q2876 : (Jvm.Cond.instanceMethod ({ cls := "TollRoad", name := "billedGantry", desc := "(II)I" } : Jvm.MethodName)) ∈ lw_all := lw_g (lw_at lw_m12 122 rfl) rfl
theorem q2877 : (Jvm.Cond.selects "TollRoad" ({ cls := "TollRoad", name := "billedGantry", desc := "(II)I" } : Jvm.MethodName) ({ cls := "TollRoad", name := "billedGantry", desc := "(II)I" } : Jvm.MethodName)) ∈ lw_all := lw_g (lw_at lw_m12 123 rfl) rfl
theorem q2878 : (Jvm.Cond.code ({ cls := "TollRoad", name := "billedGantry", desc := "(II)I" } : Jvm.MethodName) prog_1_method_45_code (4 : Nat) (Option.some Jvm.ClassFile.FieldType.int)) ∈ lw_all := lw_g (lw_at lw_m12 124 rfl) rfl
theorem q2879 : (Jvm.Cond.methodLink "TollRoadLaw" (239 : Nat) ({ cls := "TollRoadLaw", name := "dispute", desc := "(LTollRoad;II[J)I" } : Jvm.MethodName)) ∈ lw_all := lw_g (lw_at lw_m12 125 rfl) rfl
theorem q2880 : (Jvm.Cond.static ({ cls := "TollRoadLaw", name := "dispute", desc := "(LTollRoad;II[J)I" } : Jvm.MethodName)) ∈ lw_all := lw_g (lw_at lw_m12 126 rfl) rfl
theorem q2881 : (Jvm.Cond.codeWith ({ cls := "TollRoadLaw", name := "dispute", desc := "(LTollRoad;II[J)I" } : Jvm.MethodName) method_32_code (5 : Nat) (Option.some Jvm.ClassFile.FieldType.int) [((0 : Nat), (10 : Nat), (13 : Nat), (27 : Nat)), ((0 : Nat), (10 : Nat), (17 : Nat), (18 : Nat)), ((0 : Nat), (10 : Nat), (21 : Nat), (13 : Nat))]) ∈ lw_all := lw_g (lw_at lw_m12 127 rfl) rfl
theorem q2882 : (Jvm.Cond.methodLink "TollRoadLaw" (106 : Nat) ({ cls := "TollRoad", name := "dispute", desc := "(II)I" } : Jvm.MethodName)) ∈ lw_all := lw_g (lw_at lw_m12 128 rfl) rfl
theorem q2883 : (Jvm.Cond.instanceMethod ({ cls := "TollRoad", name := "dispute", desc := "(II)I" } : Jvm.MethodName)) ∈ lw_all := lw_g (lw_at lw_m12 129 rfl) rfl
theorem q2884 : (Jvm.Cond.selects "TollRoad" ({ cls := "TollRoad", name := "dispute", desc := "(II)I" } : Jvm.MethodName) ({ cls := "TollRoad", name := "dispute", desc := "(II)I" } : Jvm.MethodName)) ∈ lw_all := lw_g (lw_at lw_m12 130 rfl) rfl
theorem q2885 : (Jvm.Cond.code ({ cls := "TollRoad", name := "dispute", desc := "(II)I" } : Jvm.MethodName) prog_1_method_46_code (4 : Nat) (Option.some Jvm.ClassFile.FieldType.int)) ∈ lw_all := lw_g (lw_at lw_m12 131 rfl) rfl
theorem q2886 : (Jvm.Cond.constantLong "TollRoad" (391 : Nat) (2 : Int64)) ∈ lw_all := lw_g (lw_at lw_m12 132 rfl) rfl
theorem q2887 : (Jvm.Cond.methodLink "TollRoad" (393 : Nat) ({ cls := "TollRoad$World", name := "dispute", desc := "(LTollRoad$Bill;I)I" } : Jvm.MethodName)) ∈ lw_all := lw_g (lw_at lw_m12 133 rfl) rfl
theorem q2888 : (Jvm.Cond.instanceMethod ({ cls := "TollRoad$World", name := "dispute", desc := "(LTollRoad$Bill;I)I" } : Jvm.MethodName)) ∈ lw_all := lw_g (lw_at lw_m12 134 rfl) rfl
theorem q2889 : (Jvm.Cond.selects "TollRoad$World" ({ cls := "TollRoad$World", name := "dispute", desc := "(LTollRoad$Bill;I)I" } : Jvm.MethodName) ({ cls := "TollRoad$World", name := "dispute", desc := "(LTollRoad$Bill;I)I" } : Jvm.MethodName)) ∈ lw_all := lw_g (lw_at lw_m12 135 rfl) rfl
theorem q2890 : (Jvm.Cond.codeWith ({ cls := "TollRoad$World", name := "dispute", desc := "(LTollRoad$Bill;I)I" } : Jvm.MethodName) prog_19_method_23_code (6 : Nat) (Option.some Jvm.ClassFile.FieldType.int) [((41 : Nat), (47 : Nat), (50 : Nat), (136 : Nat))]) ∈ lw_all := lw_g (lw_at lw_m12 136 rfl) rfl
theorem q2891 : (Jvm.Cond.methodLink "TollRoad$World" (323 : Nat) ({ cls := "TollRoad$World", name := "refund", desc := "(LTollRoad$Bill;I)I" } : Jvm.MethodName)) ∈ lw_all := lw_g (lw_at lw_m12 137 rfl) rfl
theorem q2892 : (Jvm.Cond.instanceMethod ({ cls := "TollRoad$World", name := "refund", desc := "(LTollRoad$Bill;I)I" } : Jvm.MethodName)) ∈ lw_all := lw_g (lw_at lw_m12 138 rfl) rfl
theorem q2893 : (Jvm.Cond.selects "TollRoad$World" ({ cls := "TollRoad$World", name := "refund", desc := "(LTollRoad$Bill;I)I" } : Jvm.MethodName) ({ cls := "TollRoad$World", name := "refund", desc := "(LTollRoad$Bill;I)I" } : Jvm.MethodName)) ∈ lw_all := lw_g (lw_at lw_m12 139 rfl) rfl
theorem q2894 : (Jvm.Cond.code ({ cls := "TollRoad$World", name := "refund", desc := "(LTollRoad$Bill;I)I" } : Jvm.MethodName) prog_19_method_22_code (3 : Nat) (Option.some Jvm.ClassFile.FieldType.int)) ∈ lw_all := lw_g (lw_at lw_m12 140 rfl) rfl
theorem q2895 : (Jvm.Cond.methodLink "TollRoad$World" (313 : Nat) ({ cls := "TollRoad$World", name := "refundForOther", desc := "(LTollRoad$Bill;)I" } : Jvm.MethodName)) ∈ lw_all := lw_g (lw_at lw_m12 141 rfl) rfl
theorem q2897 : (Jvm.Cond.instanceMethod ({ cls := "TollRoad$World", name := "refundForOther", desc := "(LTollRoad$Bill;)I" } : Jvm.MethodName)) ∈ lw_all := lw_g (lw_at lw_m12 143 rfl) rfl
theorem q2898 : (Jvm.Cond.code ({ cls := "TollRoad$World", name := "refundForOther", desc := "(LTollRoad$Bill;)I" } : Jvm.MethodName) prog_19_method_18_code (4 : Nat) (Option.some Jvm.ClassFile.FieldType.int)) ∈ lw_all := lw_g (lw_at lw_m12 144 rfl) rfl
theorem q2899 : (Jvm.Cond.methodLink "TollRoad$World" (276 : Nat) ({ cls := "java/lang/Math", name := "min", desc := "(II)I" } : Jvm.MethodName)) ∈ lw_all := lw_g (lw_at lw_m12 145 rfl) rfl
theorem q2900 : (Jvm.Cond.methodLink "TollRoad$World" (279 : Nat) ({ cls := "TollRoad$Bill", name := "imageReads", desc := "()I" } : Jvm.MethodName)) ∈ lw_all := lw_g (lw_at lw_m12 146 rfl) rfl
theorem q2901 : (Jvm.Cond.instanceMethod ({ cls := "TollRoad$Bill", name := "imageReads", desc := "()I" } : Jvm.MethodName)) ∈ lw_all := lw_g (lw_at lw_m12 147 rfl) rfl
theorem q2902 : (Jvm.Cond.selects "TollRoad$Bill" ({ cls := "TollRoad$Bill", name := "imageReads", desc := "()I" } : Jvm.MethodName) ({ cls := "TollRoad$Bill", name := "imageReads", desc := "()I" } : Jvm.MethodName)) ∈ lw_all := lw_g (lw_at lw_m12 148 rfl) rfl
theorem q2903 : (Jvm.Cond.code ({ cls := "TollRoad$Bill", name := "imageReads", desc := "()I" } : Jvm.MethodName) prog_3_method_5_code (1 : Nat) (Option.some Jvm.ClassFile.FieldType.int)) ∈ lw_all := lw_g (lw_at lw_m12 149 rfl) rfl
theorem q2904 : (Jvm.Cond.methodLink "TollRoad$Bill" (60 : Nat) ({ cls := "TollRoad$Trip", name := "imageCount", desc := "()I" } : Jvm.MethodName)) ∈ lw_all := lw_g (lw_at lw_m12 150 rfl) rfl
theorem q2905 : (Jvm.Cond.methodLink "TollRoad$World" (317 : Nat) ({ cls := "TollRoad$World", name := "refundForRoute", desc := "(LTollRoad$Bill;)I" } : Jvm.MethodName)) ∈ lw_all := lw_g (lw_at lw_m12 151 rfl) rfl
theorem q2907 : (Jvm.Cond.instanceMethod ({ cls := "TollRoad$World", name := "refundForRoute", desc := "(LTollRoad$Bill;)I" } : Jvm.MethodName)) ∈ lw_all := lw_g (lw_at lw_m12 153 rfl) rfl
theorem q2908 : (Jvm.Cond.code ({ cls := "TollRoad$World", name := "refundForRoute", desc := "(LTollRoad$Bill;)I" } : Jvm.MethodName) prog_19_method_20_code (5 : Nat) (Option.some Jvm.ClassFile.FieldType.int)) ∈ lw_all := lw_g (lw_at lw_m12 154 rfl) rfl
theorem q2909 : (Jvm.Cond.methodLink "TollRoad$World" (299 : Nat) ({ cls := "TollRoad$World", name := "leastToll", desc := "(II)I" } : Jvm.MethodName)) ∈ lw_all := lw_g (lw_at lw_m12 155 rfl) rfl
theorem q2910 : (Jvm.Cond.methodLink "TollRoad$World" (307 : Nat) ({ cls := "TollRoad$Bill", name := "amountWith", desc := "(I)I" } : Jvm.MethodName)) ∈ lw_all := lw_g (lw_at lw_m12 156 rfl) rfl
theorem q2911 : (Jvm.Cond.instanceMethod ({ cls := "TollRoad$Bill", name := "amountWith", desc := "(I)I" } : Jvm.MethodName)) ∈ lw_all := lw_g (lw_at lw_m12 157 rfl) rfl
theorem q2912 : (Jvm.Cond.selects "TollRoad$Bill" ({ cls := "TollRoad$Bill", name := "amountWith", desc := "(I)I" } : Jvm.MethodName) ({ cls := "TollRoad$Bill", name := "amountWith", desc := "(I)I" } : Jvm.MethodName)) ∈ lw_all := lw_g (lw_at lw_m12 158 rfl) rfl
theorem q2913 : (Jvm.Cond.code ({ cls := "TollRoad$Bill", name := "amountWith", desc := "(I)I" } : Jvm.MethodName) prog_3_method_4_code (2 : Nat) (Option.some Jvm.ClassFile.FieldType.int)) ∈ lw_all := lw_g (lw_at lw_m12 159 rfl) rfl
theorem q2914 : (Jvm.Cond.methodLink "TollRoad$World" (320 : Nat) ({ cls := "TollRoad$World", name := "refundForImages", desc := "(LTollRoad$Bill;)I" } : Jvm.MethodName)) ∈ lw_all := lw_g (lw_at lw_m12 160 rfl) rfl
theorem q2916 : (Jvm.Cond.instanceMethod ({ cls := "TollRoad$World", name := "refundForImages", desc := "(LTollRoad$Bill;)I" } : Jvm.MethodName)) ∈ lw_all := lw_g (lw_at lw_m12 162 rfl) rfl
theorem q2917 : (Jvm.Cond.code ({ cls := "TollRoad$World", name := "refundForImages", desc := "(LTollRoad$Bill;)I" } : Jvm.MethodName) prog_19_method_21_code (3 : Nat) (Option.some Jvm.ClassFile.FieldType.int)) ∈ lw_all := lw_g (lw_at lw_m12 163 rfl) rfl
theorem q2918 : (Jvm.Cond.methodLink "TollRoad$World" (332 : Nat) ({ cls := "TollRoad$Account", name := "refund", desc := "(I)V" } : Jvm.MethodName)) ∈ lw_all := lw_g (lw_at lw_m12 164 rfl) rfl
theorem q2919 : (Jvm.Cond.instanceMethod ({ cls := "TollRoad$Account", name := "refund", desc := "(I)V" } : Jvm.MethodName)) ∈ lw_all := lw_g (lw_at lw_m12 165 rfl) rfl
theorem q2920 : (Jvm.Cond.selects "TollRoad$Account" ({ cls := "TollRoad$Account", name := "refund", desc := "(I)V" } : Jvm.MethodName) ({ cls := "TollRoad$Account", name := "refund", desc := "(I)V" } : Jvm.MethodName)) ∈ lw_all := lw_g (lw_at lw_m12 166 rfl) rfl
theorem q2921 : (Jvm.Cond.code ({ cls := "TollRoad$Account", name := "refund", desc := "(I)V" } : Jvm.MethodName) prog_2_method_5_code (2 : Nat) (Option.none : Option Jvm.ClassFile.FieldType)) ∈ lw_all := lw_g (lw_at lw_m12 167 rfl) rfl
theorem q2922 : (Jvm.Cond.methodLink "TollRoadLaw" (242 : Nat) ({ cls := "TollRoadLaw", name := "disputable", desc := "(LTollRoad;I[J)I" } : Jvm.MethodName)) ∈ lw_all := lw_g (lw_at lw_m12 168 rfl) rfl
theorem q2923 : (Jvm.Cond.static ({ cls := "TollRoadLaw", name := "disputable", desc := "(LTollRoad;I[J)I" } : Jvm.MethodName)) ∈ lw_all := lw_g (lw_at lw_m12 169 rfl) rfl
theorem q2924 : (Jvm.Cond.codeWith ({ cls := "TollRoadLaw", name := "disputable", desc := "(LTollRoad;I[J)I" } : Jvm.MethodName) method_33_code (4 : Nat) (Option.some Jvm.ClassFile.FieldType.int) [((0 : Nat), (9 : Nat), (12 : Nat), (18 : Nat))]) ∈ lw_all := lw_g (lw_at lw_m12 170 rfl) rfl
theorem q2925 : (Jvm.Cond.methodLink "TollRoadLaw" (109 : Nat) ({ cls := "TollRoad", name := "disputable", desc := "(I)I" } : Jvm.MethodName)) ∈ lw_all := lw_g (lw_at lw_m12 171 rfl) rfl
theorem q2926 : (Jvm.Cond.instanceMethod ({ cls := "TollRoad", name := "disputable", desc := "(I)I" } : Jvm.MethodName)) ∈ lw_all := lw_g (lw_at lw_m12 172 rfl) rfl
theorem q2927 : (Jvm.Cond.selects "TollRoad" ({ cls := "TollRoad", name := "disputable", desc := "(I)I" } : Jvm.MethodName) ({ cls := "TollRoad", name := "disputable", desc := "(I)I" } : Jvm.MethodName)) ∈ lw_all := lw_g (lw_at lw_m12 173 rfl) rfl
theorem q2928 : (Jvm.Cond.code ({ cls := "TollRoad", name := "disputable", desc := "(I)I" } : Jvm.MethodName) prog_1_method_47_code (5 : Nat) (Option.some Jvm.ClassFile.FieldType.int)) ∈ lw_all := lw_g (lw_at lw_m12 174 rfl) rfl
theorem q2929 : (Jvm.Cond.methodLink "TollRoad" (396 : Nat) ({ cls := "TollRoad$World", name := "refund", desc := "(LTollRoad$Bill;I)I" } : Jvm.MethodName)) ∈ lw_all := lw_g (lw_at lw_m12 175 rfl) rfl
theorem q2930 : (Jvm.Cond.methodLink "TollRoadLaw" (250 : Nat) ({ cls := "TollRoadLaw", name := "gantry", desc := "(LTollRoad;II[J)I" } : Jvm.MethodName)) ∈ lw_all := lw_g (lw_at lw_m12 176 rfl) rfl
theorem q2931 : (Jvm.Cond.static ({ cls := "TollRoadLaw", name := "gantry", desc := "(LTollRoad;II[J)I" } : Jvm.MethodName)) ∈ lw_all := lw_g (lw_at lw_m12 177 rfl) rfl
theorem q2932 : (Jvm.Cond.codeWith ({ cls := "TollRoadLaw", name := "gantry", desc := "(LTollRoad;II[J)I" } : Jvm.MethodName) method_34_code (5 : Nat) (Option.some Jvm.ClassFile.FieldType.int) [((0 : Nat), (10 : Nat), (13 : Nat), (27 : Nat)), ((0 : Nat), (10 : Nat), (17 : Nat), (18 : Nat))]) ∈ lw_all := lw_g (lw_at lw_m12 178 rfl) rfl
theorem q2933 : (Jvm.Cond.methodLink "TollRoadLaw" (112 : Nat) ({ cls := "TollRoad", name := "gantry", desc := "(II)I" } : Jvm.MethodName)) ∈ lw_all := lw_g (lw_at lw_m12 179 rfl) rfl
theorem q2934 : (Jvm.Cond.instanceMethod ({ cls := "TollRoad", name := "gantry", desc := "(II)I" } : Jvm.MethodName)) ∈ lw_all := lw_g (lw_at lw_m12 180 rfl) rfl
theorem q2935 : (Jvm.Cond.selects "TollRoad" ({ cls := "TollRoad", name := "gantry", desc := "(II)I" } : Jvm.MethodName) ({ cls := "TollRoad", name := "gantry", desc := "(II)I" } : Jvm.MethodName)) ∈ lw_all := lw_g (lw_at lw_m12 181 rfl) rfl
theorem q2936 : (Jvm.Cond.code ({ cls := "TollRoad", name := "gantry", desc := "(II)I" } : Jvm.MethodName) prog_1_method_51_code (3 : Nat) (Option.some Jvm.ClassFile.FieldType.int)) ∈ lw_all := lw_g (lw_at lw_m12 182 rfl) rfl
theorem q2937 : (Jvm.Cond.methodLink "TollRoad" (408 : Nat) ({ cls := "TollRoad", name := "readsAt", desc := "(I)I" } : Jvm.MethodName)) ∈ lw_all := lw_g (lw_at lw_m12 183 rfl) rfl
theorem q2939 : (Jvm.Cond.instanceMethod ({ cls := "TollRoad", name := "readsAt", desc := "(I)I" } : Jvm.MethodName)) ∈ lw_all := lw_g (lw_at lw_m12 185 rfl) rfl
theorem q2940 : (Jvm.Cond.code ({ cls := "TollRoad", name := "readsAt", desc := "(I)I" } : Jvm.MethodName) prog_1_method_49_code (5 : Nat) (Option.some Jvm.ClassFile.FieldType.int)) ∈ lw_all := lw_g (lw_at lw_m12 186 rfl) rfl
theorem q2941 : (Jvm.Cond.methodLink "TollRoad" (411 : Nat) ({ cls := "TollRoad", name := "visits", desc := "(I)I" } : Jvm.MethodName)) ∈ lw_all := lw_g (lw_at lw_m12 187 rfl) rfl
theorem q2943 : (Jvm.Cond.instanceMethod ({ cls := "TollRoad", name := "visits", desc := "(I)I" } : Jvm.MethodName)) ∈ lw_all := lw_g (lw_at lw_m12 189 rfl) rfl
theorem q2944 : (Jvm.Cond.code ({ cls := "TollRoad", name := "visits", desc := "(I)I" } : Jvm.MethodName) prog_1_method_50_code (2 : Nat) (Option.some Jvm.ClassFile.FieldType.int)) ∈ lw_all := lw_g (lw_at lw_m12 190 rfl) rfl
theorem q2945 : (Jvm.Cond.methodLink "TollRoadLaw" (253 : Nat) ({ cls := "TollRoadLaw", name := "missRate", desc := "(LTollRoad;I[D)I" } : Jvm.MethodName)) ∈ lw_all := lw_g (lw_at lw_m12 191 rfl) rfl
theorem q2946 : (Jvm.Cond.static ({ cls := "TollRoadLaw", name := "missRate", desc := "(LTollRoad;I[D)I" } : Jvm.MethodName)) ∈ lw_all := lw_g (lw_at lw_m12 192 rfl) rfl
theorem q2947 : (Jvm.Cond.codeWith ({ cls := "TollRoadLaw", name := "missRate", desc := "(LTollRoad;I[D)I" } : Jvm.MethodName) method_35_code (4 : Nat) (Option.some Jvm.ClassFile.FieldType.int) [((0 : Nat), (9 : Nat), (12 : Nat), (27 : Nat))]) ∈ lw_all := lw_g (lw_at lw_m12 193 rfl) rfl
theorem q2948 : (Jvm.Cond.methodLink "TollRoadLaw" (115 : Nat) ({ cls := "TollRoad", name := "missRate", desc := "(I)F" } : Jvm.MethodName)) ∈ lw_all := lw_g (lw_at lw_m12 194 rfl) rfl
theorem q2949 : (Jvm.Cond.instanceMethod ({ cls := "TollRoad", name := "missRate", desc := "(I)F" } : Jvm.MethodName)) ∈ lw_all := lw_g (lw_at lw_m12 195 rfl) rfl
theorem q2950 : (Jvm.Cond.selects "TollRoad" ({ cls := "TollRoad", name := "missRate", desc := "(I)F" } : Jvm.MethodName) ({ cls := "TollRoad", name := "missRate", desc := "(I)F" } : Jvm.MethodName)) ∈ lw_all := lw_g (lw_at lw_m12 196 rfl) rfl
theorem q2951 : (Jvm.Cond.code ({ cls := "TollRoad", name := "missRate", desc := "(I)F" } : Jvm.MethodName) prog_1_method_52_code (3 : Nat) (Option.some Jvm.ClassFile.FieldType.float)) ∈ lw_all := lw_g (lw_at lw_m12 197 rfl) rfl
theorem q2952 : (Jvm.Cond.constantFloat "TollRoad" (414 : Nat) (3212836864 : UInt32)) ∈ lw_all := lw_g (lw_at lw_m12 198 rfl) rfl
theorem q2953 : (Jvm.Cond.methodLink "TollRoadLaw" (266 : Nat) ({ cls := "TollRoadLaw", name := "save", desc := "(LTollRoad;I)I" } : Jvm.MethodName)) ∈ lw_all := lw_g (lw_at lw_m12 199 rfl) rfl
theorem q2954 : (Jvm.Cond.static ({ cls := "TollRoadLaw", name := "save", desc := "(LTollRoad;I)I" } : Jvm.MethodName)) ∈ lw_all := lw_g (lw_at lw_m12 200 rfl) rfl
theorem q2955 : (Jvm.Cond.codeWith ({ cls := "TollRoadLaw", name := "save", desc := "(LTollRoad;I)I" } : Jvm.MethodName) method_36_code (3 : Nat) (Option.some Jvm.ClassFile.FieldType.int) [((0 : Nat), (5 : Nat), (8 : Nat), (18 : Nat))]) ∈ lw_all := lw_g (lw_at lw_m12 201 rfl) rfl
theorem q2956 : (Jvm.Cond.methodLink "TollRoadLaw" (119 : Nat) ({ cls := "TollRoad", name := "save", desc := "(I)V" } : Jvm.MethodName)) ∈ lw_all := lw_g (lw_at lw_m12 202 rfl) rfl
theorem q2957 : (Jvm.Cond.instanceMethod ({ cls := "TollRoad", name := "save", desc := "(I)V" } : Jvm.MethodName)) ∈ lw_all := lw_g (lw_at lw_m12 203 rfl) rfl
theorem q2958 : (Jvm.Cond.selects "TollRoad" ({ cls := "TollRoad", name := "save", desc := "(I)V" } : Jvm.MethodName) ({ cls := "TollRoad", name := "save", desc := "(I)V" } : Jvm.MethodName)) ∈ lw_all := lw_g (lw_at lw_m12 204 rfl) rfl
theorem q2959 : (Jvm.Cond.code ({ cls := "TollRoad", name := "save", desc := "(I)V" } : Jvm.MethodName) prog_1_method_61_code (2 : Nat) (Option.none : Option Jvm.ClassFile.FieldType)) ∈ lw_all := lw_g (lw_at lw_m12 205 rfl) rfl
theorem q2960 : (Jvm.Cond.methodLink "TollRoad" (470 : Nat) ({ cls := "TollRoad$World", name := "copy", desc := "()LTollRoad$World;" } : Jvm.MethodName)) ∈ lw_all := lw_g (lw_at lw_m12 206 rfl) rfl
theorem q2961 : (Jvm.Cond.instanceMethod ({ cls := "TollRoad$World", name := "copy", desc := "()LTollRoad$World;" } : Jvm.MethodName)) ∈ lw_all := lw_g (lw_at lw_m12 207 rfl) rfl
theorem q2962 : (Jvm.Cond.selects "TollRoad$World" ({ cls := "TollRoad$World", name := "copy", desc := "()LTollRoad$World;" } : Jvm.MethodName) ({ cls := "TollRoad$World", name := "copy", desc := "()LTollRoad$World;" } : Jvm.MethodName)) ∈ lw_all := lw_g (lw_at lw_m12 208 rfl) rfl
theorem q2963 : (Jvm.Cond.code ({ cls := "TollRoad$World", name := "copy", desc := "()LTollRoad$World;" } : Jvm.MethodName) prog_19_method_2_code (4 : Nat) (Option.some (Jvm.ClassFile.FieldType.object "TollRoad$World"))) ∈ lw_all := lw_g (lw_at lw_m12 209 rfl) rfl
theorem q2964 : (Jvm.Cond.classLink "TollRoad$World" (13 : Nat) "TollRoad$World") ∈ lw_all := lw_g (lw_at lw_m12 210 rfl) rfl
theorem q2965 : (Jvm.Cond.methodLink "TollRoad$World" (50 : Nat) ({ cls := "TollRoad$World", name := "<init>", desc := "()V" } : Jvm.MethodName)) ∈ lw_all := lw_g (lw_at lw_m12 211 rfl) rfl
theorem q2966 : (Jvm.Cond.methodLink "TollRoad$World" (51 : Nat) ({ cls := "TollRoad$Network", name := "copy", desc := "()LTollRoad$Network;" } : Jvm.MethodName)) ∈ lw_all := lw_g (lw_at lw_m12 212 rfl) rfl
theorem q2967 : (Jvm.Cond.instanceMethod ({ cls := "TollRoad$Network", name := "copy", desc := "()LTollRoad$Network;" } : Jvm.MethodName)) ∈ lw_all := lw_g (lw_at lw_m12 213 rfl) rfl
theorem q2968 : (Jvm.Cond.selects "TollRoad$Network" ({ cls := "TollRoad$Network", name := "copy", desc := "()LTollRoad$Network;" } : Jvm.MethodName) ({ cls := "TollRoad$Network", name := "copy", desc := "()LTollRoad$Network;" } : Jvm.MethodName)) ∈ lw_all := lw_g (lw_at lw_m12 214 rfl) rfl
theorem q2969 : (Jvm.Cond.code ({ cls := "TollRoad$Network", name := "copy", desc := "()LTollRoad$Network;" } : Jvm.MethodName) prog_8_method_2_code (2 : Nat) (Option.some (Jvm.ClassFile.FieldType.object "TollRoad$Network"))) ∈ lw_all := lw_g (lw_at lw_m12 215 rfl) rfl
theorem q2970 : (Jvm.Cond.classLink "TollRoad$Network" (10 : Nat) "TollRoad$Network") ∈ lw_all := lw_g (lw_at lw_m12 216 rfl) rfl
theorem q2971 : (Jvm.Cond.methodLink "TollRoad$Network" (21 : Nat) ({ cls := "TollRoad$Network", name := "<init>", desc := "()V" } : Jvm.MethodName)) ∈ lw_all := lw_g (lw_at lw_m12 217 rfl) rfl
theorem q2972 : (Jvm.Cond.methodLink "TollRoad$Network" (22 : Nat) ({ cls := "[I", name := "clone", desc := "()Ljava/lang/Object;" } : Jvm.MethodName)) ∈ lw_all := lw_g (lw_at lw_m12 218 rfl) rfl
theorem q2973 : (Jvm.Cond.sameMethod "[I" "java/lang/Object" "clone" "()Ljava/lang/Object;") ∈ lw_all := lw_g (lw_at lw_m12 219 rfl) rfl
theorem q2974 : (Jvm.Cond.selects "[I" ({ cls := "[I", name := "clone", desc := "()Ljava/lang/Object;" } : Jvm.MethodName) ({ cls := "java/lang/Object", name := "clone", desc := "()Ljava/lang/Object;" } : Jvm.MethodName)) ∈ lw_all := lw_g (lw_at lw_m12 220 rfl) rfl
theorem q2975 : (Jvm.Cond.castable "[I" "java/lang/Cloneable") ∈ lw_tbl := lw_at lw_m12 221 rfl
theorem q2976 : (Jvm.Cond.classLink "TollRoad$Network" (23 : Nat) "[I") ∈ lw_all := lw_g (lw_at lw_m12 222 rfl) rfl
theorem q2977 : (Jvm.Cond.methodLink "TollRoad$Network" (31 : Nat) ({ cls := "java/lang/System", name := "arraycopy", desc := "(Ljava/lang/Object;ILjava/lang/Object;II)V" } : Jvm.MethodName)) ∈ lw_all := lw_g (lw_at lw_m12 223 rfl) rfl
theorem q2978 : (Jvm.Cond.methodLink "TollRoad$World" (55 : Nat) ({ cls := "[I", name := "clone", desc := "()Ljava/lang/Object;" } : Jvm.MethodName)) ∈ lw_all := lw_g (lw_at lw_m12 224 rfl) rfl
theorem q2979 : (Jvm.Cond.classLink "TollRoad$World" (56 : Nat) "[I") ∈ lw_all := lw_g (lw_at lw_m12 225 rfl) rfl
theorem q2980 : (Jvm.Cond.methodLink "TollRoad$World" (64 : Nat) ({ cls := "TollRoad$Account", name := "copy", desc := "()LTollRoad$Account;" } : Jvm.MethodName)) ∈ lw_all := lw_g (lw_at lw_m12 226 rfl) rfl
theorem q2981 : (Jvm.Cond.instanceMethod ({ cls := "TollRoad$Account", name := "copy", desc := "()LTollRoad$Account;" } : Jvm.MethodName)) ∈ lw_all := lw_g (lw_at lw_m12 227 rfl) rfl
theorem q2982 : (Jvm.Cond.selects "TollRoad$Account" ({ cls := "TollRoad$Account", name := "copy", desc := "()LTollRoad$Account;" } : Jvm.MethodName) ({ cls := "TollRoad$Account", name := "copy", desc := "()LTollRoad$Account;" } : Jvm.MethodName)) ∈ lw_all := lw_g (lw_at lw_m12 228 rfl) rfl
theorem q2983 : (Jvm.Cond.code ({ cls := "TollRoad$Account", name := "copy", desc := "()LTollRoad$Account;" } : Jvm.MethodName) prog_2_method_2_code (2 : Nat) (Option.some (Jvm.ClassFile.FieldType.object "TollRoad$Account"))) ∈ lw_all := lw_g (lw_at lw_m12 229 rfl) rfl
theorem q2984 : (Jvm.Cond.classLink "TollRoad$Account" (8 : Nat) "TollRoad$Account") ∈ lw_all := lw_g (lw_at lw_m12 230 rfl) rfl
theorem q2985 : (Jvm.Cond.methodLink "TollRoad$Account" (19 : Nat) ({ cls := "TollRoad$Account", name := "<init>", desc := "(III)V" } : Jvm.MethodName)) ∈ lw_all := lw_g (lw_at lw_m12 231 rfl) rfl
theorem q2986 : (Jvm.Cond.methodLink "TollRoad$World" (82 : Nat) ({ cls := "TollRoad$Vehicle", name := "copy", desc := "()LTollRoad$Vehicle;" } : Jvm.MethodName)) ∈ lw_all := lw_g (lw_at lw_m12 232 rfl) rfl
theorem q2987 : (Jvm.Cond.instanceMethod ({ cls := "TollRoad$Vehicle", name := "copy", desc := "()LTollRoad$Vehicle;" } : Jvm.MethodName)) ∈ lw_all := lw_g (lw_at lw_m12 233 rfl) rfl
theorem q2988 : (Jvm.Cond.selects "TollRoad$Vehicle" ({ cls := "TollRoad$Vehicle", name := "copy", desc := "()LTollRoad$Vehicle;" } : Jvm.MethodName) ({ cls := "TollRoad$Vehicle", name := "copy", desc := "()LTollRoad$Vehicle;" } : Jvm.MethodName)) ∈ lw_all := lw_g (lw_at lw_m12 234 rfl) rfl
theorem q2989 : (Jvm.Cond.code ({ cls := "TollRoad$Vehicle", name := "copy", desc := "()LTollRoad$Vehicle;" } : Jvm.MethodName) prog_18_method_2_code (2 : Nat) (Option.some (Jvm.ClassFile.FieldType.object "TollRoad$Vehicle"))) ∈ lw_all := lw_g (lw_at lw_m12 235 rfl) rfl
theorem q2990 : (Jvm.Cond.classLink "TollRoad$Vehicle" (10 : Nat) "TollRoad$Vehicle") ∈ lw_all := lw_g (lw_at lw_m12 236 rfl) rfl
theorem q2991 : (Jvm.Cond.methodLink "TollRoad$Vehicle" (21 : Nat) ({ cls := "TollRoad$Vehicle", name := "<init>", desc := "(II)V" } : Jvm.MethodName)) ∈ lw_all := lw_g (lw_at lw_m12 237 rfl) rfl
theorem q2992 : (Jvm.Cond.methodLink "TollRoad$World" (91 : Nat) ({ cls := "TollRoad$Read", name := "copy", desc := "()LTollRoad$Read;" } : Jvm.MethodName)) ∈ lw_all := lw_g (lw_at lw_m12 238 rfl) rfl
theorem q2993 : (Jvm.Cond.instanceMethod ({ cls := "TollRoad$Read", name := "copy", desc := "()LTollRoad$Read;" } : Jvm.MethodName)) ∈ lw_all := lw_g (lw_at lw_m12 239 rfl) rfl
theorem q2994 : (Jvm.Cond.selects "TollRoad$Read" ({ cls := "TollRoad$Read", name := "copy", desc := "()LTollRoad$Read;" } : Jvm.MethodName) ({ cls := "TollRoad$Read", name := "copy", desc := "()LTollRoad$Read;" } : Jvm.MethodName)) ∈ lw_all := lw_g (lw_at lw_m13 0 rfl) rfl
theorem q2995 : (Jvm.Cond.code ({ cls := "TollRoad$Read", name := "copy", desc := "()LTollRoad$Read;" } : Jvm.MethodName) prog_12_method_2_code (2 : Nat) (Option.some (Jvm.ClassFile.FieldType.object "TollRoad$Read"))) ∈ lw_all := lw_g (lw_at lw_m13 1 rfl) rfl
theorem q2996 : (Jvm.Cond.classLink "TollRoad$Read" (10 : Nat) "TollRoad$Read") ∈ lw_all := lw_g (lw_at lw_m13 2 rfl) rfl
theorem q2997 : (Jvm.Cond.methodLink "TollRoad$Read" (28 : Nat) ({ cls := "TollRoad$Read", name := "<init>", desc := "(IIIZ)V" } : Jvm.MethodName)) ∈ lw_all := lw_g (lw_at lw_m13 3 rfl) rfl
theorem q2998 : (Jvm.Cond.methodLink "TollRoad$World" (96 : Nat) ({ cls := "TollRoad$Bill", name := "copy", desc := "()LTollRoad$Bill;" } : Jvm.MethodName)) ∈ lw_all := lw_g (lw_at lw_m13 4 rfl) rfl
theorem q2999 : (Jvm.Cond.instanceMethod ({ cls := "TollRoad$Bill", name := "copy", desc := "()LTollRoad$Bill;" } : Jvm.MethodName)) ∈ lw_all := lw_g (lw_at lw_m13 5 rfl) rfl
theorem q3000 : (Jvm.Cond.selects "TollRoad$Bill" ({ cls := "TollRoad$Bill", name := "copy", desc := "()LTollRoad$Bill;" } : Jvm.MethodName) ({ cls := "TollRoad$Bill", name := "copy", desc := "()LTollRoad$Bill;" } : Jvm.MethodName)) ∈ lw_all := lw_g (lw_at lw_m13 6 rfl) rfl
theorem q3001 : (Jvm.Cond.code ({ cls := "TollRoad$Bill", name := "copy", desc := "()LTollRoad$Bill;" } : Jvm.MethodName) prog_3_method_2_code (2 : Nat) (Option.some (Jvm.ClassFile.FieldType.object "TollRoad$Bill"))) ∈ lw_all := lw_g (lw_at lw_m13 7 rfl) rfl
theorem q3002 : (Jvm.Cond.classLink "TollRoad$Bill" (10 : Nat) "TollRoad$Bill") ∈ lw_all := lw_g (lw_at lw_m13 8 rfl) rfl
theorem q3003 : (Jvm.Cond.methodLink "TollRoad$Bill" (47 : Nat) ({ cls := "TollRoad$Bill", name := "<init>", desc := "(IILTollRoad$Trip;III)V" } : Jvm.MethodName)) ∈ lw_all := lw_g (lw_at lw_m13 9 rfl) rfl
theorem q3004 : (Jvm.Cond.methodLink "TollRoad$World" (99 : Nat) ({ cls := "java/util/HashMap", name := "entrySet", desc := "()Ljava/util/Set;" } : Jvm.MethodName)) ∈ lw_all := lw_g (lw_at lw_m13 10 rfl) rfl
theorem q3005 : (Jvm.Cond.instanceMethod ({ cls := "java/util/HashMap", name := "entrySet", desc := "()Ljava/util/Set;" } : Jvm.MethodName)) ∈ lw_all := lw_g (lw_at lw_m13 11 rfl) rfl
theorem q3006 : (Jvm.Cond.selects "java/util/HashMap" ({ cls := "java/util/HashMap", name := "entrySet", desc := "()Ljava/util/Set;" } : Jvm.MethodName) ({ cls := "java/util/HashMap", name := "entrySet", desc := "()Ljava/util/Set;" } : Jvm.MethodName)) ∈ lw_all := lw_g (lw_at lw_m13 12 rfl) rfl
theorem q3007 : (Jvm.Cond.code ({ cls := "java/util/HashMap", name := "entrySet", desc := "()Ljava/util/Set;" } : Jvm.MethodName) prog_61_method_29_code (2 : Nat) (Option.some (Jvm.ClassFile.FieldType.object "java/util/Set"))) ∈ lw_all := lw_g (lw_at lw_m13 13 rfl) rfl
theorem q3008 : (Jvm.Cond.classLink "java/util/HashMap" (268 : Nat) "java/util/HashMap$EntrySet") ∈ lw_all := lw_g (lw_at lw_m13 14 rfl) rfl
theorem q3009 : (Jvm.Cond.instantiable "java/util/HashMap$EntrySet" (1 : Nat)) ∈ lw_all := lw_g (lw_at lw_m13 15 rfl) rfl
theorem q3010 : (Jvm.Cond.methodLink "java/util/HashMap" (270 : Nat) ({ cls := "java/util/HashMap$EntrySet", name := "<init>", desc := "(Ljava/util/HashMap;)V" } : Jvm.MethodName)) ∈ lw_all := lw_g (lw_at lw_m13 16 rfl) rfl
theorem q3011 : (Jvm.Cond.instanceMethod ({ cls := "java/util/HashMap$EntrySet", name := "<init>", desc := "(Ljava/util/HashMap;)V" } : Jvm.MethodName)) ∈ lw_all := lw_g (lw_at lw_m13 17 rfl) rfl
theorem q3012 : (Jvm.Cond.code ({ cls := "java/util/HashMap$EntrySet", name := "<init>", desc := "(Ljava/util/HashMap;)V" } : Jvm.MethodName) prog_63_method_1_code (2 : Nat) (Option.none : Option Jvm.ClassFile.FieldType)) ∈ lw_all := lw_g (lw_at lw_m13 18 rfl) rfl
theorem q3013 : (Jvm.Cond.methodLink "java/util/HashMap$EntrySet" (7 : Nat) ({ cls := "java/util/AbstractSet", name := "<init>", desc := "()V" } : Jvm.MethodName)) ∈ lw_all := lw_g (lw_at lw_m13 19 rfl) rfl
theorem q3014 : (Jvm.Cond.instanceMethod ({ cls := "java/util/AbstractSet", name := "<init>", desc := "()V" } : Jvm.MethodName)) ∈ lw_all := lw_g (lw_at lw_m13 20 rfl) rfl
theorem q3015 : (Jvm.Cond.code ({ cls := "java/util/AbstractSet", name := "<init>", desc := "()V" } : Jvm.MethodName) prog_54_method_1_code (1 : Nat) (Option.none : Option Jvm.ClassFile.FieldType)) ∈ lw_all := lw_g (lw_at lw_m13 21 rfl) rfl
theorem q3016 : (Jvm.Cond.methodLink "java/util/AbstractSet" (1 : Nat) ({ cls := "java/util/AbstractCollection", name := "<init>", desc := "()V" } : Jvm.MethodName)) ∈ lw_all := lw_g (lw_at lw_m13 22 rfl) rfl
theorem q3017 : (Jvm.Cond.fieldLink "java/util/HashMap$EntrySet" (1 : Nat) "java/util/HashMap$EntrySet" "this$0" "Ljava/util/HashMap;") ∈ lw_all := lw_g (lw_at lw_m13 23 rfl) rfl
theorem q3022 : (Jvm.Cond.methodLink "TollRoad$World" (103 : Nat) ({ cls := "java/util/Set", name := "iterator", desc := "()Ljava/util/Iterator;" } : Jvm.MethodName)) ∈ lw_all := lw_g (lw_at lw_m13 28 rfl) rfl
theorem q3023 : (Jvm.Cond.interfaceMethod "java/util/Set" "java/util/Set" "iterator" "()Ljava/util/Iterator;") ∈ lw_tbl := lw_at lw_m13 29 rfl
theorem q3024 : (Jvm.Cond.declares ({ cls := "java/util/Set", name := "iterator", desc := "()Ljava/util/Iterator;" } : Jvm.MethodName)) ∈ lw_tbl := lw_at lw_m13 30 rfl
theorem q3025 : (Jvm.Cond.castable "java/util/HashMap$EntrySet" "java/util/Set") ∈ lw_tbl := lw_at lw_m13 31 rfl
theorem q3026 : (Jvm.Cond.selects "java/util/HashMap$EntrySet" ({ cls := "java/util/Set", name := "iterator", desc := "()Ljava/util/Iterator;" } : Jvm.MethodName) ({ cls := "java/util/HashMap$EntrySet", name := "iterator", desc := "()Ljava/util/Iterator;" } : Jvm.MethodName)) ∈ lw_all := lw_g (lw_at lw_m13 32 rfl) rfl
theorem q3027 : (Jvm.Cond.classLink "TollRoad$World" (106 : Nat) "java/util/Map$Entry") ∈ lw_all := lw_g (lw_at lw_m13 33 rfl) rfl
theorem q3029 : (Jvm.Cond.methodLink "TollRoad$World" (108 : Nat) ({ cls := "java/util/Map$Entry", name := "getKey", desc := "()Ljava/lang/Object;" } : Jvm.MethodName)) ∈ lw_all := lw_g (lw_at lw_m13 35 rfl) rfl
theorem q3030 : (Jvm.Cond.interfaceMethod "java/util/Map$Entry" "java/util/Map$Entry" "getKey" "()Ljava/lang/Object;") ∈ lw_tbl := lw_at lw_m13 36 rfl
theorem q3031 : (Jvm.Cond.declares ({ cls := "java/util/Map$Entry", name := "getKey", desc := "()Ljava/lang/Object;" } : Jvm.MethodName)) ∈ lw_tbl := lw_at lw_m13 37 rfl
theorem q3032 : (Jvm.Cond.castable "java/util/HashMap$Node" "java/util/Map$Entry") ∈ lw_tbl := lw_at lw_m13 38 rfl
theorem q3033 : (Jvm.Cond.selects "java/util/HashMap$Node" ({ cls := "java/util/Map$Entry", name := "getKey", desc := "()Ljava/lang/Object;" } : Jvm.MethodName) ({ cls := "java/util/HashMap$Node", name := "getKey", desc := "()Ljava/lang/Object;" } : Jvm.MethodName)) ∈ lw_all := lw_g (lw_at lw_m13 39 rfl) rfl
theorem q3034 : (Jvm.Cond.unhidden "java/util/HashMap$Node" "getKey" "()Ljava/lang/Object;") ∈ lw_tbl := lw_at lw_m13 40 rfl
theorem q3035 : (Jvm.Cond.instanceMethod ({ cls := "java/util/HashMap$Node", name := "getKey", desc := "()Ljava/lang/Object;" } : Jvm.MethodName)) ∈ lw_all := lw_g (lw_at lw_m13 41 rfl) rfl
theorem q3036 : (Jvm.Cond.publicMethod ({ cls := "java/util/HashMap$Node", name := "getKey", desc := "()Ljava/lang/Object;" } : Jvm.MethodName)) ∈ lw_tbl := lw_at lw_m13 42 rfl
theorem q3037 : (Jvm.Cond.code ({ cls := "java/util/HashMap$Node", name := "getKey", desc := "()Ljava/lang/Object;" } : Jvm.MethodName) prog_65_method_2_code (1 : Nat) (Option.some (Jvm.ClassFile.FieldType.object "java/lang/Object"))) ∈ lw_all := lw_g (lw_at lw_m13 43 rfl) rfl
theorem q3041 : (Jvm.Cond.castable "java/util/TreeMap$Entry" "java/util/Map$Entry") ∈ lw_tbl := lw_at lw_m13 47 rfl
theorem q3048 : (Jvm.Cond.methodLink "TollRoad$World" (113 : Nat) ({ cls := "java/util/Map$Entry", name := "getValue", desc := "()Ljava/lang/Object;" } : Jvm.MethodName)) ∈ lw_all := lw_g (lw_at lw_m13 54 rfl) rfl
theorem q3049 : (Jvm.Cond.interfaceMethod "java/util/Map$Entry" "java/util/Map$Entry" "getValue" "()Ljava/lang/Object;") ∈ lw_tbl := lw_at lw_m13 55 rfl
theorem q3050 : (Jvm.Cond.declares ({ cls := "java/util/Map$Entry", name := "getValue", desc := "()Ljava/lang/Object;" } : Jvm.MethodName)) ∈ lw_tbl := lw_at lw_m13 56 rfl
theorem q3051 : (Jvm.Cond.selects "java/util/HashMap$Node" ({ cls := "java/util/Map$Entry", name := "getValue", desc := "()Ljava/lang/Object;" } : Jvm.MethodName) ({ cls := "java/util/HashMap$Node", name := "getValue", desc := "()Ljava/lang/Object;" } : Jvm.MethodName)) ∈ lw_all := lw_g (lw_at lw_m13 57 rfl) rfl
theorem q3052 : (Jvm.Cond.unhidden "java/util/HashMap$Node" "getValue" "()Ljava/lang/Object;") ∈ lw_tbl := lw_at lw_m13 58 rfl
theorem q3053 : (Jvm.Cond.instanceMethod ({ cls := "java/util/HashMap$Node", name := "getValue", desc := "()Ljava/lang/Object;" } : Jvm.MethodName)) ∈ lw_all := lw_g (lw_at lw_m13 59 rfl) rfl
theorem q3054 : (Jvm.Cond.publicMethod ({ cls := "java/util/HashMap$Node", name := "getValue", desc := "()Ljava/lang/Object;" } : Jvm.MethodName)) ∈ lw_tbl := lw_at lw_m13 60 rfl
theorem q3055 : (Jvm.Cond.code ({ cls := "java/util/HashMap$Node", name := "getValue", desc := "()Ljava/lang/Object;" } : Jvm.MethodName) prog_65_method_3_code (1 : Nat) (Option.some (Jvm.ClassFile.FieldType.object "java/lang/Object"))) ∈ lw_all := lw_g (lw_at lw_m13 61 rfl) rfl
theorem q3063 : (Jvm.Cond.methodLink "TollRoadLaw" (270 : Nat) ({ cls := "TollRoadLaw", name := "restore", desc := "(LTollRoad;I)I" } : Jvm.MethodName)) ∈ lw_all := lw_g (lw_at lw_m13 69 rfl) rfl
theorem q3064 : (Jvm.Cond.static ({ cls := "TollRoadLaw", name := "restore", desc := "(LTollRoad;I)I" } : Jvm.MethodName)) ∈ lw_all := lw_g (lw_at lw_m13 70 rfl) rfl
theorem q3065 : (Jvm.Cond.codeWith ({ cls := "TollRoadLaw", name := "restore", desc := "(LTollRoad;I)I" } : Jvm.MethodName) method_37_code (3 : Nat) (Option.some Jvm.ClassFile.FieldType.int) [((0 : Nat), (5 : Nat), (8 : Nat), (18 : Nat)), ((0 : Nat), (5 : Nat), (11 : Nat), (13 : Nat))]) ∈ lw_all := lw_g (lw_at lw_m13 71 rfl) rfl
theorem q3066 : (Jvm.Cond.methodLink "TollRoadLaw" (123 : Nat) ({ cls := "TollRoad", name := "restore", desc := "(I)V" } : Jvm.MethodName)) ∈ lw_all := lw_g (lw_at lw_m13 72 rfl) rfl
theorem q3067 : (Jvm.Cond.instanceMethod ({ cls := "TollRoad", name := "restore", desc := "(I)V" } : Jvm.MethodName)) ∈ lw_all := lw_g (lw_at lw_m13 73 rfl) rfl
theorem q3068 : (Jvm.Cond.selects "TollRoad" ({ cls := "TollRoad", name := "restore", desc := "(I)V" } : Jvm.MethodName) ({ cls := "TollRoad", name := "restore", desc := "(I)V" } : Jvm.MethodName)) ∈ lw_all := lw_g (lw_at lw_m13 74 rfl) rfl
theorem q3069 : (Jvm.Cond.code ({ cls := "TollRoad", name := "restore", desc := "(I)V" } : Jvm.MethodName) prog_1_method_62_code (2 : Nat) (Option.none : Option Jvm.ClassFile.FieldType)) ∈ lw_all := lw_g (lw_at lw_m13 75 rfl) rfl
theorem q3070 : (Jvm.Cond.classLink "TollRoadLaw" (127 : Nat) "TollRoadModel") ∈ lw_all := lw_g (lw_at lw_m13 76 rfl) rfl
theorem q3071 : (Jvm.Cond.instantiable "TollRoadModel" (39 : Nat)) ∈ lw_all := lw_g (lw_at lw_m13 77 rfl) rfl
theorem q3072 : (Jvm.Cond.methodLink "TollRoadLaw" (129 : Nat) ({ cls := "TollRoadModel", name := "<init>", desc := "()V" } : Jvm.MethodName)) ∈ lw_all := lw_g (lw_at lw_m13 78 rfl) rfl
theorem q3073 : (Jvm.Cond.instanceMethod ({ cls := "TollRoadModel", name := "<init>", desc := "()V" } : Jvm.MethodName)) ∈ lw_all := lw_g (lw_at lw_m13 79 rfl) rfl
theorem q3074 : (Jvm.Cond.code ({ cls := "TollRoadModel", name := "<init>", desc := "()V" } : Jvm.MethodName) prog_21_method_1_code (1 : Nat) (Option.none : Option Jvm.ClassFile.FieldType)) ∈ lw_all := lw_g (lw_at lw_m13 80 rfl) rfl
theorem q3075 : (Jvm.Cond.methodLink "TollRoadModel" (1 : Nat) ({ cls := "java/lang/Object", name := "<init>", desc := "()V" } : Jvm.MethodName)) ∈ lw_all := lw_g (lw_at lw_m13 81 rfl) rfl
theorem q3076 : (Jvm.Cond.methodLink "TollRoadModel" (78 : Nat) ({ cls := "TollRoadModel", name := "clear", desc := "()V" } : Jvm.MethodName)) ∈ lw_all := lw_g (lw_at lw_m13 82 rfl) rfl
theorem q3078 : (Jvm.Cond.instanceMethod ({ cls := "TollRoadModel", name := "clear", desc := "()V" } : Jvm.MethodName)) ∈ lw_all := lw_g (lw_at lw_m13 84 rfl) rfl
theorem q3079 : (Jvm.Cond.code ({ cls := "TollRoadModel", name := "clear", desc := "()V" } : Jvm.MethodName) prog_21_method_5_code (2 : Nat) (Option.none : Option Jvm.ClassFile.FieldType)) ∈ lw_all := lw_g (lw_at lw_m13 85 rfl) rfl
theorem q3080 : (Jvm.Cond.fieldLink "TollRoadModel" (7 : Nat) "TollRoadModel" "state" "[I") ∈ lw_all := lw_g (lw_at lw_m13 86 rfl) rfl
theorem q3081 : (Jvm.Cond.fieldLink "TollRoadModel" (13 : Nat) "TollRoadModel" "backup" "[I") ∈ lw_all := lw_g (lw_at lw_m13 87 rfl) rfl
theorem q3082 : (Jvm.Cond.fieldLink "TollRoadModel" (16 : Nat) "TollRoadModel" "saved" "[I") ∈ lw_all := lw_g (lw_at lw_m13 88 rfl) rfl
theorem q3083 : (Jvm.Cond.fieldLink "TollRoadModel" (19 : Nat) "TollRoadModel" "isSaved" "[Z") ∈ lw_all := lw_g (lw_at lw_m13 89 rfl) rfl
theorem q3084 : (Jvm.Cond.fieldLink "TollRoadModel" (23 : Nat) "TollRoadModel" "firstValues" "[I") ∈ lw_all := lw_g (lw_at lw_m13 90 rfl) rfl
theorem q3085 : (Jvm.Cond.fieldLink "TollRoadModel" (26 : Nat) "TollRoadModel" "leastValues" "[I") ∈ lw_all := lw_g (lw_at lw_m13 91 rfl) rfl
theorem q3086 : (Jvm.Cond.fieldLink "TollRoadModel" (29 : Nat) "TollRoadModel" "greatestValues" "[I") ∈ lw_all := lw_g (lw_at lw_m13 92 rfl) rfl
theorem q3087 : (Jvm.Cond.fieldLink "TollRoadModel" (81 : Nat) "TollRoadModel" "thrown" "I") ∈ lw_all := lw_g (lw_at lw_m13 93 rfl) rfl
theorem q3088 : (Jvm.Cond.fieldLink "TollRoadModel" (32 : Nat) "TollRoadModel" "text" "[I") ∈ lw_all := lw_g (lw_at lw_m13 94 rfl) rfl
theorem q3089 : (Jvm.Cond.fieldLink "TollRoadModel" (84 : Nat) "TollRoadModel" "textLength" "I") ∈ lw_all := lw_g (lw_at lw_m13 95 rfl) rfl
theorem q3090 : (Jvm.Cond.fieldLink "TollRoadModel" (95 : Nat) "TollRoadModel" "position" "I") ∈ lw_all := lw_g (lw_at lw_m13 96 rfl) rfl
theorem q3091 : (Jvm.Cond.fieldLink "TollRoadModel" (101 : Nat) "TollRoadModel" "tokenStart" "I") ∈ lw_all := lw_g (lw_at lw_m13 97 rfl) rfl
theorem q3092 : (Jvm.Cond.fieldLink "TollRoadModel" (114 : Nat) "TollRoadModel" "token" "I") ∈ lw_all := lw_g (lw_at lw_m13 98 rfl) rfl
theorem q3093 : (Jvm.Cond.fieldLink "TollRoadModel" (104 : Nat) "TollRoadModel" "letters" "I") ∈ lw_all := lw_g (lw_at lw_m13 99 rfl) rfl
theorem q3094 : (Jvm.Cond.fieldLink "TollRoadModel" (111 : Nat) "TollRoadModel" "number" "I") ∈ lw_all := lw_g (lw_at lw_m13 100 rfl) rfl
theorem q3095 : (Jvm.Cond.fieldLink "TollRoadModel" (139 : Nat) "TollRoadModel" "errorCode" "I") ∈ lw_all := lw_g (lw_at lw_m13 101 rfl) rfl
theorem q3096 : (Jvm.Cond.fieldLink "TollRoadModel" (35 : Nat) "TollRoadModel" "errorPosition" "I") ∈ lw_all := lw_g (lw_at lw_m13 102 rfl) rfl
theorem q3097 : (Jvm.Cond.fieldLink "TollRoadModel" (107 : Nat) "TollRoadModel" "word" "J") ∈ lw_all := lw_g (lw_at lw_m13 103 rfl) rfl
theorem q3098 : (Jvm.Cond.fieldLink "TollRoadModel" (39 : Nat) "TollRoadModel" "way" "[I") ∈ lw_all := lw_g (lw_at lw_m13 104 rfl) rfl
theorem q3099 : (Jvm.Cond.fieldLink "TollRoadModel" (42 : Nat) "TollRoadModel" "tried" "[I") ∈ lw_all := lw_g (lw_at lw_m13 105 rfl) rfl
theorem q3100 : (Jvm.Cond.fieldLink "TollRoadModel" (45 : Nat) "TollRoadModel" "wayMinutes" "[I") ∈ lw_all := lw_g (lw_at lw_m13 106 rfl) rfl
theorem q3101 : (Jvm.Cond.fieldLink "TollRoadModel" (48 : Nat) "TollRoadModel" "wayToll" "[I") ∈ lw_all := lw_g (lw_at lw_m13 107 rfl) rfl
theorem q3102 : (Jvm.Cond.fieldLink "TollRoadModel" (51 : Nat) "TollRoadModel" "wayMiss" "[I") ∈ lw_all := lw_g (lw_at lw_m13 108 rfl) rfl
theorem q3103 : (Jvm.Cond.fieldLink "TollRoadModel" (54 : Nat) "TollRoadModel" "bestWay" "[I") ∈ lw_all := lw_g (lw_at lw_m13 109 rfl) rfl
theorem q3104 : (Jvm.Cond.fieldLink "TollRoadModel" (279 : Nat) "TollRoadModel" "bestCost" "I") ∈ lw_all := lw_g (lw_at lw_m13 110 rfl) rfl
theorem q3105 : (Jvm.Cond.fieldLink "TollRoadModel" (282 : Nat) "TollRoadModel" "bestRoads" "I") ∈ lw_all := lw_g (lw_at lw_m13 111 rfl) rfl
theorem q3106 : (Jvm.Cond.fieldLink "TollRoadModel" (285 : Nat) "TollRoadModel" "bestToll" "I") ∈ lw_all := lw_g (lw_at lw_m13 112 rfl) rfl
theorem q3107 : (Jvm.Cond.fieldLink "TollRoadModel" (288 : Nat) "TollRoadModel" "bestMinutes" "I") ∈ lw_all := lw_g (lw_at lw_m13 113 rfl) rfl
theorem q3108 : (Jvm.Cond.fieldLink "TollRoadModel" (270 : Nat) "TollRoadModel" "cheapest" "I") ∈ lw_all := lw_g (lw_at lw_m13 114 rfl) rfl
theorem q3109 : (Jvm.Cond.fieldLink "TollRoadModel" (57 : Nat) "TollRoadModel" "order" "[I") ∈ lw_all := lw_g (lw_at lw_m13 115 rfl) rfl
theorem q3110 : (Jvm.Cond.fieldLink "TollRoadModel" (60 : Nat) "TollRoadModel" "tripOf" "[I") ∈ lw_all := lw_g (lw_at lw_m13 116 rfl) rfl
theorem q3111 : (Jvm.Cond.fieldLink "TollRoadModel" (63 : Nat) "TollRoadModel" "tripStart" "[I") ∈ lw_all := lw_g (lw_at lw_m13 117 rfl) rfl
theorem q3112 : (Jvm.Cond.fieldLink "TollRoadModel" (66 : Nat) "TollRoadModel" "tripCost" "[I") ∈ lw_all := lw_g (lw_at lw_m13 118 rfl) rfl
theorem q3113 : (Jvm.Cond.fieldLink "TollRoadModel" (69 : Nat) "TollRoadModel" "tripSum" "[I") ∈ lw_all := lw_g (lw_at lw_m13 119 rfl) rfl
theorem q3114 : (Jvm.Cond.fieldLink "TollRoadModel" (72 : Nat) "TollRoadModel" "place" "[I") ∈ lw_all := lw_g (lw_at lw_m13 120 rfl) rfl
theorem q3115 : (Jvm.Cond.fieldLink "TollRoadModel" (75 : Nat) "TollRoadModel" "isMissing" "[Z") ∈ lw_all := lw_g (lw_at lw_m13 121 rfl) rfl
theorem q3116 : (Jvm.Cond.fieldLink "TollRoadModel" (325 : Nat) "TollRoadModel" "ordered" "I") ∈ lw_all := lw_g (lw_at lw_m13 122 rfl) rfl
theorem q3117 : (Jvm.Cond.fieldLink "TollRoadModel" (331 : Nat) "TollRoadModel" "tripCount" "I") ∈ lw_all := lw_g (lw_at lw_m13 123 rfl) rfl
theorem q3118 : (Jvm.Cond.fieldLink "TollRoadModel" (328 : Nat) "TollRoadModel" "places" "I") ∈ lw_all := lw_g (lw_at lw_m13 124 rfl) rfl
theorem q3198 : (Jvm.Cond.methodLink "TollRoadLaw" (136 : Nat) ({ cls := "TollRoadModel", name := "thrown", desc := "()I" } : Jvm.MethodName)) ∈ lw_all := lw_g (lw_at lw_m13 204 rfl) rfl
theorem q3199 : (Jvm.Cond.instanceMethod ({ cls := "TollRoadModel", name := "thrown", desc := "()I" } : Jvm.MethodName)) ∈ lw_all := lw_g (lw_at lw_m13 205 rfl) rfl
theorem q3200 : (Jvm.Cond.selects "TollRoadModel" ({ cls := "TollRoadModel", name := "thrown", desc := "()I" } : Jvm.MethodName) ({ cls := "TollRoadModel", name := "thrown", desc := "()I" } : Jvm.MethodName)) ∈ lw_all := lw_g (lw_at lw_m13 206 rfl) rfl
theorem q3201 : (Jvm.Cond.code ({ cls := "TollRoadModel", name := "thrown", desc := "()I" } : Jvm.MethodName) prog_21_method_2_code (1 : Nat) (Option.some Jvm.ClassFile.FieldType.int)) ∈ lw_all := lw_g (lw_at lw_m13 207 rfl) rfl
theorem q3202 : (Jvm.Cond.methodLink "TollRoadLaw" (135 : Nat) ({ cls := "TollRoadModel", name := "appendText", desc := "(I)I" } : Jvm.MethodName)) ∈ lw_all := lw_g (lw_at lw_m13 208 rfl) rfl
theorem q3203 : (Jvm.Cond.instanceMethod ({ cls := "TollRoadModel", name := "appendText", desc := "(I)I" } : Jvm.MethodName)) ∈ lw_all := lw_g (lw_at lw_m13 209 rfl) rfl
theorem q3204 : (Jvm.Cond.selects "TollRoadModel" ({ cls := "TollRoadModel", name := "appendText", desc := "(I)I" } : Jvm.MethodName) ({ cls := "TollRoadModel", name := "appendText", desc := "(I)I" } : Jvm.MethodName)) ∈ lw_all := lw_g (lw_at lw_m13 210 rfl) rfl
theorem q3205 : (Jvm.Cond.code ({ cls := "TollRoadModel", name := "appendText", desc := "(I)I" } : Jvm.MethodName) prog_21_method_8_code (3 : Nat) (Option.some Jvm.ClassFile.FieldType.int)) ∈ lw_all := lw_g (lw_at lw_m13 211 rfl) rfl
theorem q3206 : (Jvm.Cond.methodLink "TollRoadModel" (87 : Nat) ({ cls := "TollRoadModel", name := "fail", desc := "(I)I" } : Jvm.MethodName)) ∈ lw_all := lw_g (lw_at lw_m13 212 rfl) rfl
theorem q3208 : (Jvm.Cond.instanceMethod ({ cls := "TollRoadModel", name := "fail", desc := "(I)I" } : Jvm.MethodName)) ∈ lw_all := lw_g (lw_at lw_m13 214 rfl) rfl
theorem q3209 : (Jvm.Cond.code ({ cls := "TollRoadModel", name := "fail", desc := "(I)I" } : Jvm.MethodName) prog_21_method_3_code (2 : Nat) (Option.some Jvm.ClassFile.FieldType.int)) ∈ lw_all := lw_g (lw_at lw_m13 215 rfl) rfl
theorem q3210 : (Jvm.Cond.methodLink "TollRoadLaw" (142 : Nat) ({ cls := "TollRoadModel", name := "truncateText", desc := "(I)I" } : Jvm.MethodName)) ∈ lw_all := lw_g (lw_at lw_m13 216 rfl) rfl
theorem q3211 : (Jvm.Cond.instanceMethod ({ cls := "TollRoadModel", name := "truncateText", desc := "(I)I" } : Jvm.MethodName)) ∈ lw_all := lw_g (lw_at lw_m13 217 rfl) rfl
theorem q3212 : (Jvm.Cond.selects "TollRoadModel" ({ cls := "TollRoadModel", name := "truncateText", desc := "(I)I" } : Jvm.MethodName) ({ cls := "TollRoadModel", name := "truncateText", desc := "(I)I" } : Jvm.MethodName)) ∈ lw_all := lw_g (lw_at lw_m13 218 rfl) rfl
theorem q3213 : (Jvm.Cond.code ({ cls := "TollRoadModel", name := "truncateText", desc := "(I)I" } : Jvm.MethodName) prog_21_method_9_code (2 : Nat) (Option.some Jvm.ClassFile.FieldType.int)) ∈ lw_all := lw_g (lw_at lw_m13 219 rfl) rfl
theorem q3214 : (Jvm.Cond.methodLink "TollRoadModel" (91 : Nat) ({ cls := "TollRoadModel", name := "isBetween", desc := "(III)Z" } : Jvm.MethodName)) ∈ lw_all := lw_g (lw_at lw_m13 220 rfl) rfl
theorem q3215 : (Jvm.Cond.static ({ cls := "TollRoadModel", name := "isBetween", desc := "(III)Z" } : Jvm.MethodName)) ∈ lw_all := lw_g (lw_at lw_m13 221 rfl) rfl
theorem q3216 : (Jvm.Cond.code ({ cls := "TollRoadModel", name := "isBetween", desc := "(III)Z" } : Jvm.MethodName) prog_21_method_4_code (3 : Nat) (Option.some Jvm.ClassFile.FieldType.boolean)) ∈ lw_all := lw_g (lw_at lw_m13 222 rfl) rfl
theorem q3217 : (Jvm.Cond.methodLink "TollRoadLaw" (146 : Nat) ({ cls := "TollRoadModel", name := "load", desc := "()I" } : Jvm.MethodName)) ∈ lw_all := lw_g (lw_at lw_m13 223 rfl) rfl
theorem q3218 : (Jvm.Cond.instanceMethod ({ cls := "TollRoadModel", name := "load", desc := "()I" } : Jvm.MethodName)) ∈ lw_all := lw_g (lw_at lw_m13 224 rfl) rfl
theorem q3219 : (Jvm.Cond.selects "TollRoadModel" ({ cls := "TollRoadModel", name := "load", desc := "()I" } : Jvm.MethodName) ({ cls := "TollRoadModel", name := "load", desc := "()I" } : Jvm.MethodName)) ∈ lw_all := lw_g (lw_at lw_m13 225 rfl) rfl
theorem q3220 : (Jvm.Cond.code ({ cls := "TollRoadModel", name := "load", desc := "()I" } : Jvm.MethodName) prog_21_method_27_code (2 : Nat) (Option.some Jvm.ClassFile.FieldType.int)) ∈ lw_all := lw_g (lw_at lw_m13 226 rfl) rfl
theorem q3221 : (Jvm.Cond.methodLink "TollRoadModel" (214 : Nat) ({ cls := "TollRoadModel", name := "copy", desc := "([II[II)V" } : Jvm.MethodName)) ∈ lw_all := lw_g (lw_at lw_m13 227 rfl) rfl
theorem q3222 : (Jvm.Cond.static ({ cls := "TollRoadModel", name := "copy", desc := "([II[II)V" } : Jvm.MethodName)) ∈ lw_all := lw_g (lw_at lw_m13 228 rfl) rfl
theorem q3223 : (Jvm.Cond.code ({ cls := "TollRoadModel", name := "copy", desc := "([II[II)V" } : Jvm.MethodName) prog_21_method_6_code (5 : Nat) (Option.none : Option Jvm.ClassFile.FieldType)) ∈ lw_all := lw_g (lw_at lw_m13 229 rfl) rfl
theorem q3224 : (Jvm.Cond.methodLink "TollRoadModel" (146 : Nat) ({ cls := "TollRoadModel", name := "nextToken", desc := "()V" } : Jvm.MethodName)) ∈ lw_all := lw_g (lw_at lw_m13 230 rfl) rfl
theorem q3226 : (Jvm.Cond.instanceMethod ({ cls := "TollRoadModel", name := "nextToken", desc := "()V" } : Jvm.MethodName)) ∈ lw_all := lw_g (lw_at lw_m13 232 rfl) rfl
theorem q3227 : (Jvm.Cond.code ({ cls := "TollRoadModel", name := "nextToken", desc := "()V" } : Jvm.MethodName) prog_21_method_13_code (2 : Nat) (Option.none : Option Jvm.ClassFile.FieldType)) ∈ lw_all := lw_g (lw_at lw_m13 233 rfl) rfl
theorem q3228 : (Jvm.Cond.methodLink "TollRoadModel" (98 : Nat) ({ cls := "TollRoadModel", name := "byteAt", desc := "(I)I" } : Jvm.MethodName)) ∈ lw_all := lw_g (lw_at lw_m13 234 rfl) rfl
theorem q3230 : (Jvm.Cond.instanceMethod ({ cls := "TollRoadModel", name := "byteAt", desc := "(I)I" } : Jvm.MethodName)) ∈ lw_all := lw_g (lw_at lw_m13 236 rfl) rfl
theorem q3231 : (Jvm.Cond.code ({ cls := "TollRoadModel", name := "byteAt", desc := "(I)I" } : Jvm.MethodName) prog_21_method_10_code (2 : Nat) (Option.some Jvm.ClassFile.FieldType.int)) ∈ lw_all := lw_g (lw_at lw_m13 237 rfl) rfl
theorem q3232 : (Jvm.Cond.methodLink "TollRoadModel" (117 : Nat) ({ cls := "TollRoadModel", name := "isLetter", desc := "(I)Z" } : Jvm.MethodName)) ∈ lw_all := lw_g (lw_at lw_m13 238 rfl) rfl
theorem q3233 : (Jvm.Cond.static ({ cls := "TollRoadModel", name := "isLetter", desc := "(I)Z" } : Jvm.MethodName)) ∈ lw_all := lw_g (lw_at lw_m13 239 rfl) rfl
theorem q3234 : (Jvm.Cond.code ({ cls := "TollRoadModel", name := "isLetter", desc := "(I)Z" } : Jvm.MethodName) prog_21_method_11_code (1 : Nat) (Option.some Jvm.ClassFile.FieldType.boolean)) ∈ lw_all := lw_g (lw_at lw_m14 0 rfl) rfl
theorem q3235 : (Jvm.Cond.constantLong "TollRoadModel" (121 : Nat) (27 : Int64)) ∈ lw_all := lw_g (lw_at lw_m14 1 rfl) rfl
theorem q3236 : (Jvm.Cond.constantLong "TollRoadModel" (123 : Nat) (96 : Int64)) ∈ lw_all := lw_g (lw_at lw_m14 2 rfl) rfl
theorem q3237 : (Jvm.Cond.methodLink "TollRoadModel" (125 : Nat) ({ cls := "TollRoadModel", name := "isDigit", desc := "(I)Z" } : Jvm.MethodName)) ∈ lw_all := lw_g (lw_at lw_m14 3 rfl) rfl
theorem q3238 : (Jvm.Cond.static ({ cls := "TollRoadModel", name := "isDigit", desc := "(I)Z" } : Jvm.MethodName)) ∈ lw_all := lw_g (lw_at lw_m14 4 rfl) rfl
theorem q3239 : (Jvm.Cond.code ({ cls := "TollRoadModel", name := "isDigit", desc := "(I)Z" } : Jvm.MethodName) prog_21_method_12_code (1 : Nat) (Option.some Jvm.ClassFile.FieldType.boolean)) ∈ lw_all := lw_g (lw_at lw_m14 5 rfl) rfl
theorem q3240 : (Jvm.Cond.constant "TollRoadModel" (128 : Nat) (10000000 : Int32)) ∈ lw_all := lw_g (lw_at lw_m14 6 rfl) rfl
theorem q3241 : (Jvm.Cond.methodLink "TollRoadModel" (142 : Nat) ({ cls := "TollRoadModel", name := "isFine", desc := "()Z" } : Jvm.MethodName)) ∈ lw_all := lw_g (lw_at lw_m14 7 rfl) rfl
theorem q3243 : (Jvm.Cond.instanceMethod ({ cls := "TollRoadModel", name := "isFine", desc := "()Z" } : Jvm.MethodName)) ∈ lw_all := lw_g (lw_at lw_m14 9 rfl) rfl
theorem q3244 : (Jvm.Cond.code ({ cls := "TollRoadModel", name := "isFine", desc := "()Z" } : Jvm.MethodName) prog_21_method_16_code (1 : Nat) (Option.some Jvm.ClassFile.FieldType.boolean)) ∈ lw_all := lw_g (lw_at lw_m14 10 rfl) rfl
theorem q3245 : (Jvm.Cond.methodLink "TollRoadModel" (218 : Nat) ({ cls := "TollRoadModel", name := "parseStatement", desc := "()V" } : Jvm.MethodName)) ∈ lw_all := lw_g (lw_at lw_m14 11 rfl) rfl
theorem q3247 : (Jvm.Cond.instanceMethod ({ cls := "TollRoadModel", name := "parseStatement", desc := "()V" } : Jvm.MethodName)) ∈ lw_all := lw_g (lw_at lw_m14 13 rfl) rfl
theorem q3248 : (Jvm.Cond.code ({ cls := "TollRoadModel", name := "parseStatement", desc := "()V" } : Jvm.MethodName) prog_21_method_26_code (1 : Nat) (Option.none : Option Jvm.ClassFile.FieldType)) ∈ lw_all := lw_g (lw_at lw_m14 14 rfl) rfl
theorem q3250 : (Jvm.Cond.methodLink "TollRoadModel" (149 : Nat) ({ cls := "TollRoadModel", name := "isWord", desc := "(Ljava/lang/String;)Z" } : Jvm.MethodName)) ∈ lw_all := lw_g (lw_at lw_m14 16 rfl) rfl
theorem q3252 : (Jvm.Cond.instanceMethod ({ cls := "TollRoadModel", name := "isWord", desc := "(Ljava/lang/String;)Z" } : Jvm.MethodName)) ∈ lw_all := lw_g (lw_at lw_m14 18 rfl) rfl
theorem q3253 : (Jvm.Cond.code ({ cls := "TollRoadModel", name := "isWord", desc := "(Ljava/lang/String;)Z" } : Jvm.MethodName) prog_21_method_14_code (5 : Nat) (Option.some Jvm.ClassFile.FieldType.boolean)) ∈ lw_all := lw_g (lw_at lw_m14 19 rfl) rfl
theorem q3254 : (Jvm.Cond.methodLink "TollRoadModel" (129 : Nat) ({ cls := "java/lang/String", name := "length", desc := "()I" } : Jvm.MethodName)) ∈ lw_all := lw_g (lw_at lw_m14 20 rfl) rfl
theorem q3255 : (Jvm.Cond.methodLink "TollRoadModel" (135 : Nat) ({ cls := "java/lang/String", name := "charAt", desc := "(I)C" } : Jvm.MethodName)) ∈ lw_all := lw_g (lw_at lw_m14 21 rfl) rfl
theorem q3256 : (Jvm.Cond.instanceMethod ({ cls := "java/lang/String", name := "charAt", desc := "(I)C" } : Jvm.MethodName)) ∈ lw_all := lw_g (lw_at lw_m14 22 rfl) rfl
theorem q3257 : (Jvm.Cond.selects "java/lang/String" ({ cls := "java/lang/String", name := "charAt", desc := "(I)C" } : Jvm.MethodName) ({ cls := "java/lang/String", name := "charAt", desc := "(I)C" } : Jvm.MethodName)) ∈ lw_all := lw_g (lw_at lw_m14 23 rfl) rfl
theorem q3258 : (Jvm.Cond.code ({ cls := "java/lang/String", name := "charAt", desc := "(I)C" } : Jvm.MethodName) prog_41_method_56_code (2 : Nat) (Option.some Jvm.ClassFile.FieldType.char)) ∈ lw_all := lw_g (lw_at lw_m14 24 rfl) rfl
theorem q3259 : (Jvm.Cond.methodLink "java/lang/String" (495 : Nat) ({ cls := "java/lang/StringLatin1", name := "charAt", desc := "([BI)C" } : Jvm.MethodName)) ∈ lw_all := lw_g (lw_at lw_m14 25 rfl) rfl
theorem q3260 : (Jvm.Cond.static ({ cls := "java/lang/StringLatin1", name := "charAt", desc := "([BI)C" } : Jvm.MethodName)) ∈ lw_all := lw_g (lw_at lw_m14 26 rfl) rfl
theorem q3261 : (Jvm.Cond.code ({ cls := "java/lang/StringLatin1", name := "charAt", desc := "([BI)C" } : Jvm.MethodName) prog_43_method_2_code (2 : Nat) (Option.some Jvm.ClassFile.FieldType.char)) ∈ lw_all := lw_g (lw_at lw_m14 27 rfl) rfl
theorem q3262 : (Jvm.Cond.methodLink "java/lang/StringLatin1" (9 : Nat) ({ cls := "java/lang/String", name := "checkIndex", desc := "(II)V" } : Jvm.MethodName)) ∈ lw_all := lw_g (lw_at lw_m14 28 rfl) rfl
theorem q3263 : (Jvm.Cond.methodLink "java/lang/String" (498 : Nat) ({ cls := "java/lang/StringUTF16", name := "charAt", desc := "([BI)C" } : Jvm.MethodName)) ∈ lw_all := lw_g (lw_at lw_m14 29 rfl) rfl
theorem q3266 : (Jvm.Cond.methodLink "TollRoadModel" (195 : Nat) ({ cls := "TollRoadModel", name := "parseGantry", desc := "()V" } : Jvm.MethodName)) ∈ lw_all := lw_g (lw_at lw_m14 32 rfl) rfl
theorem q3268 : (Jvm.Cond.instanceMethod ({ cls := "TollRoadModel", name := "parseGantry", desc := "()V" } : Jvm.MethodName)) ∈ lw_all := lw_g (lw_at lw_m14 34 rfl) rfl
theorem q3269 : (Jvm.Cond.code ({ cls := "TollRoadModel", name := "parseGantry", desc := "()V" } : Jvm.MethodName) prog_21_method_21_code (3 : Nat) (Option.none : Option Jvm.ClassFile.FieldType)) ∈ lw_all := lw_g (lw_at lw_m14 35 rfl) rfl
theorem q3270 : (Jvm.Cond.methodLink "TollRoadModel" (153 : Nat) ({ cls := "TollRoadModel", name := "require", desc := "(ZI)V" } : Jvm.MethodName)) ∈ lw_all := lw_g (lw_at lw_m14 36 rfl) rfl
theorem q3272 : (Jvm.Cond.instanceMethod ({ cls := "TollRoadModel", name := "require", desc := "(ZI)V" } : Jvm.MethodName)) ∈ lw_all := lw_g (lw_at lw_m14 38 rfl) rfl
theorem q3273 : (Jvm.Cond.code ({ cls := "TollRoadModel", name := "require", desc := "(ZI)V" } : Jvm.MethodName) prog_21_method_15_code (3 : Nat) (Option.none : Option Jvm.ClassFile.FieldType)) ∈ lw_all := lw_g (lw_at lw_m14 39 rfl) rfl
theorem q3274 : (Jvm.Cond.methodLink "TollRoadModel" (161 : Nat) ({ cls := "TollRoadModel", name := "advance", desc := "()V" } : Jvm.MethodName)) ∈ lw_all := lw_g (lw_at lw_m14 40 rfl) rfl
theorem q3276 : (Jvm.Cond.instanceMethod ({ cls := "TollRoadModel", name := "advance", desc := "()V" } : Jvm.MethodName)) ∈ lw_all := lw_g (lw_at lw_m14 42 rfl) rfl
theorem q3277 : (Jvm.Cond.code ({ cls := "TollRoadModel", name := "advance", desc := "()V" } : Jvm.MethodName) prog_21_method_17_code (1 : Nat) (Option.none : Option Jvm.ClassFile.FieldType)) ∈ lw_all := lw_g (lw_at lw_m14 43 rfl) rfl
theorem q3278 : (Jvm.Cond.methodLink "TollRoadModel" (164 : Nat) ({ cls := "TollRoadModel", name := "parseNumber", desc := "(II)I" } : Jvm.MethodName)) ∈ lw_all := lw_g (lw_at lw_m14 44 rfl) rfl
theorem q3280 : (Jvm.Cond.instanceMethod ({ cls := "TollRoadModel", name := "parseNumber", desc := "(II)I" } : Jvm.MethodName)) ∈ lw_all := lw_g (lw_at lw_m14 46 rfl) rfl
theorem q3281 : (Jvm.Cond.code ({ cls := "TollRoadModel", name := "parseNumber", desc := "(II)I" } : Jvm.MethodName) prog_21_method_20_code (4 : Nat) (Option.some Jvm.ClassFile.FieldType.int)) ∈ lw_all := lw_g (lw_at lw_m14 47 rfl) rfl
theorem q3282 : (Jvm.Cond.methodLink "TollRoadModel" (157 : Nat) ({ cls := "TollRoadModel", name := "look", desc := "(II)V" } : Jvm.MethodName)) ∈ lw_all := lw_g (lw_at lw_m14 48 rfl) rfl
theorem q3284 : (Jvm.Cond.instanceMethod ({ cls := "TollRoadModel", name := "look", desc := "(II)V" } : Jvm.MethodName)) ∈ lw_all := lw_g (lw_at lw_m14 50 rfl) rfl
theorem q3285 : (Jvm.Cond.code ({ cls := "TollRoadModel", name := "look", desc := "(II)V" } : Jvm.MethodName) prog_21_method_19_code (3 : Nat) (Option.none : Option Jvm.ClassFile.FieldType)) ∈ lw_all := lw_g (lw_at lw_m14 51 rfl) rfl
theorem q3286 : (Jvm.Cond.methodLink "TollRoadModel" (168 : Nat) ({ cls := "TollRoadModel", name := "appendGantry", desc := "(I)I" } : Jvm.MethodName)) ∈ lw_all := lw_g (lw_at lw_m14 52 rfl) rfl
theorem q3288 : (Jvm.Cond.instanceMethod ({ cls := "TollRoadModel", name := "appendGantry", desc := "(I)I" } : Jvm.MethodName)) ∈ lw_all := lw_g (lw_at lw_m14 54 rfl) rfl
theorem q3289 : (Jvm.Cond.code ({ cls := "TollRoadModel", name := "appendGantry", desc := "(I)I" } : Jvm.MethodName) prog_21_method_33_code (2 : Nat) (Option.some Jvm.ClassFile.FieldType.int)) ∈ lw_all := lw_g (lw_at lw_m14 55 rfl) rfl
theorem q3291 : (Jvm.Cond.methodLink "TollRoadModel" (200 : Nat) ({ cls := "TollRoadModel", name := "parseRoad", desc := "()V" } : Jvm.MethodName)) ∈ lw_all := lw_g (lw_at lw_m14 57 rfl) rfl
theorem q3293 : (Jvm.Cond.instanceMethod ({ cls := "TollRoadModel", name := "parseRoad", desc := "()V" } : Jvm.MethodName)) ∈ lw_all := lw_g (lw_at lw_m14 59 rfl) rfl
theorem q3294 : (Jvm.Cond.code ({ cls := "TollRoadModel", name := "parseRoad", desc := "()V" } : Jvm.MethodName) prog_21_method_22_code (6 : Nat) (Option.none : Option Jvm.ClassFile.FieldType)) ∈ lw_all := lw_g (lw_at lw_m14 60 rfl) rfl
theorem q3295 : (Jvm.Cond.methodLink "TollRoadModel" (171 : Nat) ({ cls := "TollRoadModel", name := "roadFrom", desc := "(II)I" } : Jvm.MethodName)) ∈ lw_all := lw_g (lw_at lw_m14 61 rfl) rfl
theorem q3297 : (Jvm.Cond.instanceMethod ({ cls := "TollRoadModel", name := "roadFrom", desc := "(II)I" } : Jvm.MethodName)) ∈ lw_all := lw_g (lw_at lw_m14 63 rfl) rfl
theorem q3298 : (Jvm.Cond.code ({ cls := "TollRoadModel", name := "roadFrom", desc := "(II)I" } : Jvm.MethodName) prog_21_method_35_code (4 : Nat) (Option.some Jvm.ClassFile.FieldType.int)) ∈ lw_all := lw_g (lw_at lw_m14 64 rfl) rfl
theorem q3299 : (Jvm.Cond.methodLink "TollRoadModel" (174 : Nat) ({ cls := "TollRoadModel", name := "appendRoad", desc := "(IIII)I" } : Jvm.MethodName)) ∈ lw_all := lw_g (lw_at lw_m14 65 rfl) rfl
theorem q3301 : (Jvm.Cond.instanceMethod ({ cls := "TollRoadModel", name := "appendRoad", desc := "(IIII)I" } : Jvm.MethodName)) ∈ lw_all := lw_g (lw_at lw_m14 67 rfl) rfl
theorem q3302 : (Jvm.Cond.code ({ cls := "TollRoadModel", name := "appendRoad", desc := "(IIII)I" } : Jvm.MethodName) prog_21_method_36_code (6 : Nat) (Option.some Jvm.ClassFile.FieldType.int)) ∈ lw_all := lw_g (lw_at lw_m14 68 rfl) rfl
theorem q3304 : (Jvm.Cond.methodLink "TollRoadModel" (203 : Nat) ({ cls := "TollRoadModel", name := "parseAccount", desc := "()V" } : Jvm.MethodName)) ∈ lw_all := lw_g (lw_at lw_m14 70 rfl) rfl
theorem q3306 : (Jvm.Cond.instanceMethod ({ cls := "TollRoadModel", name := "parseAccount", desc := "()V" } : Jvm.MethodName)) ∈ lw_all := lw_g (lw_at lw_m14 72 rfl) rfl
theorem q3307 : (Jvm.Cond.code ({ cls := "TollRoadModel", name := "parseAccount", desc := "()V" } : Jvm.MethodName) prog_21_method_23_code (5 : Nat) (Option.none : Option Jvm.ClassFile.FieldType)) ∈ lw_all := lw_g (lw_at lw_m14 73 rfl) rfl
theorem q3308 : (Jvm.Cond.constant "TollRoadModel" (178 : Nat) (100000 : Int32)) ∈ lw_all := lw_g (lw_at lw_m14 74 rfl) rfl
theorem q3309 : (Jvm.Cond.methodLink "TollRoadModel" (179 : Nat) ({ cls := "TollRoadModel", name := "appendAccount", desc := "(III)I" } : Jvm.MethodName)) ∈ lw_all := lw_g (lw_at lw_m14 75 rfl) rfl
theorem q3311 : (Jvm.Cond.instanceMethod ({ cls := "TollRoadModel", name := "appendAccount", desc := "(III)I" } : Jvm.MethodName)) ∈ lw_all := lw_g (lw_at lw_m14 77 rfl) rfl
theorem q3312 : (Jvm.Cond.code ({ cls := "TollRoadModel", name := "appendAccount", desc := "(III)I" } : Jvm.MethodName) prog_21_method_40_code (5 : Nat) (Option.some Jvm.ClassFile.FieldType.int)) ∈ lw_all := lw_g (lw_at lw_m14 78 rfl) rfl
theorem q3313 : (Jvm.Cond.methodLink "TollRoadModel" (224 : Nat) ({ cls := "TollRoadModel", name := "raise", desc := "(III)V" } : Jvm.MethodName)) ∈ lw_all := lw_g (lw_at lw_m14 79 rfl) rfl
theorem q3315 : (Jvm.Cond.instanceMethod ({ cls := "TollRoadModel", name := "raise", desc := "(III)V" } : Jvm.MethodName)) ∈ lw_all := lw_g (lw_at lw_m14 81 rfl) rfl
theorem q3316 : (Jvm.Cond.code ({ cls := "TollRoadModel", name := "raise", desc := "(III)V" } : Jvm.MethodName) prog_21_method_39_code (4 : Nat) (Option.none : Option Jvm.ClassFile.FieldType)) ∈ lw_all := lw_g (lw_at lw_m14 82 rfl) rfl
theorem q3318 : (Jvm.Cond.methodLink "TollRoadModel" (208 : Nat) ({ cls := "TollRoadModel", name := "parseVehicle", desc := "()V" } : Jvm.MethodName)) ∈ lw_all := lw_g (lw_at lw_m14 84 rfl) rfl
theorem q3320 : (Jvm.Cond.instanceMethod ({ cls := "TollRoadModel", name := "parseVehicle", desc := "()V" } : Jvm.MethodName)) ∈ lw_all := lw_g (lw_at lw_m14 86 rfl) rfl
theorem q3321 : (Jvm.Cond.code ({ cls := "TollRoadModel", name := "parseVehicle", desc := "()V" } : Jvm.MethodName) prog_21_method_24_code (4 : Nat) (Option.none : Option Jvm.ClassFile.FieldType)) ∈ lw_all := lw_g (lw_at lw_m14 87 rfl) rfl
theorem q3322 : (Jvm.Cond.methodLink "TollRoadModel" (185 : Nat) ({ cls := "TollRoadModel", name := "accept", desc := "(Ljava/lang/String;)Z" } : Jvm.MethodName)) ∈ lw_all := lw_g (lw_at lw_m14 88 rfl) rfl
theorem q3324 : (Jvm.Cond.instanceMethod ({ cls := "TollRoadModel", name := "accept", desc := "(Ljava/lang/String;)Z" } : Jvm.MethodName)) ∈ lw_all := lw_g (lw_at lw_m14 90 rfl) rfl
theorem q3325 : (Jvm.Cond.code ({ cls := "TollRoadModel", name := "accept", desc := "(Ljava/lang/String;)Z" } : Jvm.MethodName) prog_21_method_18_code (3 : Nat) (Option.some Jvm.ClassFile.FieldType.boolean)) ∈ lw_all := lw_g (lw_at lw_m14 91 rfl) rfl
theorem q3326 : (Jvm.Cond.methodLink "TollRoadModel" (188 : Nat) ({ cls := "TollRoadModel", name := "appendVehicle", desc := "(II)I" } : Jvm.MethodName)) ∈ lw_all := lw_g (lw_at lw_m14 92 rfl) rfl
theorem q3328 : (Jvm.Cond.instanceMethod ({ cls := "TollRoadModel", name := "appendVehicle", desc := "(II)I" } : Jvm.MethodName)) ∈ lw_all := lw_g (lw_at lw_m14 94 rfl) rfl
theorem q3329 : (Jvm.Cond.code ({ cls := "TollRoadModel", name := "appendVehicle", desc := "(II)I" } : Jvm.MethodName) prog_21_method_43_code (4 : Nat) (Option.some Jvm.ClassFile.FieldType.int)) ∈ lw_all := lw_g (lw_at lw_m14 95 rfl) rfl
theorem q3330 : (Jvm.Cond.methodLink "TollRoadModel" (211 : Nat) ({ cls := "TollRoadModel", name := "parseSet", desc := "()V" } : Jvm.MethodName)) ∈ lw_all := lw_g (lw_at lw_m14 96 rfl) rfl
theorem q3332 : (Jvm.Cond.instanceMethod ({ cls := "TollRoadModel", name := "parseSet", desc := "()V" } : Jvm.MethodName)) ∈ lw_all := lw_g (lw_at lw_m14 98 rfl) rfl
theorem q3333 : (Jvm.Cond.code ({ cls := "TollRoadModel", name := "parseSet", desc := "()V" } : Jvm.MethodName) prog_21_method_25_code (3 : Nat) (Option.none : Option Jvm.ClassFile.FieldType)) ∈ lw_all := lw_g (lw_at lw_m14 99 rfl) rfl
theorem q3335 : (Jvm.Cond.methodLink "TollRoadLaw" (150 : Nat) ({ cls := "TollRoadModel", name := "errorCode", desc := "()I" } : Jvm.MethodName)) ∈ lw_all := lw_g (lw_at lw_m14 101 rfl) rfl
theorem q3336 : (Jvm.Cond.instanceMethod ({ cls := "TollRoadModel", name := "errorCode", desc := "()I" } : Jvm.MethodName)) ∈ lw_all := lw_g (lw_at lw_m14 102 rfl) rfl
theorem q3337 : (Jvm.Cond.selects "TollRoadModel" ({ cls := "TollRoadModel", name := "errorCode", desc := "()I" } : Jvm.MethodName) ({ cls := "TollRoadModel", name := "errorCode", desc := "()I" } : Jvm.MethodName)) ∈ lw_all := lw_g (lw_at lw_m14 103 rfl) rfl
theorem q3338 : (Jvm.Cond.code ({ cls := "TollRoadModel", name := "errorCode", desc := "()I" } : Jvm.MethodName) prog_21_method_28_code (1 : Nat) (Option.some Jvm.ClassFile.FieldType.int)) ∈ lw_all := lw_g (lw_at lw_m14 104 rfl) rfl
theorem q3339 : (Jvm.Cond.methodLink "TollRoadLaw" (154 : Nat) ({ cls := "TollRoadModel", name := "errorPosition", desc := "()I" } : Jvm.MethodName)) ∈ lw_all := lw_g (lw_at lw_m14 105 rfl) rfl
theorem q3340 : (Jvm.Cond.instanceMethod ({ cls := "TollRoadModel", name := "errorPosition", desc := "()I" } : Jvm.MethodName)) ∈ lw_all := lw_g (lw_at lw_m14 106 rfl) rfl
theorem q3341 : (Jvm.Cond.selects "TollRoadModel" ({ cls := "TollRoadModel", name := "errorPosition", desc := "()I" } : Jvm.MethodName) ({ cls := "TollRoadModel", name := "errorPosition", desc := "()I" } : Jvm.MethodName)) ∈ lw_all := lw_g (lw_at lw_m14 107 rfl) rfl
theorem q3342 : (Jvm.Cond.code ({ cls := "TollRoadModel", name := "errorPosition", desc := "()I" } : Jvm.MethodName) prog_21_method_29_code (1 : Nat) (Option.some Jvm.ClassFile.FieldType.int)) ∈ lw_all := lw_g (lw_at lw_m14 108 rfl) rfl
theorem q3343 : (Jvm.Cond.methodLink "TollRoadLaw" (157 : Nat) ({ cls := "TollRoadModel", name := "addGantry", desc := "(I)I" } : Jvm.MethodName)) ∈ lw_all := lw_g (lw_at lw_m14 109 rfl) rfl
theorem q3344 : (Jvm.Cond.instanceMethod ({ cls := "TollRoadModel", name := "addGantry", desc := "(I)I" } : Jvm.MethodName)) ∈ lw_all := lw_g (lw_at lw_m14 110 rfl) rfl
theorem q3345 : (Jvm.Cond.selects "TollRoadModel" ({ cls := "TollRoadModel", name := "addGantry", desc := "(I)I" } : Jvm.MethodName) ({ cls := "TollRoadModel", name := "addGantry", desc := "(I)I" } : Jvm.MethodName)) ∈ lw_all := lw_g (lw_at lw_m14 111 rfl) rfl
theorem q3346 : (Jvm.Cond.code ({ cls := "TollRoadModel", name := "addGantry", desc := "(I)I" } : Jvm.MethodName) prog_21_method_34_code (2 : Nat) (Option.some Jvm.ClassFile.FieldType.int)) ∈ lw_all := lw_g (lw_at lw_m14 112 rfl) rfl
theorem q3347 : (Jvm.Cond.methodLink "TollRoadLaw" (161 : Nat) ({ cls := "TollRoadModel", name := "addRoad", desc := "(IIII)I" } : Jvm.MethodName)) ∈ lw_all := lw_g (lw_at lw_m14 113 rfl) rfl
theorem q3348 : (Jvm.Cond.instanceMethod ({ cls := "TollRoadModel", name := "addRoad", desc := "(IIII)I" } : Jvm.MethodName)) ∈ lw_all := lw_g (lw_at lw_m14 114 rfl) rfl
theorem q3349 : (Jvm.Cond.selects "TollRoadModel" ({ cls := "TollRoadModel", name := "addRoad", desc := "(IIII)I" } : Jvm.MethodName) ({ cls := "TollRoadModel", name := "addRoad", desc := "(IIII)I" } : Jvm.MethodName)) ∈ lw_all := lw_g (lw_at lw_m14 115 rfl) rfl
theorem q3350 : (Jvm.Cond.code ({ cls := "TollRoadModel", name := "addRoad", desc := "(IIII)I" } : Jvm.MethodName) prog_21_method_37_code (5 : Nat) (Option.some Jvm.ClassFile.FieldType.int)) ∈ lw_all := lw_g (lw_at lw_m14 116 rfl) rfl
theorem q3351 : (Jvm.Cond.methodLink "TollRoadModel" (221 : Nat) ({ cls := "TollRoadModel", name := "isGantry", desc := "(I)Z" } : Jvm.MethodName)) ∈ lw_all := lw_g (lw_at lw_m14 117 rfl) rfl
theorem q3353 : (Jvm.Cond.instanceMethod ({ cls := "TollRoadModel", name := "isGantry", desc := "(I)Z" } : Jvm.MethodName)) ∈ lw_all := lw_g (lw_at lw_m14 119 rfl) rfl
theorem q3354 : (Jvm.Cond.code ({ cls := "TollRoadModel", name := "isGantry", desc := "(I)Z" } : Jvm.MethodName) prog_21_method_30_code (2 : Nat) (Option.some Jvm.ClassFile.FieldType.boolean)) ∈ lw_all := lw_g (lw_at lw_m14 120 rfl) rfl
theorem q3355 : (Jvm.Cond.methodLink "TollRoadLaw" (165 : Nat) ({ cls := "TollRoadModel", name := "addAccount", desc := "(III)I" } : Jvm.MethodName)) ∈ lw_all := lw_g (lw_at lw_m14 121 rfl) rfl
theorem q3356 : (Jvm.Cond.instanceMethod ({ cls := "TollRoadModel", name := "addAccount", desc := "(III)I" } : Jvm.MethodName)) ∈ lw_all := lw_g (lw_at lw_m14 122 rfl) rfl
theorem q3357 : (Jvm.Cond.selects "TollRoadModel" ({ cls := "TollRoadModel", name := "addAccount", desc := "(III)I" } : Jvm.MethodName) ({ cls := "TollRoadModel", name := "addAccount", desc := "(III)I" } : Jvm.MethodName)) ∈ lw_all := lw_g (lw_at lw_m14 123 rfl) rfl
theorem q3358 : (Jvm.Cond.code ({ cls := "TollRoadModel", name := "addAccount", desc := "(III)I" } : Jvm.MethodName) prog_21_method_41_code (4 : Nat) (Option.some Jvm.ClassFile.FieldType.int)) ∈ lw_all := lw_g (lw_at lw_m14 124 rfl) rfl
theorem q3359 : (Jvm.Cond.methodLink "TollRoadLaw" (169 : Nat) ({ cls := "TollRoadModel", name := "addVehicle", desc := "(II)I" } : Jvm.MethodName)) ∈ lw_all := lw_g (lw_at lw_m14 125 rfl) rfl
theorem q3360 : (Jvm.Cond.instanceMethod ({ cls := "TollRoadModel", name := "addVehicle", desc := "(II)I" } : Jvm.MethodName)) ∈ lw_all := lw_g (lw_at lw_m14 126 rfl) rfl
theorem q3361 : (Jvm.Cond.selects "TollRoadModel" ({ cls := "TollRoadModel", name := "addVehicle", desc := "(II)I" } : Jvm.MethodName) ({ cls := "TollRoadModel", name := "addVehicle", desc := "(II)I" } : Jvm.MethodName)) ∈ lw_all := lw_g (lw_at lw_m14 127 rfl) rfl
theorem q3362 : (Jvm.Cond.code ({ cls := "TollRoadModel", name := "addVehicle", desc := "(II)I" } : Jvm.MethodName) prog_21_method_44_code (3 : Nat) (Option.some Jvm.ClassFile.FieldType.int)) ∈ lw_all := lw_g (lw_at lw_m14 128 rfl) rfl
theorem q3363 : (Jvm.Cond.methodLink "TollRoadModel" (228 : Nat) ({ cls := "TollRoadModel", name := "isAccount", desc := "(I)Z" } : Jvm.MethodName)) ∈ lw_all := lw_g (lw_at lw_m14 129 rfl) rfl
theorem q3365 : (Jvm.Cond.instanceMethod ({ cls := "TollRoadModel", name := "isAccount", desc := "(I)Z" } : Jvm.MethodName)) ∈ lw_all := lw_g (lw_at lw_m14 131 rfl) rfl
theorem q3366 : (Jvm.Cond.code ({ cls := "TollRoadModel", name := "isAccount", desc := "(I)Z" } : Jvm.MethodName) prog_21_method_31_code (2 : Nat) (Option.some Jvm.ClassFile.FieldType.boolean)) ∈ lw_all := lw_g (lw_at lw_m14 132 rfl) rfl
theorem q3367 : (Jvm.Cond.methodLink "TollRoadLaw" (172 : Nat) ({ cls := "TollRoadModel", name := "set", desc := "(II)I" } : Jvm.MethodName)) ∈ lw_all := lw_g (lw_at lw_m14 133 rfl) rfl
theorem q3368 : (Jvm.Cond.instanceMethod ({ cls := "TollRoadModel", name := "set", desc := "(II)I" } : Jvm.MethodName)) ∈ lw_all := lw_g (lw_at lw_m14 134 rfl) rfl
theorem q3369 : (Jvm.Cond.selects "TollRoadModel" ({ cls := "TollRoadModel", name := "set", desc := "(II)I" } : Jvm.MethodName) ({ cls := "TollRoadModel", name := "set", desc := "(II)I" } : Jvm.MethodName)) ∈ lw_all := lw_g (lw_at lw_m14 135 rfl) rfl
theorem q3370 : (Jvm.Cond.code ({ cls := "TollRoadModel", name := "set", desc := "(II)I" } : Jvm.MethodName) prog_21_method_45_code (4 : Nat) (Option.some Jvm.ClassFile.FieldType.int)) ∈ lw_all := lw_g (lw_at lw_m14 136 rfl) rfl
theorem q3371 : (Jvm.Cond.methodLink "TollRoadModel" (231 : Nat) ({ cls := "TollRoadModel", name := "setting", desc := "(I)I" } : Jvm.MethodName)) ∈ lw_all := lw_g (lw_at lw_m14 137 rfl) rfl
theorem q3373 : (Jvm.Cond.instanceMethod ({ cls := "TollRoadModel", name := "setting", desc := "(I)I" } : Jvm.MethodName)) ∈ lw_all := lw_g (lw_at lw_m14 139 rfl) rfl
theorem q3374 : (Jvm.Cond.code ({ cls := "TollRoadModel", name := "setting", desc := "(I)I" } : Jvm.MethodName) prog_21_method_7_code (2 : Nat) (Option.some Jvm.ClassFile.FieldType.int)) ∈ lw_all := lw_g (lw_at lw_m14 140 rfl) rfl
theorem q3375 : (Jvm.Cond.methodLink "TollRoadLaw" (175 : Nat) ({ cls := "TollRoadModel", name := "count", desc := "(I)I" } : Jvm.MethodName)) ∈ lw_all := lw_g (lw_at lw_m14 141 rfl) rfl
theorem q3376 : (Jvm.Cond.instanceMethod ({ cls := "TollRoadModel", name := "count", desc := "(I)I" } : Jvm.MethodName)) ∈ lw_all := lw_g (lw_at lw_m14 142 rfl) rfl
theorem q3377 : (Jvm.Cond.selects "TollRoadModel" ({ cls := "TollRoadModel", name := "count", desc := "(I)I" } : Jvm.MethodName) ({ cls := "TollRoadModel", name := "count", desc := "(I)I" } : Jvm.MethodName)) ∈ lw_all := lw_g (lw_at lw_m14 143 rfl) rfl
theorem q3378 : (Jvm.Cond.code ({ cls := "TollRoadModel", name := "count", desc := "(I)I" } : Jvm.MethodName) prog_21_method_48_code (2 : Nat) (Option.some Jvm.ClassFile.FieldType.int)) ∈ lw_all := lw_g (lw_at lw_m14 144 rfl) rfl
theorem q3379 : (Jvm.Cond.methodLink "TollRoadModel" (240 : Nat) ({ cls := "TollRoadModel", name := "readsIn", desc := "(I)I" } : Jvm.MethodName)) ∈ lw_all := lw_g (lw_at lw_m14 145 rfl) rfl
theorem q3381 : (Jvm.Cond.instanceMethod ({ cls := "TollRoadModel", name := "readsIn", desc := "(I)I" } : Jvm.MethodName)) ∈ lw_all := lw_g (lw_at lw_m14 147 rfl) rfl
theorem q3382 : (Jvm.Cond.code ({ cls := "TollRoadModel", name := "readsIn", desc := "(I)I" } : Jvm.MethodName) prog_21_method_46_code (4 : Nat) (Option.some Jvm.ClassFile.FieldType.int)) ∈ lw_all := lw_g (lw_at lw_m14 148 rfl) rfl
theorem q3383 : (Jvm.Cond.methodLink "TollRoadModel" (234 : Nat) ({ cls := "TollRoadModel", name := "ofRead", desc := "(II)I" } : Jvm.MethodName)) ∈ lw_all := lw_g (lw_at lw_m14 149 rfl) rfl
theorem q3385 : (Jvm.Cond.instanceMethod ({ cls := "TollRoadModel", name := "ofRead", desc := "(II)I" } : Jvm.MethodName)) ∈ lw_all := lw_g (lw_at lw_m14 151 rfl) rfl
theorem q3386 : (Jvm.Cond.code ({ cls := "TollRoadModel", name := "ofRead", desc := "(II)I" } : Jvm.MethodName) prog_21_method_64_code (3 : Nat) (Option.some Jvm.ClassFile.FieldType.int)) ∈ lw_all := lw_g (lw_at lw_m14 152 rfl) rfl
theorem q3387 : (Jvm.Cond.methodLink "TollRoadModel" (243 : Nat) ({ cls := "TollRoadModel", name := "disputed", desc := "(Z)I" } : Jvm.MethodName)) ∈ lw_all := lw_g (lw_at lw_m14 153 rfl) rfl
theorem q3389 : (Jvm.Cond.instanceMethod ({ cls := "TollRoadModel", name := "disputed", desc := "(Z)I" } : Jvm.MethodName)) ∈ lw_all := lw_g (lw_at lw_m14 155 rfl) rfl
theorem q3390 : (Jvm.Cond.code ({ cls := "TollRoadModel", name := "disputed", desc := "(Z)I" } : Jvm.MethodName) prog_21_method_47_code (5 : Nat) (Option.some Jvm.ClassFile.FieldType.int)) ∈ lw_all := lw_g (lw_at lw_m14 156 rfl) rfl
theorem q3391 : (Jvm.Cond.methodLink "TollRoadModel" (237 : Nat) ({ cls := "TollRoadModel", name := "ofBill", desc := "(II)I" } : Jvm.MethodName)) ∈ lw_all := lw_g (lw_at lw_m14 157 rfl) rfl
theorem q3393 : (Jvm.Cond.instanceMethod ({ cls := "TollRoadModel", name := "ofBill", desc := "(II)I" } : Jvm.MethodName)) ∈ lw_all := lw_g (lw_at lw_m14 159 rfl) rfl
theorem q3394 : (Jvm.Cond.code ({ cls := "TollRoadModel", name := "ofBill", desc := "(II)I" } : Jvm.MethodName) prog_21_method_90_code (3 : Nat) (Option.some Jvm.ClassFile.FieldType.int)) ∈ lw_all := lw_g (lw_at lw_m14 160 rfl) rfl
theorem q3395 : (Jvm.Cond.methodLink "TollRoadLaw" (178 : Nat) ({ cls := "TollRoadModel", name := "account", desc := "(II)I" } : Jvm.MethodName)) ∈ lw_all := lw_g (lw_at lw_m14 161 rfl) rfl
theorem q3396 : (Jvm.Cond.instanceMethod ({ cls := "TollRoadModel", name := "account", desc := "(II)I" } : Jvm.MethodName)) ∈ lw_all := lw_g (lw_at lw_m14 162 rfl) rfl
theorem q3397 : (Jvm.Cond.selects "TollRoadModel" ({ cls := "TollRoadModel", name := "account", desc := "(II)I" } : Jvm.MethodName) ({ cls := "TollRoadModel", name := "account", desc := "(II)I" } : Jvm.MethodName)) ∈ lw_all := lw_g (lw_at lw_m14 163 rfl) rfl
theorem q3398 : (Jvm.Cond.code ({ cls := "TollRoadModel", name := "account", desc := "(II)I" } : Jvm.MethodName) prog_21_method_49_code (3 : Nat) (Option.some Jvm.ClassFile.FieldType.int)) ∈ lw_all := lw_g (lw_at lw_m14 164 rfl) rfl
theorem q3399 : (Jvm.Cond.methodLink "TollRoadModel" (247 : Nat) ({ cls := "TollRoadModel", name := "of", desc := "(II)I" } : Jvm.MethodName)) ∈ lw_all := lw_g (lw_at lw_m14 165 rfl) rfl
theorem q3401 : (Jvm.Cond.instanceMethod ({ cls := "TollRoadModel", name := "of", desc := "(II)I" } : Jvm.MethodName)) ∈ lw_all := lw_g (lw_at lw_m14 167 rfl) rfl
theorem q3402 : (Jvm.Cond.code ({ cls := "TollRoadModel", name := "of", desc := "(II)I" } : Jvm.MethodName) prog_21_method_38_code (3 : Nat) (Option.some Jvm.ClassFile.FieldType.int)) ∈ lw_all := lw_g (lw_at lw_m14 168 rfl) rfl
theorem q3403 : (Jvm.Cond.methodLink "TollRoadLaw" (181 : Nat) ({ cls := "TollRoadModel", name := "pay", desc := "(II)I" } : Jvm.MethodName)) ∈ lw_all := lw_g (lw_at lw_m14 169 rfl) rfl
theorem q3404 : (Jvm.Cond.instanceMethod ({ cls := "TollRoadModel", name := "pay", desc := "(II)I" } : Jvm.MethodName)) ∈ lw_all := lw_g (lw_at lw_m14 170 rfl) rfl
theorem q3405 : (Jvm.Cond.selects "TollRoadModel" ({ cls := "TollRoadModel", name := "pay", desc := "(II)I" } : Jvm.MethodName) ({ cls := "TollRoadModel", name := "pay", desc := "(II)I" } : Jvm.MethodName)) ∈ lw_all := lw_g (lw_at lw_m14 171 rfl) rfl
theorem q3406 : (Jvm.Cond.code ({ cls := "TollRoadModel", name := "pay", desc := "(II)I" } : Jvm.MethodName) prog_21_method_50_code (3 : Nat) (Option.some Jvm.ClassFile.FieldType.int)) ∈ lw_all := lw_g (lw_at lw_m14 172 rfl) rfl
theorem q3407 : (Jvm.Cond.methodLink "TollRoadLaw" (184 : Nat) ({ cls := "TollRoadModel", name := "vehicle", desc := "(II)I" } : Jvm.MethodName)) ∈ lw_all := lw_g (lw_at lw_m14 173 rfl) rfl
theorem q3408 : (Jvm.Cond.instanceMethod ({ cls := "TollRoadModel", name := "vehicle", desc := "(II)I" } : Jvm.MethodName)) ∈ lw_all := lw_g (lw_at lw_m14 174 rfl) rfl
theorem q3409 : (Jvm.Cond.selects "TollRoadModel" ({ cls := "TollRoadModel", name := "vehicle", desc := "(II)I" } : Jvm.MethodName) ({ cls := "TollRoadModel", name := "vehicle", desc := "(II)I" } : Jvm.MethodName)) ∈ lw_all := lw_g (lw_at lw_m14 175 rfl) rfl
theorem q3410 : (Jvm.Cond.code ({ cls := "TollRoadModel", name := "vehicle", desc := "(II)I" } : Jvm.MethodName) prog_21_method_54_code (3 : Nat) (Option.some Jvm.ClassFile.FieldType.int)) ∈ lw_all := lw_g (lw_at lw_m14 176 rfl) rfl
theorem q3411 : (Jvm.Cond.methodLink "TollRoadModel" (255 : Nat) ({ cls := "TollRoadModel", name := "isVehicle", desc := "(I)Z" } : Jvm.MethodName)) ∈ lw_all := lw_g (lw_at lw_m14 177 rfl) rfl
theorem q3413 : (Jvm.Cond.instanceMethod ({ cls := "TollRoadModel", name := "isVehicle", desc := "(I)Z" } : Jvm.MethodName)) ∈ lw_all := lw_g (lw_at lw_m14 179 rfl) rfl
theorem q3414 : (Jvm.Cond.code ({ cls := "TollRoadModel", name := "isVehicle", desc := "(I)Z" } : Jvm.MethodName) prog_21_method_32_code (2 : Nat) (Option.some Jvm.ClassFile.FieldType.boolean)) ∈ lw_all := lw_g (lw_at lw_m14 180 rfl) rfl
theorem q3415 : (Jvm.Cond.methodLink "TollRoadModel" (258 : Nat) ({ cls := "TollRoadModel", name := "ofVehicle", desc := "(II)I" } : Jvm.MethodName)) ∈ lw_all := lw_g (lw_at lw_m14 181 rfl) rfl
theorem q3417 : (Jvm.Cond.instanceMethod ({ cls := "TollRoadModel", name := "ofVehicle", desc := "(II)I" } : Jvm.MethodName)) ∈ lw_all := lw_g (lw_at lw_m14 183 rfl) rfl
theorem q3418 : (Jvm.Cond.code ({ cls := "TollRoadModel", name := "ofVehicle", desc := "(II)I" } : Jvm.MethodName) prog_21_method_42_code (3 : Nat) (Option.some Jvm.ClassFile.FieldType.int)) ∈ lw_all := lw_g (lw_at lw_m14 184 rfl) rfl
theorem q3419 : (Jvm.Cond.methodLink "TollRoadModel" (261 : Nat) ({ cls := "TollRoadModel", name := "readsOf", desc := "(II)I" } : Jvm.MethodName)) ∈ lw_all := lw_g (lw_at lw_m14 185 rfl) rfl
theorem q3421 : (Jvm.Cond.instanceMethod ({ cls := "TollRoadModel", name := "readsOf", desc := "(II)I" } : Jvm.MethodName)) ∈ lw_all := lw_g (lw_at lw_m14 187 rfl) rfl
theorem q3422 : (Jvm.Cond.code ({ cls := "TollRoadModel", name := "readsOf", desc := "(II)I" } : Jvm.MethodName) prog_21_method_51_code (5 : Nat) (Option.some Jvm.ClassFile.FieldType.int)) ∈ lw_all := lw_g (lw_at lw_m14 188 rfl) rfl
theorem q3423 : (Jvm.Cond.methodLink "TollRoadModel" (264 : Nat) ({ cls := "TollRoadModel", name := "latestBilled", desc := "(I)I" } : Jvm.MethodName)) ∈ lw_all := lw_g (lw_at lw_m14 189 rfl) rfl
theorem q3425 : (Jvm.Cond.instanceMethod ({ cls := "TollRoadModel", name := "latestBilled", desc := "(I)I" } : Jvm.MethodName)) ∈ lw_all := lw_g (lw_at lw_m14 191 rfl) rfl
theorem q3426 : (Jvm.Cond.code ({ cls := "TollRoadModel", name := "latestBilled", desc := "(I)I" } : Jvm.MethodName) prog_21_method_52_code (5 : Nat) (Option.some Jvm.ClassFile.FieldType.int)) ∈ lw_all := lw_g (lw_at lw_m14 192 rfl) rfl
theorem q3427 : (Jvm.Cond.methodLink "TollRoadModel" (250 : Nat) ({ cls := "java/lang/Math", name := "max", desc := "(II)I" } : Jvm.MethodName)) ∈ lw_all := lw_g (lw_at lw_m14 193 rfl) rfl
theorem q3428 : (Jvm.Cond.methodLink "TollRoadModel" (267 : Nat) ({ cls := "TollRoadModel", name := "billsOf", desc := "(I)I" } : Jvm.MethodName)) ∈ lw_all := lw_g (lw_at lw_m14 194 rfl) rfl
theorem q3430 : (Jvm.Cond.instanceMethod ({ cls := "TollRoadModel", name := "billsOf", desc := "(I)I" } : Jvm.MethodName)) ∈ lw_all := lw_g (lw_at lw_m14 196 rfl) rfl
theorem q3431 : (Jvm.Cond.code ({ cls := "TollRoadModel", name := "billsOf", desc := "(I)I" } : Jvm.MethodName) prog_21_method_53_code (4 : Nat) (Option.some Jvm.ClassFile.FieldType.int)) ∈ lw_all := lw_g (lw_at lw_m14 197 rfl) rfl
theorem q3432 : (Jvm.Cond.methodLink "TollRoadLaw" (187 : Nat) ({ cls := "TollRoadModel", name := "setAccount", desc := "(II)I" } : Jvm.MethodName)) ∈ lw_all := lw_g (lw_at lw_m14 198 rfl) rfl
theorem q3433 : (Jvm.Cond.instanceMethod ({ cls := "TollRoadModel", name := "setAccount", desc := "(II)I" } : Jvm.MethodName)) ∈ lw_all := lw_g (lw_at lw_m14 199 rfl) rfl
theorem q3434 : (Jvm.Cond.selects "TollRoadModel" ({ cls := "TollRoadModel", name := "setAccount", desc := "(II)I" } : Jvm.MethodName) ({ cls := "TollRoadModel", name := "setAccount", desc := "(II)I" } : Jvm.MethodName)) ∈ lw_all := lw_g (lw_at lw_m14 200 rfl) rfl
theorem q3435 : (Jvm.Cond.code ({ cls := "TollRoadModel", name := "setAccount", desc := "(II)I" } : Jvm.MethodName) prog_21_method_55_code (4 : Nat) (Option.some Jvm.ClassFile.FieldType.int)) ∈ lw_all := lw_g (lw_at lw_m14 201 rfl) rfl
theorem q3436 : (Jvm.Cond.methodLink "TollRoadLaw" (190 : Nat) ({ cls := "TollRoadModel", name := "route", desc := "(IIII)I" } : Jvm.MethodName)) ∈ lw_all := lw_g (lw_at lw_m14 202 rfl) rfl
theorem q3437 : (Jvm.Cond.instanceMethod ({ cls := "TollRoadModel", name := "route", desc := "(IIII)I" } : Jvm.MethodName)) ∈ lw_all := lw_g (lw_at lw_m14 203 rfl) rfl
theorem q3438 : (Jvm.Cond.selects "TollRoadModel" ({ cls := "TollRoadModel", name := "route", desc := "(IIII)I" } : Jvm.MethodName) ({ cls := "TollRoadModel", name := "route", desc := "(IIII)I" } : Jvm.MethodName)) ∈ lw_all := lw_g (lw_at lw_m14 204 rfl) rfl
theorem q3439 : (Jvm.Cond.code ({ cls := "TollRoadModel", name := "route", desc := "(IIII)I" } : Jvm.MethodName) prog_21_method_59_code (5 : Nat) (Option.some Jvm.ClassFile.FieldType.int)) ∈ lw_all := lw_g (lw_at lw_m14 205 rfl) rfl
theorem q3440 : (Jvm.Cond.methodLink "TollRoadModel" (299 : Nat) ({ cls := "TollRoadModel", name := "goWays", desc := "(III)V" } : Jvm.MethodName)) ∈ lw_all := lw_g (lw_at lw_m14 206 rfl) rfl
theorem q3442 : (Jvm.Cond.instanceMethod ({ cls := "TollRoadModel", name := "goWays", desc := "(III)V" } : Jvm.MethodName)) ∈ lw_all := lw_g (lw_at lw_m14 208 rfl) rfl
theorem q3443 : (Jvm.Cond.code ({ cls := "TollRoadModel", name := "goWays", desc := "(III)V" } : Jvm.MethodName) prog_21_method_58_code (7 : Nat) (Option.none : Option Jvm.ClassFile.FieldType)) ∈ lw_all := lw_g (lw_at lw_m14 209 rfl) rfl
theorem q3444 : (Jvm.Cond.constant "TollRoadModel" (291 : Nat) (1000000000 : Int32)) ∈ lw_all := lw_g (lw_at lw_m14 210 rfl) rfl
theorem q3445 : (Jvm.Cond.methodLink "TollRoadModel" (292 : Nat) ({ cls := "TollRoadModel", name := "isOnWay", desc := "(II)Z" } : Jvm.MethodName)) ∈ lw_all := lw_g (lw_at lw_m14 211 rfl) rfl
theorem q3447 : (Jvm.Cond.instanceMethod ({ cls := "TollRoadModel", name := "isOnWay", desc := "(II)Z" } : Jvm.MethodName)) ∈ lw_all := lw_g (lw_at lw_m14 213 rfl) rfl
theorem q3448 : (Jvm.Cond.code ({ cls := "TollRoadModel", name := "isOnWay", desc := "(II)Z" } : Jvm.MethodName) prog_21_method_56_code (4 : Nat) (Option.some Jvm.ClassFile.FieldType.boolean)) ∈ lw_all := lw_g (lw_at lw_m14 214 rfl) rfl
theorem q3449 : (Jvm.Cond.methodLink "TollRoadModel" (296 : Nat) ({ cls := "TollRoadModel", name := "noteWay", desc := "(II)V" } : Jvm.MethodName)) ∈ lw_all := lw_g (lw_at lw_m14 215 rfl) rfl
theorem q3451 : (Jvm.Cond.instanceMethod ({ cls := "TollRoadModel", name := "noteWay", desc := "(II)V" } : Jvm.MethodName)) ∈ lw_all := lw_g (lw_at lw_m14 217 rfl) rfl
theorem q3452 : (Jvm.Cond.code ({ cls := "TollRoadModel", name := "noteWay", desc := "(II)V" } : Jvm.MethodName) prog_21_method_57_code (6 : Nat) (Option.none : Option Jvm.ClassFile.FieldType)) ∈ lw_all := lw_g (lw_at lw_m14 218 rfl) rfl
theorem q3453 : (Jvm.Cond.methodLink "TollRoadModel" (273 : Nat) ({ cls := "java/lang/Math", name := "min", desc := "(II)I" } : Jvm.MethodName)) ∈ lw_all := lw_g (lw_at lw_m14 219 rfl) rfl
theorem q3454 : (Jvm.Cond.methodLink "TollRoadModel" (276 : Nat) ({ cls := "java/lang/Math", name := "abs", desc := "(I)I" } : Jvm.MethodName)) ∈ lw_all := lw_g (lw_at lw_m14 220 rfl) rfl
theorem q3455 : (Jvm.Cond.methodLink "TollRoadLaw" (193 : Nat) ({ cls := "TollRoadModel", name := "routeGantry", desc := "(IIII)I" } : Jvm.MethodName)) ∈ lw_all := lw_g (lw_at lw_m14 221 rfl) rfl
theorem q3456 : (Jvm.Cond.instanceMethod ({ cls := "TollRoadModel", name := "routeGantry", desc := "(IIII)I" } : Jvm.MethodName)) ∈ lw_all := lw_g (lw_at lw_m14 222 rfl) rfl
theorem q3457 : (Jvm.Cond.selects "TollRoadModel" ({ cls := "TollRoadModel", name := "routeGantry", desc := "(IIII)I" } : Jvm.MethodName) ({ cls := "TollRoadModel", name := "routeGantry", desc := "(IIII)I" } : Jvm.MethodName)) ∈ lw_all := lw_g (lw_at lw_m14 223 rfl) rfl
theorem q3458 : (Jvm.Cond.code ({ cls := "TollRoadModel", name := "routeGantry", desc := "(IIII)I" } : Jvm.MethodName) prog_21_method_60_code (5 : Nat) (Option.some Jvm.ClassFile.FieldType.int)) ∈ lw_all := lw_g (lw_at lw_m14 224 rfl) rfl
theorem q3459 : (Jvm.Cond.methodLink "TollRoadLaw" (196 : Nat) ({ cls := "TollRoadModel", name := "leastToll", desc := "(II)I" } : Jvm.MethodName)) ∈ lw_all := lw_g (lw_at lw_m14 225 rfl) rfl
theorem q3460 : (Jvm.Cond.instanceMethod ({ cls := "TollRoadModel", name := "leastToll", desc := "(II)I" } : Jvm.MethodName)) ∈ lw_all := lw_g (lw_at lw_m14 226 rfl) rfl
theorem q3461 : (Jvm.Cond.selects "TollRoadModel" ({ cls := "TollRoadModel", name := "leastToll", desc := "(II)I" } : Jvm.MethodName) ({ cls := "TollRoadModel", name := "leastToll", desc := "(II)I" } : Jvm.MethodName)) ∈ lw_all := lw_g (lw_at lw_m14 227 rfl) rfl
theorem q3462 : (Jvm.Cond.code ({ cls := "TollRoadModel", name := "leastToll", desc := "(II)I" } : Jvm.MethodName) prog_21_method_62_code (3 : Nat) (Option.some Jvm.ClassFile.FieldType.int)) ∈ lw_all := lw_g (lw_at lw_m14 228 rfl) rfl
theorem q3463 : (Jvm.Cond.methodLink "TollRoadModel" (302 : Nat) ({ cls := "TollRoadModel", name := "leastTollOf", desc := "(II)I" } : Jvm.MethodName)) ∈ lw_all := lw_g (lw_at lw_m14 229 rfl) rfl
theorem q3465 : (Jvm.Cond.instanceMethod ({ cls := "TollRoadModel", name := "leastTollOf", desc := "(II)I" } : Jvm.MethodName)) ∈ lw_all := lw_g (lw_at lw_m14 231 rfl) rfl
theorem q3466 : (Jvm.Cond.code ({ cls := "TollRoadModel", name := "leastTollOf", desc := "(II)I" } : Jvm.MethodName) prog_21_method_61_code (3 : Nat) (Option.some Jvm.ClassFile.FieldType.int)) ∈ lw_all := lw_g (lw_at lw_m14 232 rfl) rfl
theorem q3467 : (Jvm.Cond.methodLink "TollRoadLaw" (199 : Nat) ({ cls := "TollRoadModel", name := "tagRead", desc := "(III)I" } : Jvm.MethodName)) ∈ lw_all := lw_g (lw_at lw_m14 233 rfl) rfl
theorem q3468 : (Jvm.Cond.instanceMethod ({ cls := "TollRoadModel", name := "tagRead", desc := "(III)I" } : Jvm.MethodName)) ∈ lw_all := lw_g (lw_at lw_m14 234 rfl) rfl
theorem q3469 : (Jvm.Cond.selects "TollRoadModel" ({ cls := "TollRoadModel", name := "tagRead", desc := "(III)I" } : Jvm.MethodName) ({ cls := "TollRoadModel", name := "tagRead", desc := "(III)I" } : Jvm.MethodName)) ∈ lw_all := lw_g (lw_at lw_m14 235 rfl) rfl
theorem q3470 : (Jvm.Cond.code ({ cls := "TollRoadModel", name := "tagRead", desc := "(III)I" } : Jvm.MethodName) prog_21_method_68_code (4 : Nat) (Option.some Jvm.ClassFile.FieldType.int)) ∈ lw_all := lw_g (lw_at lw_m14 236 rfl) rfl
theorem q3471 : (Jvm.Cond.methodLink "TollRoadModel" (312 : Nat) ({ cls := "TollRoadModel", name := "appendRead", desc := "(IIIII)I" } : Jvm.MethodName)) ∈ lw_all := lw_g (lw_at lw_m14 237 rfl) rfl
theorem q3473 : (Jvm.Cond.instanceMethod ({ cls := "TollRoadModel", name := "appendRead", desc := "(IIIII)I" } : Jvm.MethodName)) ∈ lw_all := lw_g (lw_at lw_m14 239 rfl) rfl
theorem q3474 : (Jvm.Cond.code ({ cls := "TollRoadModel", name := "appendRead", desc := "(IIIII)I" } : Jvm.MethodName) prog_21_method_67_code (7 : Nat) (Option.some Jvm.ClassFile.FieldType.int)) ∈ lw_all := lw_g (lw_at lw_m15 0 rfl) rfl
theorem q3475 : (Jvm.Cond.methodLink "TollRoadModel" (305 : Nat) ({ cls := "TollRoadModel", name := "putRead", desc := "(III)V" } : Jvm.MethodName)) ∈ lw_all := lw_g (lw_at lw_m15 1 rfl) rfl
theorem q3477 : (Jvm.Cond.instanceMethod ({ cls := "TollRoadModel", name := "putRead", desc := "(III)V" } : Jvm.MethodName)) ∈ lw_all := lw_g (lw_at lw_m15 3 rfl) rfl
theorem q3478 : (Jvm.Cond.code ({ cls := "TollRoadModel", name := "putRead", desc := "(III)V" } : Jvm.MethodName) prog_21_method_65_code (4 : Nat) (Option.none : Option Jvm.ClassFile.FieldType)) ∈ lw_all := lw_g (lw_at lw_m15 4 rfl) rfl
theorem q3479 : (Jvm.Cond.methodLink "TollRoadModel" (308 : Nat) ({ cls := "TollRoadModel", name := "comeToCount", desc := "(I)V" } : Jvm.MethodName)) ∈ lw_all := lw_g (lw_at lw_m15 5 rfl) rfl
theorem q3481 : (Jvm.Cond.instanceMethod ({ cls := "TollRoadModel", name := "comeToCount", desc := "(I)V" } : Jvm.MethodName)) ∈ lw_all := lw_g (lw_at lw_m15 7 rfl) rfl
theorem q3482 : (Jvm.Cond.code ({ cls := "TollRoadModel", name := "comeToCount", desc := "(I)V" } : Jvm.MethodName) prog_21_method_66_code (3 : Nat) (Option.none : Option Jvm.ClassFile.FieldType)) ∈ lw_all := lw_g (lw_at lw_m15 8 rfl) rfl
theorem q3483 : (Jvm.Cond.methodLink "TollRoadLaw" (202 : Nat) ({ cls := "TollRoadModel", name := "imageRead", desc := "(IIII)I" } : Jvm.MethodName)) ∈ lw_all := lw_g (lw_at lw_m15 9 rfl) rfl
theorem q3484 : (Jvm.Cond.instanceMethod ({ cls := "TollRoadModel", name := "imageRead", desc := "(IIII)I" } : Jvm.MethodName)) ∈ lw_all := lw_g (lw_at lw_m15 10 rfl) rfl
theorem q3485 : (Jvm.Cond.selects "TollRoadModel" ({ cls := "TollRoadModel", name := "imageRead", desc := "(IIII)I" } : Jvm.MethodName) ({ cls := "TollRoadModel", name := "imageRead", desc := "(IIII)I" } : Jvm.MethodName)) ∈ lw_all := lw_g (lw_at lw_m15 11 rfl) rfl
theorem q3486 : (Jvm.Cond.code ({ cls := "TollRoadModel", name := "imageRead", desc := "(IIII)I" } : Jvm.MethodName) prog_21_method_69_code (5 : Nat) (Option.some Jvm.ClassFile.FieldType.int)) ∈ lw_all := lw_g (lw_at lw_m15 12 rfl) rfl
theorem q3487 : (Jvm.Cond.methodLink "TollRoadLaw" (205 : Nat) ({ cls := "TollRoadModel", name := "read", desc := "(II)I" } : Jvm.MethodName)) ∈ lw_all := lw_g (lw_at lw_m15 13 rfl) rfl
theorem q3488 : (Jvm.Cond.instanceMethod ({ cls := "TollRoadModel", name := "read", desc := "(II)I" } : Jvm.MethodName)) ∈ lw_all := lw_g (lw_at lw_m15 14 rfl) rfl
theorem q3489 : (Jvm.Cond.selects "TollRoadModel" ({ cls := "TollRoadModel", name := "read", desc := "(II)I" } : Jvm.MethodName) ({ cls := "TollRoadModel", name := "read", desc := "(II)I" } : Jvm.MethodName)) ∈ lw_all := lw_g (lw_at lw_m15 15 rfl) rfl
theorem q3490 : (Jvm.Cond.code ({ cls := "TollRoadModel", name := "read", desc := "(II)I" } : Jvm.MethodName) prog_21_method_70_code (3 : Nat) (Option.some Jvm.ClassFile.FieldType.int)) ∈ lw_all := lw_g (lw_at lw_m15 16 rfl) rfl
theorem q3491 : (Jvm.Cond.methodLink "TollRoadModel" (316 : Nat) ({ cls := "TollRoadModel", name := "isRead", desc := "(I)Z" } : Jvm.MethodName)) ∈ lw_all := lw_g (lw_at lw_m15 17 rfl) rfl
theorem q3493 : (Jvm.Cond.instanceMethod ({ cls := "TollRoadModel", name := "isRead", desc := "(I)Z" } : Jvm.MethodName)) ∈ lw_all := lw_g (lw_at lw_m15 19 rfl) rfl
theorem q3494 : (Jvm.Cond.code ({ cls := "TollRoadModel", name := "isRead", desc := "(I)Z" } : Jvm.MethodName) prog_21_method_63_code (2 : Nat) (Option.some Jvm.ClassFile.FieldType.boolean)) ∈ lw_all := lw_g (lw_at lw_m15 20 rfl) rfl
theorem q3495 : (Jvm.Cond.methodLink "TollRoadLaw" (208 : Nat) ({ cls := "TollRoadModel", name := "review", desc := "(I)I" } : Jvm.MethodName)) ∈ lw_all := lw_g (lw_at lw_m15 21 rfl) rfl
theorem q3496 : (Jvm.Cond.instanceMethod ({ cls := "TollRoadModel", name := "review", desc := "(I)I" } : Jvm.MethodName)) ∈ lw_all := lw_g (lw_at lw_m15 22 rfl) rfl
theorem q3497 : (Jvm.Cond.selects "TollRoadModel" ({ cls := "TollRoadModel", name := "review", desc := "(I)I" } : Jvm.MethodName) ({ cls := "TollRoadModel", name := "review", desc := "(I)I" } : Jvm.MethodName)) ∈ lw_all := lw_g (lw_at lw_m15 23 rfl) rfl
theorem q3498 : (Jvm.Cond.code ({ cls := "TollRoadModel", name := "review", desc := "(I)I" } : Jvm.MethodName) prog_21_method_73_code (2 : Nat) (Option.some Jvm.ClassFile.FieldType.int)) ∈ lw_all := lw_g (lw_at lw_m15 24 rfl) rfl
theorem q3499 : (Jvm.Cond.methodLink "TollRoadModel" (322 : Nat) ({ cls := "TollRoadModel", name := "reviewAt", desc := "(I)I" } : Jvm.MethodName)) ∈ lw_all := lw_g (lw_at lw_m15 25 rfl) rfl
theorem q3501 : (Jvm.Cond.instanceMethod ({ cls := "TollRoadModel", name := "reviewAt", desc := "(I)I" } : Jvm.MethodName)) ∈ lw_all := lw_g (lw_at lw_m15 27 rfl) rfl
theorem q3502 : (Jvm.Cond.code ({ cls := "TollRoadModel", name := "reviewAt", desc := "(I)I" } : Jvm.MethodName) prog_21_method_72_code (5 : Nat) (Option.some Jvm.ClassFile.FieldType.int)) ∈ lw_all := lw_g (lw_at lw_m15 28 rfl) rfl
theorem q3503 : (Jvm.Cond.methodLink "TollRoadModel" (319 : Nat) ({ cls := "TollRoadModel", name := "isAhead", desc := "(II)Z" } : Jvm.MethodName)) ∈ lw_all := lw_g (lw_at lw_m15 29 rfl) rfl
theorem q3505 : (Jvm.Cond.instanceMethod ({ cls := "TollRoadModel", name := "isAhead", desc := "(II)Z" } : Jvm.MethodName)) ∈ lw_all := lw_g (lw_at lw_m15 31 rfl) rfl
theorem q3506 : (Jvm.Cond.code ({ cls := "TollRoadModel", name := "isAhead", desc := "(II)Z" } : Jvm.MethodName) prog_21_method_71_code (6 : Nat) (Option.some Jvm.ClassFile.FieldType.boolean)) ∈ lw_all := lw_g (lw_at lw_m15 32 rfl) rfl
theorem q3507 : (Jvm.Cond.methodLink "TollRoadLaw" (211 : Nat) ({ cls := "TollRoadModel", name := "decide", desc := "(I)I" } : Jvm.MethodName)) ∈ lw_all := lw_g (lw_at lw_m15 33 rfl) rfl
theorem q3508 : (Jvm.Cond.instanceMethod ({ cls := "TollRoadModel", name := "decide", desc := "(I)I" } : Jvm.MethodName)) ∈ lw_all := lw_g (lw_at lw_m15 34 rfl) rfl
theorem q3509 : (Jvm.Cond.selects "TollRoadModel" ({ cls := "TollRoadModel", name := "decide", desc := "(I)I" } : Jvm.MethodName) ({ cls := "TollRoadModel", name := "decide", desc := "(I)I" } : Jvm.MethodName)) ∈ lw_all := lw_g (lw_at lw_m15 35 rfl) rfl
theorem q3510 : (Jvm.Cond.code ({ cls := "TollRoadModel", name := "decide", desc := "(I)I" } : Jvm.MethodName) prog_21_method_74_code (3 : Nat) (Option.some Jvm.ClassFile.FieldType.int)) ∈ lw_all := lw_g (lw_at lw_m15 36 rfl) rfl
theorem q3511 : (Jvm.Cond.methodLink "TollRoadLaw" (214 : Nat) ({ cls := "TollRoadModel", name := "correct", desc := "(II)I" } : Jvm.MethodName)) ∈ lw_all := lw_g (lw_at lw_m15 37 rfl) rfl
theorem q3512 : (Jvm.Cond.instanceMethod ({ cls := "TollRoadModel", name := "correct", desc := "(II)I" } : Jvm.MethodName)) ∈ lw_all := lw_g (lw_at lw_m15 38 rfl) rfl
theorem q3513 : (Jvm.Cond.selects "TollRoadModel" ({ cls := "TollRoadModel", name := "correct", desc := "(II)I" } : Jvm.MethodName) ({ cls := "TollRoadModel", name := "correct", desc := "(II)I" } : Jvm.MethodName)) ∈ lw_all := lw_g (lw_at lw_m15 39 rfl) rfl
theorem q3514 : (Jvm.Cond.code ({ cls := "TollRoadModel", name := "correct", desc := "(II)I" } : Jvm.MethodName) prog_21_method_75_code (3 : Nat) (Option.some Jvm.ClassFile.FieldType.int)) ∈ lw_all := lw_g (lw_at lw_m15 40 rfl) rfl
theorem q3515 : (Jvm.Cond.methodLink "TollRoadLaw" (217 : Nat) ({ cls := "TollRoadModel", name := "trips", desc := "(I)I" } : Jvm.MethodName)) ∈ lw_all := lw_g (lw_at lw_m15 41 rfl) rfl
theorem q3516 : (Jvm.Cond.instanceMethod ({ cls := "TollRoadModel", name := "trips", desc := "(I)I" } : Jvm.MethodName)) ∈ lw_all := lw_g (lw_at lw_m15 42 rfl) rfl
theorem q3517 : (Jvm.Cond.selects "TollRoadModel" ({ cls := "TollRoadModel", name := "trips", desc := "(I)I" } : Jvm.MethodName) ({ cls := "TollRoadModel", name := "trips", desc := "(I)I" } : Jvm.MethodName)) ∈ lw_all := lw_g (lw_at lw_m15 43 rfl) rfl
theorem q3518 : (Jvm.Cond.code ({ cls := "TollRoadModel", name := "trips", desc := "(I)I" } : Jvm.MethodName) prog_21_method_81_code (2 : Nat) (Option.some Jvm.ClassFile.FieldType.int)) ∈ lw_all := lw_g (lw_at lw_m15 44 rfl) rfl
theorem q3519 : (Jvm.Cond.methodLink "TollRoadModel" (347 : Nat) ({ cls := "TollRoadModel", name := "layTrips", desc := "(I)V" } : Jvm.MethodName)) ∈ lw_all := lw_g (lw_at lw_m15 45 rfl) rfl
theorem q3521 : (Jvm.Cond.instanceMethod ({ cls := "TollRoadModel", name := "layTrips", desc := "(I)V" } : Jvm.MethodName)) ∈ lw_all := lw_g (lw_at lw_m15 47 rfl) rfl
theorem q3522 : (Jvm.Cond.code ({ cls := "TollRoadModel", name := "layTrips", desc := "(I)V" } : Jvm.MethodName) prog_21_method_80_code (6 : Nat) (Option.none : Option Jvm.ClassFile.FieldType)) ∈ lw_all := lw_g (lw_at lw_m15 48 rfl) rfl
theorem q3523 : (Jvm.Cond.methodLink "TollRoadModel" (338 : Nat) ({ cls := "TollRoadModel", name := "layOrder", desc := "(I)V" } : Jvm.MethodName)) ∈ lw_all := lw_g (lw_at lw_m15 49 rfl) rfl
theorem q3525 : (Jvm.Cond.instanceMethod ({ cls := "TollRoadModel", name := "layOrder", desc := "(I)V" } : Jvm.MethodName)) ∈ lw_all := lw_g (lw_at lw_m15 51 rfl) rfl
theorem q3526 : (Jvm.Cond.code ({ cls := "TollRoadModel", name := "layOrder", desc := "(I)V" } : Jvm.MethodName) prog_21_method_76_code (4 : Nat) (Option.none : Option Jvm.ClassFile.FieldType)) ∈ lw_all := lw_g (lw_at lw_m15 52 rfl) rfl
theorem q3527 : (Jvm.Cond.methodLink "TollRoadModel" (341 : Nat) ({ cls := "TollRoadModel", name := "goesOn", desc := "(II)Z" } : Jvm.MethodName)) ∈ lw_all := lw_g (lw_at lw_m15 53 rfl) rfl
theorem q3529 : (Jvm.Cond.instanceMethod ({ cls := "TollRoadModel", name := "goesOn", desc := "(II)Z" } : Jvm.MethodName)) ∈ lw_all := lw_g (lw_at lw_m15 55 rfl) rfl
theorem q3530 : (Jvm.Cond.code ({ cls := "TollRoadModel", name := "goesOn", desc := "(II)Z" } : Jvm.MethodName) prog_21_method_79_code (5 : Nat) (Option.some Jvm.ClassFile.FieldType.boolean)) ∈ lw_all := lw_g (lw_at lw_m15 56 rfl) rfl
theorem q3531 : (Jvm.Cond.methodLink "TollRoadModel" (334 : Nat) ({ cls := "TollRoadModel", name := "addPlace", desc := "(IZ)V" } : Jvm.MethodName)) ∈ lw_all := lw_g (lw_at lw_m15 57 rfl) rfl
theorem q3533 : (Jvm.Cond.instanceMethod ({ cls := "TollRoadModel", name := "addPlace", desc := "(IZ)V" } : Jvm.MethodName)) ∈ lw_all := lw_g (lw_at lw_m15 59 rfl) rfl
theorem q3534 : (Jvm.Cond.code ({ cls := "TollRoadModel", name := "addPlace", desc := "(IZ)V" } : Jvm.MethodName) prog_21_method_77_code (3 : Nat) (Option.none : Option Jvm.ClassFile.FieldType)) ∈ lw_all := lw_g (lw_at lw_m15 60 rfl) rfl
theorem q3535 : (Jvm.Cond.methodLink "TollRoadModel" (344 : Nat) ({ cls := "TollRoadModel", name := "beginTrip", desc := "(I)V" } : Jvm.MethodName)) ∈ lw_all := lw_g (lw_at lw_m15 61 rfl) rfl
theorem q3537 : (Jvm.Cond.instanceMethod ({ cls := "TollRoadModel", name := "beginTrip", desc := "(I)V" } : Jvm.MethodName)) ∈ lw_all := lw_g (lw_at lw_m15 63 rfl) rfl
theorem q3538 : (Jvm.Cond.code ({ cls := "TollRoadModel", name := "beginTrip", desc := "(I)V" } : Jvm.MethodName) prog_21_method_78_code (2 : Nat) (Option.none : Option Jvm.ClassFile.FieldType)) ∈ lw_all := lw_g (lw_at lw_m15 64 rfl) rfl
theorem q3539 : (Jvm.Cond.methodLink "TollRoadLaw" (220 : Nat) ({ cls := "TollRoadModel", name := "trip", desc := "(III)I" } : Jvm.MethodName)) ∈ lw_all := lw_g (lw_at lw_m15 65 rfl) rfl
theorem q3540 : (Jvm.Cond.instanceMethod ({ cls := "TollRoadModel", name := "trip", desc := "(III)I" } : Jvm.MethodName)) ∈ lw_all := lw_g (lw_at lw_m15 66 rfl) rfl
theorem q3541 : (Jvm.Cond.selects "TollRoadModel" ({ cls := "TollRoadModel", name := "trip", desc := "(III)I" } : Jvm.MethodName) ({ cls := "TollRoadModel", name := "trip", desc := "(III)I" } : Jvm.MethodName)) ∈ lw_all := lw_g (lw_at lw_m15 67 rfl) rfl
theorem q3542 : (Jvm.Cond.code ({ cls := "TollRoadModel", name := "trip", desc := "(III)I" } : Jvm.MethodName) prog_21_method_87_code (4 : Nat) (Option.some Jvm.ClassFile.FieldType.int)) ∈ lw_all := lw_g (lw_at lw_m15 68 rfl) rfl
theorem q3543 : (Jvm.Cond.methodLink "TollRoadModel" (350 : Nat) ({ cls := "TollRoadModel", name := "isTrip", desc := "(II)Z" } : Jvm.MethodName)) ∈ lw_all := lw_g (lw_at lw_m15 69 rfl) rfl
theorem q3545 : (Jvm.Cond.instanceMethod ({ cls := "TollRoadModel", name := "isTrip", desc := "(II)Z" } : Jvm.MethodName)) ∈ lw_all := lw_g (lw_at lw_m15 71 rfl) rfl
theorem q3546 : (Jvm.Cond.code ({ cls := "TollRoadModel", name := "isTrip", desc := "(II)Z" } : Jvm.MethodName) prog_21_method_86_code (3 : Nat) (Option.some Jvm.ClassFile.FieldType.boolean)) ∈ lw_all := lw_g (lw_at lw_m15 72 rfl) rfl
theorem q3547 : (Jvm.Cond.methodLink "TollRoadModel" (353 : Nat) ({ cls := "TollRoadModel", name := "timeOf", desc := "(IZ)I" } : Jvm.MethodName)) ∈ lw_all := lw_g (lw_at lw_m15 73 rfl) rfl
theorem q3549 : (Jvm.Cond.instanceMethod ({ cls := "TollRoadModel", name := "timeOf", desc := "(IZ)I" } : Jvm.MethodName)) ∈ lw_all := lw_g (lw_at lw_m15 75 rfl) rfl
theorem q3550 : (Jvm.Cond.code ({ cls := "TollRoadModel", name := "timeOf", desc := "(IZ)I" } : Jvm.MethodName) prog_21_method_82_code (5 : Nat) (Option.some Jvm.ClassFile.FieldType.int)) ∈ lw_all := lw_g (lw_at lw_m15 76 rfl) rfl
theorem q3551 : (Jvm.Cond.methodLink "TollRoadModel" (357 : Nat) ({ cls := "TollRoadModel", name := "readsOn", desc := "(IZ)I" } : Jvm.MethodName)) ∈ lw_all := lw_g (lw_at lw_m15 77 rfl) rfl
theorem q3553 : (Jvm.Cond.instanceMethod ({ cls := "TollRoadModel", name := "readsOn", desc := "(IZ)I" } : Jvm.MethodName)) ∈ lw_all := lw_g (lw_at lw_m15 79 rfl) rfl
theorem q3554 : (Jvm.Cond.code ({ cls := "TollRoadModel", name := "readsOn", desc := "(IZ)I" } : Jvm.MethodName) prog_21_method_83_code (6 : Nat) (Option.some Jvm.ClassFile.FieldType.int)) ∈ lw_all := lw_g (lw_at lw_m15 80 rfl) rfl
theorem q3555 : (Jvm.Cond.methodLink "TollRoadModel" (360 : Nat) ({ cls := "TollRoadModel", name := "placesOf", desc := "(I)I" } : Jvm.MethodName)) ∈ lw_all := lw_g (lw_at lw_m15 81 rfl) rfl
theorem q3557 : (Jvm.Cond.instanceMethod ({ cls := "TollRoadModel", name := "placesOf", desc := "(I)I" } : Jvm.MethodName)) ∈ lw_all := lw_g (lw_at lw_m15 83 rfl) rfl
theorem q3558 : (Jvm.Cond.code ({ cls := "TollRoadModel", name := "placesOf", desc := "(I)I" } : Jvm.MethodName) prog_21_method_84_code (2 : Nat) (Option.some Jvm.ClassFile.FieldType.int)) ∈ lw_all := lw_g (lw_at lw_m15 84 rfl) rfl
theorem q3559 : (Jvm.Cond.methodLink "TollRoadModel" (363 : Nat) ({ cls := "TollRoadModel", name := "missingOf", desc := "(I)I" } : Jvm.MethodName)) ∈ lw_all := lw_g (lw_at lw_m15 85 rfl) rfl
theorem q3561 : (Jvm.Cond.instanceMethod ({ cls := "TollRoadModel", name := "missingOf", desc := "(I)I" } : Jvm.MethodName)) ∈ lw_all := lw_g (lw_at lw_m15 87 rfl) rfl
theorem q3562 : (Jvm.Cond.code ({ cls := "TollRoadModel", name := "missingOf", desc := "(I)I" } : Jvm.MethodName) prog_21_method_85_code (4 : Nat) (Option.some Jvm.ClassFile.FieldType.int)) ∈ lw_all := lw_g (lw_at lw_m15 88 rfl) rfl
theorem q3563 : (Jvm.Cond.methodLink "TollRoadLaw" (223 : Nat) ({ cls := "TollRoadModel", name := "tripGantry", desc := "(III)I" } : Jvm.MethodName)) ∈ lw_all := lw_g (lw_at lw_m15 89 rfl) rfl
theorem q3564 : (Jvm.Cond.instanceMethod ({ cls := "TollRoadModel", name := "tripGantry", desc := "(III)I" } : Jvm.MethodName)) ∈ lw_all := lw_g (lw_at lw_m15 90 rfl) rfl
theorem q3565 : (Jvm.Cond.selects "TollRoadModel" ({ cls := "TollRoadModel", name := "tripGantry", desc := "(III)I" } : Jvm.MethodName) ({ cls := "TollRoadModel", name := "tripGantry", desc := "(III)I" } : Jvm.MethodName)) ∈ lw_all := lw_g (lw_at lw_m15 91 rfl) rfl
theorem q3566 : (Jvm.Cond.code ({ cls := "TollRoadModel", name := "tripGantry", desc := "(III)I" } : Jvm.MethodName) prog_21_method_88_code (4 : Nat) (Option.some Jvm.ClassFile.FieldType.int)) ∈ lw_all := lw_g (lw_at lw_m15 92 rfl) rfl
theorem q3567 : (Jvm.Cond.methodLink "TollRoadLaw" (226 : Nat) ({ cls := "TollRoadModel", name := "bill", desc := "(II)I" } : Jvm.MethodName)) ∈ lw_all := lw_g (lw_at lw_m15 93 rfl) rfl
theorem q3568 : (Jvm.Cond.instanceMethod ({ cls := "TollRoadModel", name := "bill", desc := "(II)I" } : Jvm.MethodName)) ∈ lw_all := lw_g (lw_at lw_m15 94 rfl) rfl
theorem q3569 : (Jvm.Cond.selects "TollRoadModel" ({ cls := "TollRoadModel", name := "bill", desc := "(II)I" } : Jvm.MethodName) ({ cls := "TollRoadModel", name := "bill", desc := "(II)I" } : Jvm.MethodName)) ∈ lw_all := lw_g (lw_at lw_m15 95 rfl) rfl
theorem q3570 : (Jvm.Cond.code ({ cls := "TollRoadModel", name := "bill", desc := "(II)I" } : Jvm.MethodName) prog_21_method_100_code (3 : Nat) (Option.some Jvm.ClassFile.FieldType.int)) ∈ lw_all := lw_g (lw_at lw_m15 96 rfl) rfl
theorem q3571 : (Jvm.Cond.constant "TollRoadModel" (390 : Nat) (200000 : Int32)) ∈ lw_all := lw_g (lw_at lw_m15 97 rfl) rfl
theorem q3572 : (Jvm.Cond.methodLink "TollRoadModel" (391 : Nat) ({ cls := "TollRoadModel", name := "billOne", desc := "(II)I" } : Jvm.MethodName)) ∈ lw_all := lw_g (lw_at lw_m15 98 rfl) rfl
theorem q3574 : (Jvm.Cond.instanceMethod ({ cls := "TollRoadModel", name := "billOne", desc := "(II)I" } : Jvm.MethodName)) ∈ lw_all := lw_g (lw_at lw_m15 100 rfl) rfl
theorem q3575 : (Jvm.Cond.code ({ cls := "TollRoadModel", name := "billOne", desc := "(II)I" } : Jvm.MethodName) prog_21_method_99_code (4 : Nat) (Option.some Jvm.ClassFile.FieldType.int)) ∈ lw_all := lw_g (lw_at lw_m15 101 rfl) rfl
theorem q3576 : (Jvm.Cond.methodLink "TollRoadModel" (384 : Nat) ({ cls := "TollRoadModel", name := "isEarly", desc := "(II)Z" } : Jvm.MethodName)) ∈ lw_all := lw_g (lw_at lw_m15 102 rfl) rfl
theorem q3578 : (Jvm.Cond.instanceMethod ({ cls := "TollRoadModel", name := "isEarly", desc := "(II)Z" } : Jvm.MethodName)) ∈ lw_all := lw_g (lw_at lw_m15 104 rfl) rfl
theorem q3579 : (Jvm.Cond.code ({ cls := "TollRoadModel", name := "isEarly", desc := "(II)Z" } : Jvm.MethodName) prog_21_method_95_code (3 : Nat) (Option.some Jvm.ClassFile.FieldType.boolean)) ∈ lw_all := lw_g (lw_at lw_m15 105 rfl) rfl
theorem q3580 : (Jvm.Cond.methodLink "TollRoadModel" (387 : Nat) ({ cls := "TollRoadModel", name := "billTrip", desc := "(II)V" } : Jvm.MethodName)) ∈ lw_all := lw_g (lw_at lw_m15 106 rfl) rfl
theorem q3582 : (Jvm.Cond.instanceMethod ({ cls := "TollRoadModel", name := "billTrip", desc := "(II)V" } : Jvm.MethodName)) ∈ lw_all := lw_g (lw_at lw_m15 108 rfl) rfl
theorem q3583 : (Jvm.Cond.code ({ cls := "TollRoadModel", name := "billTrip", desc := "(II)V" } : Jvm.MethodName) prog_21_method_97_code (9 : Nat) (Option.none : Option Jvm.ClassFile.FieldType)) ∈ lw_all := lw_g (lw_at lw_m15 109 rfl) rfl
theorem q3584 : (Jvm.Cond.methodLink "TollRoadModel" (369 : Nat) ({ cls := "TollRoadModel", name := "got", desc := "(I)I" } : Jvm.MethodName)) ∈ lw_all := lw_g (lw_at lw_m15 110 rfl) rfl
theorem q3586 : (Jvm.Cond.instanceMethod ({ cls := "TollRoadModel", name := "got", desc := "(I)I" } : Jvm.MethodName)) ∈ lw_all := lw_g (lw_at lw_m15 112 rfl) rfl
theorem q3587 : (Jvm.Cond.code ({ cls := "TollRoadModel", name := "got", desc := "(I)I" } : Jvm.MethodName) prog_21_method_94_code (3 : Nat) (Option.some Jvm.ClassFile.FieldType.int)) ∈ lw_all := lw_g (lw_at lw_m15 113 rfl) rfl
theorem q3588 : (Jvm.Cond.methodLink "TollRoadModel" (372 : Nat) ({ cls := "TollRoadModel", name := "percentOf", desc := "(II)I" } : Jvm.MethodName)) ∈ lw_all := lw_g (lw_at lw_m15 114 rfl) rfl
theorem q3590 : (Jvm.Cond.instanceMethod ({ cls := "TollRoadModel", name := "percentOf", desc := "(II)I" } : Jvm.MethodName)) ∈ lw_all := lw_g (lw_at lw_m15 116 rfl) rfl
theorem q3591 : (Jvm.Cond.code ({ cls := "TollRoadModel", name := "percentOf", desc := "(II)I" } : Jvm.MethodName) prog_21_method_92_code (4 : Nat) (Option.some Jvm.ClassFile.FieldType.int)) ∈ lw_all := lw_g (lw_at lw_m15 117 rfl) rfl
theorem q3592 : (Jvm.Cond.methodLink "TollRoadModel" (375 : Nat) ({ cls := "TollRoadModel", name := "amountOf", desc := "(III)I" } : Jvm.MethodName)) ∈ lw_all := lw_g (lw_at lw_m15 118 rfl) rfl
theorem q3594 : (Jvm.Cond.instanceMethod ({ cls := "TollRoadModel", name := "amountOf", desc := "(III)I" } : Jvm.MethodName)) ∈ lw_all := lw_g (lw_at lw_m15 120 rfl) rfl
theorem q3595 : (Jvm.Cond.code ({ cls := "TollRoadModel", name := "amountOf", desc := "(III)I" } : Jvm.MethodName) prog_21_method_93_code (6 : Nat) (Option.some Jvm.ClassFile.FieldType.int)) ∈ lw_all := lw_g (lw_at lw_m15 121 rfl) rfl
theorem q3596 : (Jvm.Cond.methodLink "TollRoadModel" (366 : Nat) ({ cls := "TollRoadModel", name := "putBill", desc := "(III)V" } : Jvm.MethodName)) ∈ lw_all := lw_g (lw_at lw_m15 122 rfl) rfl
theorem q3598 : (Jvm.Cond.instanceMethod ({ cls := "TollRoadModel", name := "putBill", desc := "(III)V" } : Jvm.MethodName)) ∈ lw_all := lw_g (lw_at lw_m15 124 rfl) rfl
theorem q3599 : (Jvm.Cond.code ({ cls := "TollRoadModel", name := "putBill", desc := "(III)V" } : Jvm.MethodName) prog_21_method_91_code (4 : Nat) (Option.none : Option Jvm.ClassFile.FieldType)) ∈ lw_all := lw_g (lw_at lw_m15 125 rfl) rfl
theorem q3600 : (Jvm.Cond.methodLink "TollRoadModel" (378 : Nat) ({ cls := "TollRoadModel", name := "keepPlaces", desc := "(II)V" } : Jvm.MethodName)) ∈ lw_all := lw_g (lw_at lw_m15 126 rfl) rfl
theorem q3602 : (Jvm.Cond.instanceMethod ({ cls := "TollRoadModel", name := "keepPlaces", desc := "(II)V" } : Jvm.MethodName)) ∈ lw_all := lw_g (lw_at lw_m15 128 rfl) rfl
theorem q3603 : (Jvm.Cond.code ({ cls := "TollRoadModel", name := "keepPlaces", desc := "(II)V" } : Jvm.MethodName) prog_21_method_96_code (4 : Nat) (Option.none : Option Jvm.ClassFile.FieldType)) ∈ lw_all := lw_g (lw_at lw_m15 129 rfl) rfl
theorem q3604 : (Jvm.Cond.methodLink "TollRoadModel" (381 : Nat) ({ cls := "TollRoadModel", name := "charge", desc := "(III)V" } : Jvm.MethodName)) ∈ lw_all := lw_g (lw_at lw_m15 130 rfl) rfl
theorem q3606 : (Jvm.Cond.instanceMethod ({ cls := "TollRoadModel", name := "charge", desc := "(III)V" } : Jvm.MethodName)) ∈ lw_all := lw_g (lw_at lw_m15 132 rfl) rfl
theorem q3607 : (Jvm.Cond.code ({ cls := "TollRoadModel", name := "charge", desc := "(III)V" } : Jvm.MethodName) prog_21_method_98_code (4 : Nat) (Option.none : Option Jvm.ClassFile.FieldType)) ∈ lw_all := lw_g (lw_at lw_m15 133 rfl) rfl
theorem q3608 : (Jvm.Cond.methodLink "TollRoadLaw" (229 : Nat) ({ cls := "TollRoadModel", name := "billAll", desc := "(I)I" } : Jvm.MethodName)) ∈ lw_all := lw_g (lw_at lw_m15 134 rfl) rfl
theorem q3609 : (Jvm.Cond.instanceMethod ({ cls := "TollRoadModel", name := "billAll", desc := "(I)I" } : Jvm.MethodName)) ∈ lw_all := lw_g (lw_at lw_m15 135 rfl) rfl
theorem q3610 : (Jvm.Cond.selects "TollRoadModel" ({ cls := "TollRoadModel", name := "billAll", desc := "(I)I" } : Jvm.MethodName) ({ cls := "TollRoadModel", name := "billAll", desc := "(I)I" } : Jvm.MethodName)) ∈ lw_all := lw_g (lw_at lw_m15 136 rfl) rfl
theorem q3611 : (Jvm.Cond.code ({ cls := "TollRoadModel", name := "billAll", desc := "(I)I" } : Jvm.MethodName) prog_21_method_101_code (4 : Nat) (Option.some Jvm.ClassFile.FieldType.int)) ∈ lw_all := lw_g (lw_at lw_m15 137 rfl) rfl
theorem q3612 : (Jvm.Cond.methodLink "TollRoadLaw" (232 : Nat) ({ cls := "TollRoadModel", name := "due", desc := "(II)I" } : Jvm.MethodName)) ∈ lw_all := lw_g (lw_at lw_m15 138 rfl) rfl
theorem q3613 : (Jvm.Cond.instanceMethod ({ cls := "TollRoadModel", name := "due", desc := "(II)I" } : Jvm.MethodName)) ∈ lw_all := lw_g (lw_at lw_m15 139 rfl) rfl
theorem q3614 : (Jvm.Cond.selects "TollRoadModel" ({ cls := "TollRoadModel", name := "due", desc := "(II)I" } : Jvm.MethodName) ({ cls := "TollRoadModel", name := "due", desc := "(II)I" } : Jvm.MethodName)) ∈ lw_all := lw_g (lw_at lw_m15 140 rfl) rfl
theorem q3615 : (Jvm.Cond.code ({ cls := "TollRoadModel", name := "due", desc := "(II)I" } : Jvm.MethodName) prog_21_method_102_code (5 : Nat) (Option.some Jvm.ClassFile.FieldType.int)) ∈ lw_all := lw_g (lw_at lw_m15 141 rfl) rfl
theorem q3616 : (Jvm.Cond.methodLink "TollRoadLaw" (235 : Nat) ({ cls := "TollRoadModel", name := "billed", desc := "(II)I" } : Jvm.MethodName)) ∈ lw_all := lw_g (lw_at lw_m15 142 rfl) rfl
theorem q3617 : (Jvm.Cond.instanceMethod ({ cls := "TollRoadModel", name := "billed", desc := "(II)I" } : Jvm.MethodName)) ∈ lw_all := lw_g (lw_at lw_m15 143 rfl) rfl
theorem q3618 : (Jvm.Cond.selects "TollRoadModel" ({ cls := "TollRoadModel", name := "billed", desc := "(II)I" } : Jvm.MethodName) ({ cls := "TollRoadModel", name := "billed", desc := "(II)I" } : Jvm.MethodName)) ∈ lw_all := lw_g (lw_at lw_m15 144 rfl) rfl
theorem q3619 : (Jvm.Cond.code ({ cls := "TollRoadModel", name := "billed", desc := "(II)I" } : Jvm.MethodName) prog_21_method_103_code (3 : Nat) (Option.some Jvm.ClassFile.FieldType.int)) ∈ lw_all := lw_g (lw_at lw_m15 145 rfl) rfl
theorem q3620 : (Jvm.Cond.methodLink "TollRoadModel" (394 : Nat) ({ cls := "TollRoadModel", name := "isBill", desc := "(I)Z" } : Jvm.MethodName)) ∈ lw_all := lw_g (lw_at lw_m15 146 rfl) rfl
theorem q3622 : (Jvm.Cond.instanceMethod ({ cls := "TollRoadModel", name := "isBill", desc := "(I)Z" } : Jvm.MethodName)) ∈ lw_all := lw_g (lw_at lw_m15 148 rfl) rfl
theorem q3623 : (Jvm.Cond.code ({ cls := "TollRoadModel", name := "isBill", desc := "(I)Z" } : Jvm.MethodName) prog_21_method_89_code (2 : Nat) (Option.some Jvm.ClassFile.FieldType.boolean)) ∈ lw_all := lw_g (lw_at lw_m15 149 rfl) rfl
theorem q3624 : (Jvm.Cond.methodLink "TollRoadLaw" (238 : Nat) ({ cls := "TollRoadModel", name := "billedGantry", desc := "(II)I" } : Jvm.MethodName)) ∈ lw_all := lw_g (lw_at lw_m15 150 rfl) rfl
theorem q3625 : (Jvm.Cond.instanceMethod ({ cls := "TollRoadModel", name := "billedGantry", desc := "(II)I" } : Jvm.MethodName)) ∈ lw_all := lw_g (lw_at lw_m15 151 rfl) rfl
theorem q3626 : (Jvm.Cond.selects "TollRoadModel" ({ cls := "TollRoadModel", name := "billedGantry", desc := "(II)I" } : Jvm.MethodName) ({ cls := "TollRoadModel", name := "billedGantry", desc := "(II)I" } : Jvm.MethodName)) ∈ lw_all := lw_g (lw_at lw_m15 152 rfl) rfl
theorem q3627 : (Jvm.Cond.code ({ cls := "TollRoadModel", name := "billedGantry", desc := "(II)I" } : Jvm.MethodName) prog_21_method_104_code (3 : Nat) (Option.some Jvm.ClassFile.FieldType.int)) ∈ lw_all := lw_g (lw_at lw_m15 153 rfl) rfl
theorem q3628 : (Jvm.Cond.methodLink "TollRoadLaw" (241 : Nat) ({ cls := "TollRoadModel", name := "dispute", desc := "(II)I" } : Jvm.MethodName)) ∈ lw_all := lw_g (lw_at lw_m15 154 rfl) rfl
theorem q3629 : (Jvm.Cond.instanceMethod ({ cls := "TollRoadModel", name := "dispute", desc := "(II)I" } : Jvm.MethodName)) ∈ lw_all := lw_g (lw_at lw_m15 155 rfl) rfl
theorem q3630 : (Jvm.Cond.selects "TollRoadModel" ({ cls := "TollRoadModel", name := "dispute", desc := "(II)I" } : Jvm.MethodName) ({ cls := "TollRoadModel", name := "dispute", desc := "(II)I" } : Jvm.MethodName)) ∈ lw_all := lw_g (lw_at lw_m15 156 rfl) rfl
theorem q3631 : (Jvm.Cond.code ({ cls := "TollRoadModel", name := "dispute", desc := "(II)I" } : Jvm.MethodName) prog_21_method_109_code (5 : Nat) (Option.some Jvm.ClassFile.FieldType.int)) ∈ lw_all := lw_g (lw_at lw_m15 157 rfl) rfl
theorem q3632 : (Jvm.Cond.methodLink "TollRoadModel" (406 : Nat) ({ cls := "TollRoadModel", name := "refundFor", desc := "(II)I" } : Jvm.MethodName)) ∈ lw_all := lw_g (lw_at lw_m15 158 rfl) rfl
theorem q3634 : (Jvm.Cond.instanceMethod ({ cls := "TollRoadModel", name := "refundFor", desc := "(II)I" } : Jvm.MethodName)) ∈ lw_all := lw_g (lw_at lw_m15 160 rfl) rfl
theorem q3635 : (Jvm.Cond.code ({ cls := "TollRoadModel", name := "refundFor", desc := "(II)I" } : Jvm.MethodName) prog_21_method_108_code (5 : Nat) (Option.some Jvm.ClassFile.FieldType.int)) ∈ lw_all := lw_g (lw_at lw_m15 161 rfl) rfl
theorem q3636 : (Jvm.Cond.methodLink "TollRoadModel" (400 : Nat) ({ cls := "TollRoadModel", name := "leastSure", desc := "(I)I" } : Jvm.MethodName)) ∈ lw_all := lw_g (lw_at lw_m15 162 rfl) rfl
theorem q3638 : (Jvm.Cond.instanceMethod ({ cls := "TollRoadModel", name := "leastSure", desc := "(I)I" } : Jvm.MethodName)) ∈ lw_all := lw_g (lw_at lw_m15 164 rfl) rfl
theorem q3639 : (Jvm.Cond.code ({ cls := "TollRoadModel", name := "leastSure", desc := "(I)I" } : Jvm.MethodName) prog_21_method_105_code (4 : Nat) (Option.some Jvm.ClassFile.FieldType.int)) ∈ lw_all := lw_g (lw_at lw_m15 165 rfl) rfl
theorem q3640 : (Jvm.Cond.methodLink "TollRoadModel" (403 : Nat) ({ cls := "TollRoadModel", name := "routeRefund", desc := "(I)I" } : Jvm.MethodName)) ∈ lw_all := lw_g (lw_at lw_m15 166 rfl) rfl
theorem q3642 : (Jvm.Cond.instanceMethod ({ cls := "TollRoadModel", name := "routeRefund", desc := "(I)I" } : Jvm.MethodName)) ∈ lw_all := lw_g (lw_at lw_m15 168 rfl) rfl
theorem q3643 : (Jvm.Cond.code ({ cls := "TollRoadModel", name := "routeRefund", desc := "(I)I" } : Jvm.MethodName) prog_21_method_107_code (6 : Nat) (Option.some Jvm.ClassFile.FieldType.int)) ∈ lw_all := lw_g (lw_at lw_m15 169 rfl) rfl
theorem q3644 : (Jvm.Cond.methodLink "TollRoadModel" (397 : Nat) ({ cls := "TollRoadModel", name := "newAmount", desc := "(II)I" } : Jvm.MethodName)) ∈ lw_all := lw_g (lw_at lw_m15 170 rfl) rfl
theorem q3646 : (Jvm.Cond.instanceMethod ({ cls := "TollRoadModel", name := "newAmount", desc := "(II)I" } : Jvm.MethodName)) ∈ lw_all := lw_g (lw_at lw_m15 172 rfl) rfl
theorem q3647 : (Jvm.Cond.code ({ cls := "TollRoadModel", name := "newAmount", desc := "(II)I" } : Jvm.MethodName) prog_21_method_106_code (3 : Nat) (Option.some Jvm.ClassFile.FieldType.int)) ∈ lw_all := lw_g (lw_at lw_m15 173 rfl) rfl
theorem q3648 : (Jvm.Cond.methodLink "TollRoadLaw" (244 : Nat) ({ cls := "TollRoadModel", name := "disputable", desc := "(I)I" } : Jvm.MethodName)) ∈ lw_all := lw_g (lw_at lw_m15 174 rfl) rfl
theorem q3649 : (Jvm.Cond.instanceMethod ({ cls := "TollRoadModel", name := "disputable", desc := "(I)I" } : Jvm.MethodName)) ∈ lw_all := lw_g (lw_at lw_m15 175 rfl) rfl
theorem q3650 : (Jvm.Cond.selects "TollRoadModel" ({ cls := "TollRoadModel", name := "disputable", desc := "(I)I" } : Jvm.MethodName) ({ cls := "TollRoadModel", name := "disputable", desc := "(I)I" } : Jvm.MethodName)) ∈ lw_all := lw_g (lw_at lw_m15 176 rfl) rfl
theorem q3651 : (Jvm.Cond.code ({ cls := "TollRoadModel", name := "disputable", desc := "(I)I" } : Jvm.MethodName) prog_21_method_110_code (4 : Nat) (Option.some Jvm.ClassFile.FieldType.int)) ∈ lw_all := lw_g (lw_at lw_m15 177 rfl) rfl
theorem q3652 : (Jvm.Cond.methodLink "TollRoadLaw" (249 : Nat) ({ cls := "TollRoadModel", name := "revenue", desc := "()J" } : Jvm.MethodName)) ∈ lw_all := lw_g (lw_at lw_m15 178 rfl) rfl
theorem q3653 : (Jvm.Cond.instanceMethod ({ cls := "TollRoadModel", name := "revenue", desc := "()J" } : Jvm.MethodName)) ∈ lw_all := lw_g (lw_at lw_m15 179 rfl) rfl
theorem q3654 : (Jvm.Cond.selects "TollRoadModel" ({ cls := "TollRoadModel", name := "revenue", desc := "()J" } : Jvm.MethodName) ({ cls := "TollRoadModel", name := "revenue", desc := "()J" } : Jvm.MethodName)) ∈ lw_all := lw_g (lw_at lw_m15 180 rfl) rfl
theorem q3655 : (Jvm.Cond.code ({ cls := "TollRoadModel", name := "revenue", desc := "()J" } : Jvm.MethodName) prog_21_method_112_code (1 : Nat) (Option.some Jvm.ClassFile.FieldType.long)) ∈ lw_all := lw_g (lw_at lw_m15 181 rfl) rfl
theorem q3656 : (Jvm.Cond.methodLink "TollRoadModel" (409 : Nat) ({ cls := "TollRoadModel", name := "amounts", desc := "(Z)J" } : Jvm.MethodName)) ∈ lw_all := lw_g (lw_at lw_m15 182 rfl) rfl
theorem q3658 : (Jvm.Cond.instanceMethod ({ cls := "TollRoadModel", name := "amounts", desc := "(Z)J" } : Jvm.MethodName)) ∈ lw_all := lw_g (lw_at lw_m15 184 rfl) rfl
theorem q3659 : (Jvm.Cond.code ({ cls := "TollRoadModel", name := "amounts", desc := "(Z)J" } : Jvm.MethodName) prog_21_method_111_code (5 : Nat) (Option.some Jvm.ClassFile.FieldType.long)) ∈ lw_all := lw_g (lw_at lw_m15 185 rfl) rfl
theorem q3660 : (Jvm.Cond.methodLink "TollRoadLaw" (252 : Nat) ({ cls := "TollRoadModel", name := "gantry", desc := "(II)I" } : Jvm.MethodName)) ∈ lw_all := lw_g (lw_at lw_m15 186 rfl) rfl
theorem q3661 : (Jvm.Cond.instanceMethod ({ cls := "TollRoadModel", name := "gantry", desc := "(II)I" } : Jvm.MethodName)) ∈ lw_all := lw_g (lw_at lw_m15 187 rfl) rfl
theorem q3662 : (Jvm.Cond.selects "TollRoadModel" ({ cls := "TollRoadModel", name := "gantry", desc := "(II)I" } : Jvm.MethodName) ({ cls := "TollRoadModel", name := "gantry", desc := "(II)I" } : Jvm.MethodName)) ∈ lw_all := lw_g (lw_at lw_m15 188 rfl) rfl
theorem q3663 : (Jvm.Cond.code ({ cls := "TollRoadModel", name := "gantry", desc := "(II)I" } : Jvm.MethodName) prog_21_method_115_code (3 : Nat) (Option.some Jvm.ClassFile.FieldType.int)) ∈ lw_all := lw_g (lw_at lw_m15 189 rfl) rfl
theorem q3664 : (Jvm.Cond.methodLink "TollRoadModel" (413 : Nat) ({ cls := "TollRoadModel", name := "readsAt", desc := "(I)I" } : Jvm.MethodName)) ∈ lw_all := lw_g (lw_at lw_m15 190 rfl) rfl
theorem q3666 : (Jvm.Cond.instanceMethod ({ cls := "TollRoadModel", name := "readsAt", desc := "(I)I" } : Jvm.MethodName)) ∈ lw_all := lw_g (lw_at lw_m15 192 rfl) rfl
theorem q3667 : (Jvm.Cond.code ({ cls := "TollRoadModel", name := "readsAt", desc := "(I)I" } : Jvm.MethodName) prog_21_method_113_code (5 : Nat) (Option.some Jvm.ClassFile.FieldType.int)) ∈ lw_all := lw_g (lw_at lw_m15 193 rfl) rfl
theorem q3668 : (Jvm.Cond.methodLink "TollRoadModel" (416 : Nat) ({ cls := "TollRoadModel", name := "placesAt", desc := "(IZ)I" } : Jvm.MethodName)) ∈ lw_all := lw_g (lw_at lw_m15 194 rfl) rfl
theorem q3670 : (Jvm.Cond.instanceMethod ({ cls := "TollRoadModel", name := "placesAt", desc := "(IZ)I" } : Jvm.MethodName)) ∈ lw_all := lw_g (lw_at lw_m15 196 rfl) rfl
theorem q3671 : (Jvm.Cond.code ({ cls := "TollRoadModel", name := "placesAt", desc := "(IZ)I" } : Jvm.MethodName) prog_21_method_114_code (6 : Nat) (Option.some Jvm.ClassFile.FieldType.int)) ∈ lw_all := lw_g (lw_at lw_m15 197 rfl) rfl
theorem q3672 : (Jvm.Cond.methodLink "TollRoadLaw" (256 : Nat) ({ cls := "TollRoadModel", name := "missRate", desc := "(I)F" } : Jvm.MethodName)) ∈ lw_all := lw_g (lw_at lw_m15 198 rfl) rfl
theorem q3673 : (Jvm.Cond.instanceMethod ({ cls := "TollRoadModel", name := "missRate", desc := "(I)F" } : Jvm.MethodName)) ∈ lw_all := lw_g (lw_at lw_m15 199 rfl) rfl
theorem q3674 : (Jvm.Cond.selects "TollRoadModel" ({ cls := "TollRoadModel", name := "missRate", desc := "(I)F" } : Jvm.MethodName) ({ cls := "TollRoadModel", name := "missRate", desc := "(I)F" } : Jvm.MethodName)) ∈ lw_all := lw_g (lw_at lw_m15 200 rfl) rfl
theorem q3675 : (Jvm.Cond.code ({ cls := "TollRoadModel", name := "missRate", desc := "(I)F" } : Jvm.MethodName) prog_21_method_116_code (3 : Nat) (Option.some Jvm.ClassFile.FieldType.float)) ∈ lw_all := lw_g (lw_at lw_m15 201 rfl) rfl
theorem q3676 : (Jvm.Cond.constantFloat "TollRoadModel" (419 : Nat) (3212836864 : UInt32)) ∈ lw_all := lw_g (lw_at lw_m15 202 rfl) rfl
theorem q3677 : (Jvm.Cond.methodLink "TollRoadLaw" (260 : Nat) ({ cls := "TollRoadModel", name := "worstGantry", desc := "()I" } : Jvm.MethodName)) ∈ lw_all := lw_g (lw_at lw_m15 203 rfl) rfl
theorem q3678 : (Jvm.Cond.instanceMethod ({ cls := "TollRoadModel", name := "worstGantry", desc := "()I" } : Jvm.MethodName)) ∈ lw_all := lw_g (lw_at lw_m15 204 rfl) rfl
theorem q3679 : (Jvm.Cond.selects "TollRoadModel" ({ cls := "TollRoadModel", name := "worstGantry", desc := "()I" } : Jvm.MethodName) ({ cls := "TollRoadModel", name := "worstGantry", desc := "()I" } : Jvm.MethodName)) ∈ lw_all := lw_g (lw_at lw_m15 205 rfl) rfl
theorem q3680 : (Jvm.Cond.code ({ cls := "TollRoadModel", name := "worstGantry", desc := "()I" } : Jvm.MethodName) prog_21_method_117_code (5 : Nat) (Option.some Jvm.ClassFile.FieldType.int)) ∈ lw_all := lw_g (lw_at lw_m15 206 rfl) rfl
theorem q3681 : (Jvm.Cond.methodLink "TollRoadLaw" (265 : Nat) ({ cls := "TollRoadModel", name := "meanAmount", desc := "()D" } : Jvm.MethodName)) ∈ lw_all := lw_g (lw_at lw_m15 207 rfl) rfl
theorem q3682 : (Jvm.Cond.instanceMethod ({ cls := "TollRoadModel", name := "meanAmount", desc := "()D" } : Jvm.MethodName)) ∈ lw_all := lw_g (lw_at lw_m15 208 rfl) rfl
theorem q3683 : (Jvm.Cond.selects "TollRoadModel" ({ cls := "TollRoadModel", name := "meanAmount", desc := "()D" } : Jvm.MethodName) ({ cls := "TollRoadModel", name := "meanAmount", desc := "()D" } : Jvm.MethodName)) ∈ lw_all := lw_g (lw_at lw_m15 209 rfl) rfl
theorem q3684 : (Jvm.Cond.code ({ cls := "TollRoadModel", name := "meanAmount", desc := "()D" } : Jvm.MethodName) prog_21_method_118_code (1 : Nat) (Option.some Jvm.ClassFile.FieldType.double)) ∈ lw_all := lw_g (lw_at lw_m15 210 rfl) rfl
theorem q3685 : (Jvm.Cond.constantDouble "TollRoadModel" (420 : Nat) (13830554455654793216 : UInt64)) ∈ lw_all := lw_g (lw_at lw_m15 211 rfl) rfl
theorem q3686 : (Jvm.Cond.methodLink "TollRoadLaw" (269 : Nat) ({ cls := "TollRoadModel", name := "save", desc := "(I)V" } : Jvm.MethodName)) ∈ lw_all := lw_g (lw_at lw_m15 212 rfl) rfl
theorem q3687 : (Jvm.Cond.instanceMethod ({ cls := "TollRoadModel", name := "save", desc := "(I)V" } : Jvm.MethodName)) ∈ lw_all := lw_g (lw_at lw_m15 213 rfl) rfl
theorem q3688 : (Jvm.Cond.selects "TollRoadModel" ({ cls := "TollRoadModel", name := "save", desc := "(I)V" } : Jvm.MethodName) ({ cls := "TollRoadModel", name := "save", desc := "(I)V" } : Jvm.MethodName)) ∈ lw_all := lw_g (lw_at lw_m15 214 rfl) rfl
theorem q3689 : (Jvm.Cond.code ({ cls := "TollRoadModel", name := "save", desc := "(I)V" } : Jvm.MethodName) prog_21_method_119_code (2 : Nat) (Option.none : Option Jvm.ClassFile.FieldType)) ∈ lw_all := lw_g (lw_at lw_m15 215 rfl) rfl
theorem q3690 : (Jvm.Cond.methodLink "TollRoadLaw" (272 : Nat) ({ cls := "TollRoadModel", name := "restore", desc := "(I)V" } : Jvm.MethodName)) ∈ lw_all := lw_g (lw_at lw_m15 216 rfl) rfl
theorem q3691 : (Jvm.Cond.instanceMethod ({ cls := "TollRoadModel", name := "restore", desc := "(I)V" } : Jvm.MethodName)) ∈ lw_all := lw_g (lw_at lw_m15 217 rfl) rfl
theorem q3692 : (Jvm.Cond.selects "TollRoadModel" ({ cls := "TollRoadModel", name := "restore", desc := "(I)V" } : Jvm.MethodName) ({ cls := "TollRoadModel", name := "restore", desc := "(I)V" } : Jvm.MethodName)) ∈ lw_all := lw_g (lw_at lw_m15 218 rfl) rfl
theorem q3693 : (Jvm.Cond.code ({ cls := "TollRoadModel", name := "restore", desc := "(I)V" } : Jvm.MethodName) prog_21_method_120_code (2 : Nat) (Option.none : Option Jvm.ClassFile.FieldType)) ∈ lw_all := lw_g (lw_at lw_m15 219 rfl) rfl
theorem q3694 : (Jvm.Cond.arrayClass Jvm.ClassFile.FieldType.long) ∈ lw_all := lw_g (lw_at lw_m15 220 rfl) rfl
theorem q3695 : (Jvm.Cond.arrayClass Jvm.ClassFile.FieldType.double) ∈ lw_all := lw_g (lw_at lw_m15 221 rfl) rfl
theorem q3699 : (Jvm.Cond.sameMethod "java/lang/AbstractStringBuilder" "java/lang/AbstractStringBuilder" "ensureCapacityInternal" "(I)V") ∈ lw_all := lw_g (lw_at lw_m15 225 rfl) rfl
theorem q3700 : (Jvm.Cond.sameMethod "java/lang/AbstractStringBuilder" "java/lang/AbstractStringBuilder" "newCapacity" "(I)I") ∈ lw_all := lw_g (lw_at lw_m15 226 rfl) rfl
theorem q3706 : (Jvm.Cond.sameMethod "java/lang/AbstractStringBuilder" "java/lang/AbstractStringBuilder" "append" "(C)Ljava/lang/AbstractStringBuilder;") ∈ lw_all := lw_g (lw_at lw_m15 232 rfl) rfl
theorem q3707 : (Jvm.Cond.selects "java/lang/String" ({ cls := "java/lang/String", name := "hashCode", desc := "()I" } : Jvm.MethodName) ({ cls := "java/lang/String", name := "hashCode", desc := "()I" } : Jvm.MethodName)) ∈ lw_all := lw_g (lw_at lw_m15 233 rfl) rfl
theorem q3708 : (Jvm.Cond.selects "java/lang/String" ({ cls := "java/lang/String", name := "equals", desc := "(Ljava/lang/Object;)Z" } : Jvm.MethodName) ({ cls := "java/lang/String", name := "equals", desc := "(Ljava/lang/Object;)Z" } : Jvm.MethodName)) ∈ lw_all := lw_g (lw_at lw_m15 234 rfl) rfl
theorem q3709 : (Jvm.Cond.sameMethod "TollRoad$Search" "TollRoad$Search" "isFound" "()Z") ∈ lw_all := lw_g (lw_at lw_m15 235 rfl) rfl
theorem q3710 : (Jvm.Cond.selects "TollRoad$Cheapest" ({ cls := "TollRoad$Search", name := "isFound", desc := "()Z" } : Jvm.MethodName) ({ cls := "TollRoad$Search", name := "isFound", desc := "()Z" } : Jvm.MethodName)) ∈ lw_all := lw_g (lw_at lw_m15 236 rfl) rfl
theorem q3711 : (Jvm.Cond.selects "TollRoad$Route" ({ cls := "TollRoad$Search", name := "isFound", desc := "()Z" } : Jvm.MethodName) ({ cls := "TollRoad$Search", name := "isFound", desc := "()Z" } : Jvm.MethodName)) ∈ lw_all := lw_g (lw_at lw_m15 237 rfl) rfl
theorem q3714 : (Jvm.Cond.castable "TollRoad$Road" "java/lang/Object") ∈ lw_tbl := lw_at lw_m16 0 rfl
theorem q3715 : (Jvm.Cond.castable "TollRoad$Account" "java/lang/Object") ∈ lw_tbl := lw_at lw_m16 1 rfl
theorem q3716 : (Jvm.Cond.castable "TollRoad$World" "java/lang/Object") ∈ lw_tbl := lw_at lw_m16 2 rfl
theorem q3717 : (Jvm.Cond.castable "java/util/HashMap$Node" "java/lang/Object") ∈ lw_tbl := lw_at lw_m16 3 rfl
theorem q3718 : (Jvm.Cond.castable "TollRoad" "java/lang/Object") ∈ lw_tbl := lw_at lw_m16 4 rfl
theorem q3719 : (Jvm.Cond.castable "TollRoad$Network" "java/lang/Object") ∈ lw_tbl := lw_at lw_m16 5 rfl
theorem q3720 : (Jvm.Cond.castable "java/util/ArrayList" "java/lang/Object") ∈ lw_tbl := lw_at lw_m16 6 rfl
theorem q3721 : (Jvm.Cond.castable "java/lang/IllegalArgumentException" "java/lang/Object") ∈ lw_tbl := lw_at lw_m16 7 rfl
theorem q3722 : (Jvm.Cond.castable "java/lang/StringBuilder" "java/lang/Object") ∈ lw_tbl := lw_at lw_m16 8 rfl
theorem q3723 : (Jvm.Cond.castable "java/lang/String" "java/lang/Object") ∈ lw_tbl := lw_at lw_m16 9 rfl
theorem q3724 : (Jvm.Cond.castable "java/util/HashMap" "java/lang/Object") ∈ lw_tbl := lw_at lw_m16 10 rfl
theorem q3725 : (Jvm.Cond.castable "TollRoadModel" "java/lang/Object") ∈ lw_tbl := lw_at lw_m16 11 rfl
theorem q3726 : (Jvm.Cond.castable "java/lang/IllegalStateException" "java/lang/Object") ∈ lw_tbl := lw_at lw_m16 12 rfl
theorem q3727 : (Jvm.Cond.castable "TollRoad$Parser" "java/lang/Object") ∈ lw_tbl := lw_at lw_m16 13 rfl
theorem q3729 : (Jvm.Cond.castable "TollRoad$TextError" "java/lang/Object") ∈ lw_tbl := lw_at lw_m16 15 rfl
theorem q3730 : (Jvm.Cond.castable "TollRoad$Vehicle" "java/lang/Object") ∈ lw_tbl := lw_at lw_m16 16 rfl
theorem q3731 : (Jvm.Cond.castable "TollRoad$Bounds$1" "java/lang/Object") ∈ lw_tbl := lw_at lw_m16 17 rfl
theorem q3733 : (Jvm.Cond.castable "java/lang/IndexOutOfBoundsException" "java/lang/Object") ∈ lw_tbl := lw_at lw_m16 19 rfl
theorem q3734 : (Jvm.Cond.castable "java/util/ArrayList$Itr" "java/lang/Object") ∈ lw_tbl := lw_at lw_m16 20 rfl
theorem q3735 : (Jvm.Cond.castable "TollRoad$Route" "java/lang/Object") ∈ lw_tbl := lw_at lw_m16 21 rfl
theorem q3736 : (Jvm.Cond.castable "TollRoad$Cheapest" "java/lang/Object") ∈ lw_tbl := lw_at lw_m16 22 rfl
theorem q3737 : (Jvm.Cond.castable "TollRoad$Read" "java/lang/Object") ∈ lw_tbl := lw_at lw_m16 23 rfl
theorem q3738 : (Jvm.Cond.castable "java/util/PriorityQueue" "java/lang/Object") ∈ lw_tbl := lw_at lw_m16 24 rfl
theorem q3739 : (Jvm.Cond.castable "TollRoad$Order" "java/lang/Object") ∈ lw_tbl := lw_at lw_m16 25 rfl
theorem q3740 : (Jvm.Cond.castable "java/lang/NullPointerException" "java/lang/Object") ∈ lw_tbl := lw_at lw_m16 26 rfl
theorem q3742 : (Jvm.Cond.castable "java/util/TreeMap" "java/lang/Object") ∈ lw_tbl := lw_at lw_m16 28 rfl
theorem q3743 : (Jvm.Cond.castable "java/lang/Integer" "java/lang/Object") ∈ lw_tbl := lw_at lw_m16 29 rfl
theorem q3744 : (Jvm.Cond.castable "java/util/TreeMap$Entry" "java/lang/Object") ∈ lw_tbl := lw_at lw_m16 30 rfl
theorem q3745 : (Jvm.Cond.castable "java/util/TreeMap$Values" "java/lang/Object") ∈ lw_tbl := lw_at lw_m16 31 rfl
theorem q3747 : (Jvm.Cond.castable "java/util/TreeMap$ValueIterator" "java/lang/Object") ∈ lw_tbl := lw_at lw_m16 33 rfl
theorem q3748 : (Jvm.Cond.castable "TollRoad$Trip" "java/lang/Object") ∈ lw_tbl := lw_at lw_m16 34 rfl
theorem q3749 : (Jvm.Cond.castable "TollRoad$Bill" "java/lang/Object") ∈ lw_tbl := lw_at lw_m16 35 rfl
theorem q3750 : (Jvm.Cond.castable "TollRoad$Mark" "java/lang/Object") ∈ lw_tbl := lw_at lw_m16 36 rfl
theorem q3752 : (Jvm.Cond.castable "java/util/HashMap$EntrySet" "java/lang/Object") ∈ lw_tbl := lw_at lw_m16 38 rfl
theorem q3753 : (Jvm.Cond.castable "java/util/HashMap$EntryIterator" "java/lang/Object") ∈ lw_tbl := lw_at lw_m16 39 rfl
theorem q3757 : (Jvm.Cond.selects "[Ljava/lang/Object;" ({ cls := "java/lang/Object", name := "getClass", desc := "()Ljava/lang/Class;" } : Jvm.MethodName) ({ cls := "java/lang/Object", name := "getClass", desc := "()Ljava/lang/Class;" } : Jvm.MethodName)) ∈ lw_all := lw_g (lw_at lw_m16 43 rfl) rfl
theorem q3758 : (Jvm.Cond.declares ({ cls := "java/lang/Object", name := "getClass", desc := "()Ljava/lang/Class;" } : Jvm.MethodName)) ∈ lw_tbl := lw_at lw_m16 44 rfl
/-! what the rows of the code lean on -/
def CLr (i : Nat) : vw_C := CL.getD i (RX1, TX1, 0)
theorem x_gb {T : Tb} {d m pc : Nat} {L : Lc} {st : List Value} {A : Hp} {α : Type} {op : Op} (h : (T m).2 pc = some op) {b : Bool} {o : Option α} {k : α → Rs} {k' : α → Rv} (e : op pc L st A = gd b (o.bind k)) (hk : ∀ a, rsN (evG T d) (goG T d m) (k a) = k' a) : exG T d m pc L st A = ck b (o.bind k') := by
  rw [exG_at h, e]
  cases b with
  | false => rfl
  | true =>
    cases o with
    | none => rfl
    | some a => exact hk a
theorem x_inY {T : Tb} {d m pc : Nat} {L : Lc} {st : List Value} {A : Hp} {p : Nat} {l l0 : List Nat} (h : (T m).2 pc = some (o_inst l l0)) (h9 : cin (gcs A p) l = true) : exG T d m pc L (.ref p :: st) A = exG T d m (pc + 3) L (.int 1 :: st) A :=
  x_nx h (by unfold o_inst; dsimp only; rw [h9]; rfl)
theorem x_inN {T : Tb} {d m pc : Nat} {L : Lc} {st : List Value} {A : Hp} {p : Nat} {l l0 : List Nat} (h : (T m).2 pc = some (o_inst l l0)) (h9 : cin (gcs A p) l = false) (h8 : cin (gcs A p) l0 = true) : exG T d m pc L (.ref p :: st) A = exG T d m (pc + 3) L (.int 0 :: st) A :=
  x_nx h (by unfold o_inst; dsimp only; rw [h9, h8]; rfl)
theorem cin_nil (c : Option Nat) : cin c [] = false := by cases c <;> rfl
theorem ac_t (p q : Nat) : (decide ((some p : Option Nat) = some q) == true) = decide (p = q) := by by_cases h : p = q <;> simp [h]
theorem ac_f (p q : Nat) : (decide ((some p : Option Nat) = some q) == false) = decide (¬ p = q) := by by_cases h : p = q <;> simp [h]
def tget {α : Type} (l : List (List α)) (df : α) (y : Nat) : α := (l.getD (y / 16) []).getD (y % 16) df
theorem tget_out {α : Type} {l : List (List α)} {df : α} {y : Nat} (h : l.length * 16 ≤ y) : tget l df y = df := by
  unfold tget
  have : l.length ≤ y / 16 := by omega
  have e : l.getD (y / 16) [] = [] := by rw [List.getD_eq_getElem?_getD, List.getElem?_eq_none this]; rfl
  rw [e]
  rfl
def AllF (P : Nat → Prop) : Nat → Nat → Prop
  | _, 0 => True
  | k, n + 1 => P k ∧ AllF P (k + 1) n
theorem AllF.get {P : Nat → Prop} : ∀ {n k : Nat}, AllF P k n → ∀ y, k ≤ y → y < k + n → P y
  | 0, k, _, y, h1, h2 => by omega
  | n + 1, k, h, y, h1, h2 => by
    rcases Nat.eq_or_lt_of_le h1 with e | e
    · rw [← e]; exact h.1
    · exact AllF.get h.2 y e (by omega)
def LkP (P : Nat → Op → Prop) : List (Nat × Op) → Prop
  | [] => True
  | q :: t => P q.1 q.2 ∧ LkP P t
def LkP2 (P : Nat → Op → Prop) : List (List (Nat × Op)) → Prop
  | [] => True
  | q :: t => LkP P q ∧ LkP2 P t
theorem lkp_c {P : Nat → Op → Prop} {pc : Nat} {op : Op} {l : List (Nat × Op)} (h : P pc op) (t : LkP P l) : LkP P ((pc, op) :: l) := ⟨h, t⟩
theorem LkP.get {P : Nat → Op → Prop} : ∀ {l : List (Nat × Op)}, LkP P l → ∀ pc op, lk l pc = some op → P pc op
  | [], _, pc, op, h => by cases h
  | (k, o) :: t, hP, pc, op, h => by
    unfold lk at h
    cases hk : Nat.beq k pc with
    | true =>
      rw [hk] at h
      cases h
      have := Nat.eq_of_beq_eq_true hk
      subst this
      exact hP.1
    | false => rw [hk] at h; exact LkP.get hP.2 pc op h
theorem LkP2.get {P : Nat → Op → Prop} : ∀ {l : List (List (Nat × Op))}, LkP2 P l → ∀ i, LkP P (l.getD i [])
  | [], _, i => by cases i <;> trivial
  | q :: t, h, 0 => h.1
  | q :: t, h, i + 1 => LkP2.get h.2 i
theorem lk2_all {P : Nat → Op → Prop} {l : List (List (Nat × Op))} (h : LkP2 P l) : ∀ pc op, lk2 l pc = some op → P pc op := fun pc op e => (h.get (pc / 64)).get pc op e
theorem hd_no {mi : Mi} {pc : Nat} (h : mi.2.2.2.1 = [] := by rfl) : HdOK mi pc none := by
  intro x hx
  rw [h] at hx
  cases hx
theorem hd_no2 {mi : Mi} {pc : Nat} (h : (tableOf mi.2.2.2.1).all (fun x => !covers x pc) = true) : HdOK mi pc none := by
  intro x hx
  have := List.all_eq_true.mp h x hx
  cases hq : covers x pc with
  | false => rfl
  | true => rw [hq] at this; cases this
theorem hd_nil {mi : Mi} {pc : Nat} : HdOK mi pc (some []) := by
  intro q hq
  cases hq
theorem hd_cons {mi : Mi} {pc ci h k : Nat} {l9 : List (Nat × Nat)} {r : vw_C} {x : ExceptionTableEntry} {name : String} (hr : CL[ci]? = some r) (hx : (tableOf mi.2.2.2.1)[k]? = some x) (hpre : ∀ z ∈ (tableOf mi.2.2.2.1).take k, covers z pc = false ∨ (z.catchType ≠ 0 ∧ ∃ nm : String, Cond.classLink mi.1 z.catchType nm ∈ lw_all ∧ (r.1, nm) ∈ NCL))
    (hc : covers x pc = true) (h0 : x.catchType ≠ 0) (w : Cond.classLink mi.1 x.catchType name ∈ lw_all) (w2 : Cond.castable r.1 name ∈ lw_tbl) (he : x.handlerPc = h) (t : HdOK mi pc (some l9)) : HdOK mi pc (some ((ci, h) :: l9)) := by
  intro q hq
  rcases List.mem_cons.mp hq with rfl | hq
  · refine ⟨r, (tableOf mi.2.2.2.1).take k, x, (tableOf mi.2.2.2.1).drop (k + 1), name, hr, ?_, hpre, hc, h0, w, w2, he⟩
    obtain ⟨h1, h2⟩ := List.getElem?_eq_some_iff.mp hx
    rw [← h2, ← List.drop_eq_getElem_cons h1, List.take_append_drop]
  · exact t q hq
theorem castL_nil {nm : String} : CastL [] nm := fun _ h => by cases h
theorem castL_c {nm : String} {ci : Nat} {l : List Nat} {r : vw_C} (hr : CL[ci]? = some r) (h : Cond.castable r.1 nm ∈ lw_tbl ∨ r.1 = nm) (t : CastL l nm) : CastL (ci :: l) nm := fun q hq => by
  rcases List.mem_cons.mp hq with rfl | hq
  · exact ⟨r, hr, h⟩
  · exact t q hq
theorem notL_nil {nm : String} : NotL [] nm := fun _ h => by cases h
theorem notL_node : NotL [28] "java/util/HashMap$TreeNode" := fun q hq => by
  rcases List.mem_cons.mp hq with rfl | hq
  · exact ⟨CLr 28, rfl, by decide +kernel⟩
  · cases hq
theorem npe5 : ∀ w ∈ vx_atN 8, w ∈ lw_tbl := by decide +kernel
theorem npe6 : (vx_atN 8).all kindB = true := by decide +kernel
theorem npe7 : (vx_atN 8).all vx_ot = true := by decide +kernel
theorem lsw_n (pc : Nat) (dflt : Int) (df : Nat) (h : (pc : Int) + dflt = (df : Int)) : ∀ x : Int32, (pc : Int) + Op.lookupswitch.offset [] dflt x.toInt = (lsw [] df x : Int) := fun _ => h
theorem lsw_c {pc : Nat} {dflt : Int} {df : Nat} {a o : Int} {r : List (Int × Int)} {k : Int32} {t : Nat} {tb : List (Int32 × Nat)} (h : ∀ x : Int32, (pc : Int) + Op.lookupswitch.offset r dflt x.toInt = (lsw tb df x : Int)) (h1 : k.toInt = a) (h2 : (pc : Int) + o = (t : Int)) : ∀ x : Int32, (pc : Int) + Op.lookupswitch.offset ((a, o) :: r) dflt x.toInt = (lsw ((k, t) :: tb) df x : Int) := fun x => by
  rw [Op.lookupswitch.offset_cons]
  unfold lsw
  by_cases hx : x = k
  · subst hx; rw [if_pos h1.symm, if_pos rfl]; exact h2
  · rw [if_neg hx, if_neg (fun e => hx (Int32.toInt_inj.mp (e.symm.trans h1.symm)))]; exact h x
theorem th3_31 : ∀ w ∈ vx_at0 "TollRoad" 3 "java/lang/IndexOutOfBoundsException" ["java/lang/RuntimeException", "java/lang/Exception"], w ∈ lw_tbl := by decide +kernel
theorem th4_31 : (vx_at0 "TollRoad" 3 "java/lang/IndexOutOfBoundsException" ["java/lang/RuntimeException", "java/lang/Exception"]).all kindB = true := by decide +kernel
theorem th3_32 : ∀ w ∈ vx_at0 "TollRoad" 9 "java/lang/IllegalArgumentException" ["java/lang/RuntimeException", "java/lang/Exception"], w ∈ lw_tbl := by decide +kernel
theorem th4_32 : (vx_at0 "TollRoad" 9 "java/lang/IllegalArgumentException" ["java/lang/RuntimeException", "java/lang/Exception"]).all kindB = true := by decide +kernel
theorem th3_33 : ∀ w ∈ vx_at0 "TollRoad" 12 "java/lang/IllegalStateException" ["java/lang/RuntimeException", "java/lang/Exception"], w ∈ lw_tbl := by decide +kernel
theorem th4_33 : (vx_at0 "TollRoad" 12 "java/lang/IllegalStateException" ["java/lang/RuntimeException", "java/lang/Exception"]).all kindB = true := by decide +kernel
theorem dvok_0 : DvOK 0 (CLr 0) dv0 := ⟨⟨tyX1, tyX1_ok, by decide +kernel⟩, fun f v h => by
  unfold dv0 at h
  split at h
  · exact ⟨0, by decide, rfl⟩
  · exact ⟨1, by decide, rfl⟩
  · exact ⟨2, by decide, rfl⟩
  · exact ⟨3, by decide, rfl⟩
  · exact ⟨4, by decide, rfl⟩
  · exact ⟨5, by decide, rfl⟩
  · cases h⟩
theorem dvok_1 : DvOK 1 (CLr 1) dv1 := ⟨⟨tyX2, tyX2_ok, by decide +kernel⟩, fun f v h => by
  unfold dv1 at h
  split at h
  · exact ⟨0, by decide, rfl⟩
  · exact ⟨1, by decide, rfl⟩
  · exact ⟨2, by decide, rfl⟩
  · exact ⟨3, by decide, rfl⟩
  · exact ⟨4, by decide, rfl⟩
  · exact ⟨5, by decide, rfl⟩
  · exact ⟨6, by decide, rfl⟩
  · exact ⟨7, by decide, rfl⟩
  · cases h⟩
theorem dvok_2 : DvOK 2 (CLr 2) dv2 := ⟨⟨tyX3, tyX3_ok, by decide +kernel⟩, fun f v h => by
  unfold dv2 at h
  split at h
  · exact ⟨0, by decide, rfl⟩
  · exact ⟨1, by decide, rfl⟩
  · exact ⟨2, by decide, rfl⟩
  · exact ⟨3, by decide, rfl⟩
  · cases h⟩
theorem dvok_3 : DvOK 3 (CLr 3) dv3 := ⟨⟨tyJ2, tyJ2_ok, by decide +kernel⟩, fun f v h => by
  unfold dv3 at h
  split at h
  · exact ⟨0, by decide, rfl⟩
  · exact ⟨1, by decide, rfl⟩
  · exact ⟨2, by decide, rfl⟩
  · cases h⟩
theorem dvok_4 : DvOK 4 (CLr 4) dv4 := ⟨⟨tyJ8, tyJ8_ok, by decide +kernel⟩, fun f v h => by
  unfold dv4 at h
  split at h
  · exact ⟨0, by decide, rfl⟩
  · exact ⟨1, by decide, rfl⟩
  · exact ⟨2, by decide, rfl⟩
  · exact ⟨3, by decide, rfl⟩
  · cases h⟩
theorem dvok_5 : DvOK 5 (CLr 5) dv5 := ⟨⟨tyJ9, tyJ9_ok, by decide +kernel⟩, fun f v h => by
  unfold dv5 at h
  split at h
  · exact ⟨0, by decide, rfl⟩
  · exact ⟨1, by decide, rfl⟩
  · exact ⟨2, by decide, rfl⟩
  · exact ⟨3, by decide, rfl⟩
  · cases h⟩
theorem dvok_6 : DvOK 6 (CLr 6) dv6 := ⟨⟨tyJ19, tyJ19_ok, by decide +kernel⟩, fun f v h => by
  unfold dv6 at h
  split at h
  · exact ⟨0, by decide, rfl⟩
  · exact ⟨1, by decide, rfl⟩
  · exact ⟨2, by decide, rfl⟩
  · exact ⟨3, by decide, rfl⟩
  · exact ⟨4, by decide, rfl⟩
  · exact ⟨5, by decide, rfl⟩
  · exact ⟨6, by decide, rfl⟩
  · exact ⟨7, by decide, rfl⟩
  · cases h⟩
theorem dvok_7 : DvOK 7 (CLr 7) dv7 := ⟨⟨tyJ23, tyJ23_ok, by decide +kernel⟩, fun f v h => by
  unfold dv7 at h
  split at h
  · exact ⟨0, by decide, rfl⟩
  · exact ⟨1, by decide, rfl⟩
  · exact ⟨2, by decide, rfl⟩
  · exact ⟨3, by decide, rfl⟩
  · cases h⟩
theorem dvok_8 : DvOK 8 (CLr 8) dv8 := ⟨⟨tyX20, tyX20_ok, by decide +kernel⟩, fun f v h => by
  unfold dv8 at h
  split at h
  · exact ⟨0, by decide, rfl⟩
  · exact ⟨1, by decide, rfl⟩
  · cases h⟩
theorem dvok_9 : DvOK 9 (CLr 9) dv9 := ⟨⟨tyX5, tyX5_ok, by decide +kernel⟩, fun f v h => by
  unfold dv9 at h
  split at h
  · exact ⟨0, by decide, rfl⟩
  · exact ⟨1, by decide, rfl⟩
  · exact ⟨2, by decide, rfl⟩
  · exact ⟨3, by decide, rfl⟩
  · exact ⟨4, by decide, rfl⟩
  · exact ⟨5, by decide, rfl⟩
  · exact ⟨6, by decide, rfl⟩
  · exact ⟨7, by decide, rfl⟩
  · exact ⟨8, by decide, rfl⟩
  · cases h⟩
theorem dvok_10 : DvOK 10 (CLr 10) dv10 := ⟨⟨tyX6, tyX6_ok, by decide +kernel⟩, fun f v h => by
  unfold dv10 at h
  split at h
  · exact ⟨0, by decide, rfl⟩
  · exact ⟨1, by decide, rfl⟩
  · exact ⟨2, by decide, rfl⟩
  · exact ⟨3, by decide, rfl⟩
  · exact ⟨4, by decide, rfl⟩
  · exact ⟨5, by decide, rfl⟩
  · exact ⟨6, by decide, rfl⟩
  · exact ⟨7, by decide, rfl⟩
  · cases h⟩
theorem dvok_11 : DvOK 11 (CLr 11) dv11 := ⟨⟨tyX7, tyX7_ok, by decide +kernel⟩, fun f v h => by
  unfold dv11 at h
  split at h
  · exact ⟨0, by decide, rfl⟩
  · exact ⟨1, by decide, rfl⟩
  · exact ⟨2, by decide, rfl⟩
  · cases h⟩
theorem dvok_12 : DvOK 12 (CLr 12) dv12 := ⟨⟨tyX8, tyX8_ok, by decide +kernel⟩, fun f v h => by
  unfold dv12 at h
  split at h
  · exact ⟨0, by decide, rfl⟩
  · exact ⟨1, by decide, rfl⟩
  · exact ⟨2, by decide, rfl⟩
  · exact ⟨3, by decide, rfl⟩
  · exact ⟨4, by decide, rfl⟩
  · exact ⟨5, by decide, rfl⟩
  · cases h⟩
theorem dvok_13 : DvOK 13 (CLr 13) dv13 := ⟨⟨tyX9, tyX9_ok, by decide +kernel⟩, fun f v h => by
  unfold dv13 at h
  split at h
  · exact ⟨0, by decide, rfl⟩
  · exact ⟨1, by decide, rfl⟩
  · exact ⟨2, by decide, rfl⟩
  · exact ⟨3, by decide, rfl⟩
  · exact ⟨4, by decide, rfl⟩
  · exact ⟨5, by decide, rfl⟩
  · cases h⟩
theorem dvok_14 : DvOK 14 (CLr 14) dv14 := ⟨⟨tyX11, tyX11_ok, by decide +kernel⟩, fun f v h => by
  unfold dv14 at h
  split at h
  · exact ⟨0, by decide, rfl⟩
  · exact ⟨1, by decide, rfl⟩
  · cases h⟩
theorem dvok_15 : DvOK 15 (CLr 15) dv15 := ⟨⟨tyX13, tyX13_ok, by decide +kernel⟩, fun f v h => by
  unfold dv15 at h
  split at h
  · exact ⟨0, by decide, rfl⟩
  · exact ⟨1, by decide, rfl⟩
  · exact ⟨2, by decide, rfl⟩
  · exact ⟨3, by decide, rfl⟩
  · exact ⟨4, by decide, rfl⟩
  · exact ⟨5, by decide, rfl⟩
  · exact ⟨6, by decide, rfl⟩
  · exact ⟨7, by decide, rfl⟩
  · exact ⟨8, by decide, rfl⟩
  · exact ⟨9, by decide, rfl⟩
  · exact ⟨10, by decide, rfl⟩
  · cases h⟩
theorem dvok_16 : DvOK 16 (CLr 16) dv16 := ⟨⟨tyX14, tyX14_ok, by decide +kernel⟩, fun f v h => by
  unfold dv16 at h
  split at h
  · exact ⟨0, by decide, rfl⟩
  · exact ⟨1, by decide, rfl⟩
  · exact ⟨2, by decide, rfl⟩
  · exact ⟨3, by decide, rfl⟩
  · exact ⟨4, by decide, rfl⟩
  · exact ⟨5, by decide, rfl⟩
  · cases h⟩
theorem dvok_17 : DvOK 17 (CLr 17) dv17 := ⟨⟨tyX15, tyX15_ok, by decide +kernel⟩, fun f v h => by
  unfold dv17 at h
  split at h
  · exact ⟨0, by decide, rfl⟩
  · exact ⟨1, by decide, rfl⟩
  · exact ⟨2, by decide, rfl⟩
  · exact ⟨3, by decide, rfl⟩
  · exact ⟨4, by decide, rfl⟩
  · exact ⟨5, by decide, rfl⟩
  · exact ⟨6, by decide, rfl⟩
  · exact ⟨7, by decide, rfl⟩
  · cases h⟩
theorem dvok_18 : DvOK 18 (CLr 18) dv18 := ⟨⟨tyJ28, tyJ28_ok, by decide +kernel⟩, fun f v h => by
  unfold dv18 at h
  split at h
  · exact ⟨0, by decide, rfl⟩
  · exact ⟨1, by decide, rfl⟩
  · exact ⟨2, by decide, rfl⟩
  · exact ⟨3, by decide, rfl⟩
  · cases h⟩
theorem dvok_19 : DvOK 19 (CLr 19) dv19 := ⟨⟨tyX16, tyX16_ok, by decide +kernel⟩, fun f v h => by
  unfold dv19 at h
  split at h
  · exact ⟨0, by decide, rfl⟩
  · cases h⟩
theorem dvok_20 : DvOK 20 (CLr 20) dv20 := ⟨⟨tyJ25, tyJ25_ok, by decide +kernel⟩, fun f v h => by
  unfold dv20 at h
  split at h
  · exact ⟨0, by decide, rfl⟩
  · exact ⟨1, by decide, rfl⟩
  · exact ⟨2, by decide, rfl⟩
  · exact ⟨3, by decide, rfl⟩
  · exact ⟨4, by decide, rfl⟩
  · exact ⟨5, by decide, rfl⟩
  · exact ⟨6, by decide, rfl⟩
  · exact ⟨7, by decide, rfl⟩
  · exact ⟨8, by decide, rfl⟩
  · cases h⟩
theorem dvok_21 : DvOK 21 (CLr 21) dv21 := ⟨⟨tyJ17, tyJ17_ok, by decide +kernel⟩, fun f v h => by
  unfold dv21 at h
  split at h
  · exact ⟨0, by decide, rfl⟩
  · cases h⟩
theorem dvok_22 : DvOK 22 (CLr 22) dv22 := ⟨⟨tyJ32, tyJ32_ok, by decide +kernel⟩, fun f v h => by
  unfold dv22 at h
  split at h
  · exact ⟨0, by decide, rfl⟩
  · exact ⟨1, by decide, rfl⟩
  · exact ⟨2, by decide, rfl⟩
  · exact ⟨3, by decide, rfl⟩
  · exact ⟨4, by decide, rfl⟩
  · exact ⟨5, by decide, rfl⟩
  · cases h⟩
theorem dvok_23 : DvOK 23 (CLr 23) dv23 := ⟨⟨tyJ33, tyJ33_ok, by decide +kernel⟩, fun f v h => by
  unfold dv23 at h
  split at h
  · exact ⟨0, by decide, rfl⟩
  · cases h⟩
theorem dvok_24 : DvOK 24 (CLr 24) dv24 := ⟨⟨tyJ35, tyJ35_ok, by decide +kernel⟩, fun f v h => by
  unfold dv24 at h
  split at h
  · exact ⟨0, by decide, rfl⟩
  · exact ⟨1, by decide, rfl⟩
  · exact ⟨2, by decide, rfl⟩
  · exact ⟨3, by decide, rfl⟩
  · exact ⟨4, by decide, rfl⟩
  · cases h⟩
theorem dvok_25 : DvOK 25 (CLr 25) dv25 := ⟨⟨tyJ38, tyJ38_ok, by decide +kernel⟩, fun f v h => by
  unfold dv25 at h
  split at h
  · exact ⟨0, by decide, rfl⟩
  · exact ⟨1, by decide, rfl⟩
  · exact ⟨2, by decide, rfl⟩
  · exact ⟨3, by decide, rfl⟩
  · cases h⟩
theorem dvok_26 : DvOK 26 (CLr 26) dv26 := ⟨⟨tyX17, tyX17_ok, by decide +kernel⟩, fun f v h => by
  unfold dv26 at h
  split at h
  · exact ⟨0, by decide, rfl⟩
  · exact ⟨1, by decide, rfl⟩
  · exact ⟨2, by decide, rfl⟩
  · exact ⟨3, by decide, rfl⟩
  · exact ⟨4, by decide, rfl⟩
  · exact ⟨5, by decide, rfl⟩
  · exact ⟨6, by decide, rfl⟩
  · cases h⟩
theorem dvok_27 : DvOK 27 (CLr 27) dv27 := ⟨⟨tyX18, tyX18_ok, by decide +kernel⟩, fun f v h => by
  unfold dv27 at h
  split at h
  · exact ⟨0, by decide, rfl⟩
  · exact ⟨1, by decide, rfl⟩
  · exact ⟨2, by decide, rfl⟩
  · exact ⟨3, by decide, rfl⟩
  · exact ⟨4, by decide, rfl⟩
  · exact ⟨5, by decide, rfl⟩
  · exact ⟨6, by decide, rfl⟩
  · exact ⟨7, by decide, rfl⟩
  · exact ⟨8, by decide, rfl⟩
  · exact ⟨9, by decide, rfl⟩
  · cases h⟩
theorem dvok_28 : DvOK 28 (CLr 28) dv28 := ⟨⟨tyJ39, tyJ39_ok, by decide +kernel⟩, fun f v h => by
  unfold dv28 at h
  split at h
  · exact ⟨0, by decide, rfl⟩
  · exact ⟨1, by decide, rfl⟩
  · exact ⟨2, by decide, rfl⟩
  · exact ⟨3, by decide, rfl⟩
  · cases h⟩
theorem dvok_29 : DvOK 29 (CLr 29) dv29 := ⟨⟨tyJ43, tyJ43_ok, by decide +kernel⟩, fun f v h => by
  unfold dv29 at h
  split at h
  · exact ⟨0, by decide, rfl⟩
  · cases h⟩
theorem dvok_30 : DvOK 30 (CLr 30) dv30 := ⟨⟨tyX4, tyX4_ok, by decide +kernel⟩, fun f v h => by
  unfold dv30 at h
  split at h
  · exact ⟨0, by decide, rfl⟩
  · exact ⟨1, by decide, rfl⟩
  · exact ⟨2, by decide, rfl⟩
  · exact ⟨3, by decide, rfl⟩
  · exact ⟨4, by decide, rfl⟩
  · exact ⟨5, by decide, rfl⟩
  · exact ⟨6, by decide, rfl⟩
  · exact ⟨7, by decide, rfl⟩
  · exact ⟨8, by decide, rfl⟩
  · exact ⟨9, by decide, rfl⟩
  · exact ⟨10, by decide, rfl⟩
  · exact ⟨11, by decide, rfl⟩
  · exact ⟨12, by decide, rfl⟩
  · exact ⟨13, by decide, rfl⟩
  · exact ⟨14, by decide, rfl⟩
  · exact ⟨15, by decide, rfl⟩
  · exact ⟨16, by decide, rfl⟩
  · exact ⟨17, by decide, rfl⟩
  · exact ⟨18, by decide, rfl⟩
  · exact ⟨19, by decide, rfl⟩
  · exact ⟨20, by decide, rfl⟩
  · exact ⟨21, by decide, rfl⟩
  · exact ⟨22, by decide, rfl⟩
  · exact ⟨23, by decide, rfl⟩
  · exact ⟨24, by decide, rfl⟩
  · exact ⟨25, by decide, rfl⟩
  · exact ⟨26, by decide, rfl⟩
  · exact ⟨27, by decide, rfl⟩
  · exact ⟨28, by decide, rfl⟩
  · exact ⟨29, by decide, rfl⟩
  · exact ⟨30, by decide, rfl⟩
  · exact ⟨31, by decide, rfl⟩
  · exact ⟨32, by decide, rfl⟩
  · exact ⟨33, by decide, rfl⟩
  · exact ⟨34, by decide, rfl⟩
  · exact ⟨35, by decide, rfl⟩
  · exact ⟨36, by decide, rfl⟩
  · exact ⟨37, by decide, rfl⟩
  · exact ⟨38, by decide, rfl⟩
  · cases h⟩
theorem fd_0 : parseFieldDescriptor (fdn 0).2.2.1 = some (.object "TollRoad$World") := by decide +kernel
theorem fd_1 : parseFieldDescriptor (fdn 1).2.2.1 = some (.array (.object "TollRoad$World")) := by decide +kernel
theorem fd_2 : parseFieldDescriptor (fdn 2).2.2.1 = some (.array .byte) := by decide +kernel
theorem fd_3 : parseFieldDescriptor (fdn 3).2.2.1 = some .int := by decide +kernel
theorem fd_4 : parseFieldDescriptor (fdn 4).2.2.1 = some .int := by decide +kernel
theorem fd_5 : parseFieldDescriptor (fdn 5).2.2.1 = some .int := by decide +kernel
theorem fd_6 : parseFieldDescriptor (fdn 6).2.2.1 = some (.object "TollRoad$Network") := by decide +kernel
theorem fd_7 : parseFieldDescriptor (fdn 7).2.2.1 = some (.array .int) := by decide +kernel
theorem fd_8 : parseFieldDescriptor (fdn 8).2.2.1 = some (.array (.object "TollRoad$Account")) := by decide +kernel
theorem fd_9 : parseFieldDescriptor (fdn 9).2.2.1 = some .int := by decide +kernel
theorem fd_10 : parseFieldDescriptor (fdn 10).2.2.1 = some (.object "java/util/ArrayList") := by decide +kernel
theorem fd_11 : parseFieldDescriptor (fdn 11).2.2.1 = some (.object "java/util/ArrayList") := by decide +kernel
theorem fd_12 : parseFieldDescriptor (fdn 12).2.2.1 = some (.object "java/util/ArrayList") := by decide +kernel
theorem fd_13 : parseFieldDescriptor (fdn 13).2.2.1 = some (.object "java/util/HashMap") := by decide +kernel
theorem fd_14 : parseFieldDescriptor (fdn 14).2.2.1 = some (.array .int) := by decide +kernel
theorem fd_15 : parseFieldDescriptor (fdn 15).2.2.1 = some .int := by decide +kernel
theorem fd_16 : parseFieldDescriptor (fdn 16).2.2.1 = some (.array (.object "TollRoad$Road")) := by decide +kernel
theorem fd_17 : parseFieldDescriptor (fdn 17).2.2.1 = some .int := by decide +kernel
theorem fd_18 : parseFieldDescriptor (fdn 18).2.2.1 = some .int := by decide +kernel
theorem fd_19 : parseFieldDescriptor (fdn 19).2.2.1 = some (.array (.object "java/lang/Object")) := by decide +kernel
theorem fd_20 : parseFieldDescriptor (fdn 20).2.2.1 = some .int := by decide +kernel
theorem fd_21 : parseFieldDescriptor (fdn 21).2.2.1 = some (.array .byte) := by decide +kernel
theorem fd_22 : parseFieldDescriptor (fdn 22).2.2.1 = some .byte := by decide +kernel
theorem fd_24 : parseFieldDescriptor (fdn 24).2.2.1 = some .int := by decide +kernel
theorem fd_25 : parseFieldDescriptor (fdn 25).2.2.1 = some (.array .byte) := by decide +kernel
theorem fd_26 : parseFieldDescriptor (fdn 26).2.2.1 = some .byte := by decide +kernel
theorem fd_27 : parseFieldDescriptor (fdn 27).2.2.1 = some .int := by decide +kernel
theorem fd_28 : parseFieldDescriptor (fdn 28).2.2.1 = some .boolean := by decide +kernel
theorem fd_30 : parseFieldDescriptor (fdn 30).2.2.1 = some (.object "java/util/Collection") := by decide +kernel
theorem fd_31 : parseFieldDescriptor (fdn 31).2.2.1 = some (.array (.object "java/util/HashMap$Node")) := by decide +kernel
theorem fd_32 : parseFieldDescriptor (fdn 32).2.2.1 = some (.object "java/util/Set") := by decide +kernel
theorem fd_33 : parseFieldDescriptor (fdn 33).2.2.1 = some .int := by decide +kernel
theorem fd_34 : parseFieldDescriptor (fdn 34).2.2.1 = some .int := by decide +kernel
theorem fd_35 : parseFieldDescriptor (fdn 35).2.2.1 = some .int := by decide +kernel
theorem fd_36 : parseFieldDescriptor (fdn 36).2.2.1 = some .float := by decide +kernel
theorem fd_37 : parseFieldDescriptor (fdn 37).2.2.1 = some .int := by decide +kernel
theorem fd_38 : parseFieldDescriptor (fdn 38).2.2.1 = some .int := by decide +kernel
theorem fd_39 : parseFieldDescriptor (fdn 39).2.2.1 = some .int := by decide +kernel
theorem fd_40 : parseFieldDescriptor (fdn 40).2.2.1 = some (.object "java/util/ArrayList") := by decide +kernel
theorem fd_41 : parseFieldDescriptor (fdn 41).2.2.1 = some .int := by decide +kernel
theorem fd_42 : parseFieldDescriptor (fdn 42).2.2.1 = some .boolean := by decide +kernel
theorem fd_43 : parseFieldDescriptor (fdn 43).2.2.1 = some .int := by decide +kernel
theorem fd_44 : parseFieldDescriptor (fdn 44).2.2.1 = some (.object "TollRoad$World") := by decide +kernel
theorem fd_45 : parseFieldDescriptor (fdn 45).2.2.1 = some .int := by decide +kernel
theorem fd_46 : parseFieldDescriptor (fdn 46).2.2.1 = some .int := by decide +kernel
theorem fd_47 : parseFieldDescriptor (fdn 47).2.2.1 = some .boolean := by decide +kernel
theorem fd_48 : parseFieldDescriptor (fdn 48).2.2.1 = some .boolean := by decide +kernel
theorem fd_49 : parseFieldDescriptor (fdn 49).2.2.1 = some .int := by decide +kernel
theorem fd_50 : parseFieldDescriptor (fdn 50).2.2.1 = some .int := by decide +kernel
theorem fd_51 : parseFieldDescriptor (fdn 51).2.2.1 = some (.object "TollRoad") := by decide +kernel
theorem fd_52 : parseFieldDescriptor (fdn 52).2.2.1 = some (.object "java/lang/Throwable") := by decide +kernel
theorem fd_53 : parseFieldDescriptor (fdn 53).2.2.1 = some (.array (.object "java/lang/StackTraceElement")) := by decide +kernel
theorem fd_54 : parseFieldDescriptor (fdn 54).2.2.1 = some (.object "java/util/List") := by decide +kernel
theorem fd_55 : parseFieldDescriptor (fdn 55).2.2.1 = some (.object "java/lang/String") := by decide +kernel
theorem fd_58 : parseFieldDescriptor (fdn 58).2.2.1 = some .int := by decide +kernel
theorem fd_59 : parseFieldDescriptor (fdn 59).2.2.1 = some .int := by decide +kernel
theorem fd_60 : parseFieldDescriptor (fdn 60).2.2.1 = some .int := by decide +kernel
theorem fd_61 : parseFieldDescriptor (fdn 61).2.2.1 = some .int := by decide +kernel
theorem fd_62 : parseFieldDescriptor (fdn 62).2.2.1 = some .int := by decide +kernel
theorem fd_63 : parseFieldDescriptor (fdn 63).2.2.1 = some .int := by decide +kernel
theorem fd_64 : parseFieldDescriptor (fdn 64).2.2.1 = some .int := by decide +kernel
theorem fd_65 : parseFieldDescriptor (fdn 65).2.2.1 = some .int := by decide +kernel
theorem fd_66 : parseFieldDescriptor (fdn 66).2.2.1 = some .int := by decide +kernel
theorem fd_67 : parseFieldDescriptor (fdn 67).2.2.1 = some .int := by decide +kernel
theorem fd_68 : parseFieldDescriptor (fdn 68).2.2.1 = some .int := by decide +kernel
theorem fd_69 : parseFieldDescriptor (fdn 69).2.2.1 = some .int := by decide +kernel
theorem fd_70 : parseFieldDescriptor (fdn 70).2.2.1 = some .int := by decide +kernel
theorem fd_71 : parseFieldDescriptor (fdn 71).2.2.1 = some .int := by decide +kernel
theorem fd_72 : parseFieldDescriptor (fdn 72).2.2.1 = some .int := by decide +kernel
theorem fd_73 : parseFieldDescriptor (fdn 73).2.2.1 = some .int := by decide +kernel
theorem fd_74 : parseFieldDescriptor (fdn 74).2.2.1 = some .int := by decide +kernel
theorem fd_75 : parseFieldDescriptor (fdn 75).2.2.1 = some .int := by decide +kernel
theorem fd_76 : parseFieldDescriptor (fdn 76).2.2.1 = some .int := by decide +kernel
theorem fd_77 : parseFieldDescriptor (fdn 77).2.2.1 = some (.object "TollRoad$Network") := by decide +kernel
theorem fd_78 : parseFieldDescriptor (fdn 78).2.2.1 = some .int := by decide +kernel
theorem fd_79 : parseFieldDescriptor (fdn 79).2.2.1 = some (.array .int) := by decide +kernel
theorem fd_80 : parseFieldDescriptor (fdn 80).2.2.1 = some (.array .int) := by decide +kernel
theorem fd_81 : parseFieldDescriptor (fdn 81).2.2.1 = some .int := by decide +kernel
theorem fd_82 : parseFieldDescriptor (fdn 82).2.2.1 = some .int := by decide +kernel
theorem fd_83 : parseFieldDescriptor (fdn 83).2.2.1 = some .int := by decide +kernel
theorem fd_84 : parseFieldDescriptor (fdn 84).2.2.1 = some .int := by decide +kernel
theorem fd_85 : parseFieldDescriptor (fdn 85).2.2.1 = some .int := by decide +kernel
theorem fd_86 : parseFieldDescriptor (fdn 86).2.2.1 = some .int := by decide +kernel
theorem fd_87 : parseFieldDescriptor (fdn 87).2.2.1 = some .int := by decide +kernel
theorem fd_88 : parseFieldDescriptor (fdn 88).2.2.1 = some .int := by decide +kernel
theorem fd_89 : parseFieldDescriptor (fdn 89).2.2.1 = some .int := by decide +kernel
theorem fd_90 : parseFieldDescriptor (fdn 90).2.2.1 = some .int := by decide +kernel
theorem fd_91 : parseFieldDescriptor (fdn 91).2.2.1 = some .int := by decide +kernel
theorem fd_92 : parseFieldDescriptor (fdn 92).2.2.1 = some .boolean := by decide +kernel
theorem fd_93 : parseFieldDescriptor (fdn 93).2.2.1 = some .int := by decide +kernel
theorem fd_94 : parseFieldDescriptor (fdn 94).2.2.1 = some .int := by decide +kernel
theorem fd_95 : parseFieldDescriptor (fdn 95).2.2.1 = some .int := by decide +kernel
theorem fd_96 : parseFieldDescriptor (fdn 96).2.2.1 = some .int := by decide +kernel
theorem fd_97 : parseFieldDescriptor (fdn 97).2.2.1 = some (.array (.object "java/lang/Object")) := by decide +kernel
theorem fd_98 : parseFieldDescriptor (fdn 98).2.2.1 = some .int := by decide +kernel
theorem fd_99 : parseFieldDescriptor (fdn 99).2.2.1 = some (.object "java/util/Comparator") := by decide +kernel
theorem fd_100 : parseFieldDescriptor (fdn 100).2.2.1 = some .int := by decide +kernel
theorem fd_101 : parseFieldDescriptor (fdn 101).2.2.1 = some (.object "TollRoad$World") := by decide +kernel
theorem fd_102 : parseFieldDescriptor (fdn 102).2.2.1 = some (.object "java/util/Comparator") := by decide +kernel
theorem fd_103 : parseFieldDescriptor (fdn 103).2.2.1 = some (.object "java/util/TreeMap$Entry") := by decide +kernel
theorem fd_104 : parseFieldDescriptor (fdn 104).2.2.1 = some .int := by decide +kernel
theorem fd_105 : parseFieldDescriptor (fdn 105).2.2.1 = some .int := by decide +kernel
theorem fd_109 : parseFieldDescriptor (fdn 109).2.2.1 = some .int := by decide +kernel
theorem fd_110 : parseFieldDescriptor (fdn 110).2.2.1 = some (.object "java/lang/Object") := by decide +kernel
theorem fd_111 : parseFieldDescriptor (fdn 111).2.2.1 = some (.object "java/lang/Object") := by decide +kernel
theorem fd_112 : parseFieldDescriptor (fdn 112).2.2.1 = some (.object "java/util/TreeMap$Entry") := by decide +kernel
theorem fd_113 : parseFieldDescriptor (fdn 113).2.2.1 = some (.object "java/util/TreeMap$Entry") := by decide +kernel
theorem fd_114 : parseFieldDescriptor (fdn 114).2.2.1 = some (.object "java/util/TreeMap$Entry") := by decide +kernel
theorem fd_115 : parseFieldDescriptor (fdn 115).2.2.1 = some .boolean := by decide +kernel
theorem fd_116 : parseFieldDescriptor (fdn 116).2.2.1 = some (.object "java/util/TreeMap") := by decide +kernel
theorem fd_117 : parseFieldDescriptor (fdn 117).2.2.1 = some (.object "java/util/HashMap$Node") := by decide +kernel
theorem fd_118 : parseFieldDescriptor (fdn 118).2.2.1 = some (.object "java/util/HashMap$Node") := by decide +kernel
theorem fd_119 : parseFieldDescriptor (fdn 119).2.2.1 = some .int := by decide +kernel
theorem fd_120 : parseFieldDescriptor (fdn 120).2.2.1 = some .int := by decide +kernel
theorem fd_121 : parseFieldDescriptor (fdn 121).2.2.1 = some (.object "java/util/HashMap") := by decide +kernel
theorem fd_122 : parseFieldDescriptor (fdn 122).2.2.1 = some (.object "java/util/TreeMap$Entry") := by decide +kernel
theorem fd_123 : parseFieldDescriptor (fdn 123).2.2.1 = some (.object "java/util/TreeMap$Entry") := by decide +kernel
theorem fd_124 : parseFieldDescriptor (fdn 124).2.2.1 = some .int := by decide +kernel
theorem fd_125 : parseFieldDescriptor (fdn 125).2.2.1 = some (.object "java/util/TreeMap") := by decide +kernel
theorem fd_126 : parseFieldDescriptor (fdn 126).2.2.1 = some .int := by decide +kernel
theorem fd_127 : parseFieldDescriptor (fdn 127).2.2.1 = some (.object "java/util/ArrayList") := by decide +kernel
theorem fd_128 : parseFieldDescriptor (fdn 128).2.2.1 = some (.object "java/util/ArrayList") := by decide +kernel
theorem fd_129 : parseFieldDescriptor (fdn 129).2.2.1 = some (.object "TollRoad$Read") := by decide +kernel
theorem fd_130 : parseFieldDescriptor (fdn 130).2.2.1 = some .int := by decide +kernel
theorem fd_131 : parseFieldDescriptor (fdn 131).2.2.1 = some .int := by decide +kernel
theorem fd_132 : parseFieldDescriptor (fdn 132).2.2.1 = some .int := by decide +kernel
theorem fd_133 : parseFieldDescriptor (fdn 133).2.2.1 = some .int := by decide +kernel
theorem fd_134 : parseFieldDescriptor (fdn 134).2.2.1 = some .int := by decide +kernel
theorem fd_135 : parseFieldDescriptor (fdn 135).2.2.1 = some .int := by decide +kernel
theorem fd_136 : parseFieldDescriptor (fdn 136).2.2.1 = some .int := by decide +kernel
theorem fd_137 : parseFieldDescriptor (fdn 137).2.2.1 = some .int := by decide +kernel
theorem fd_138 : parseFieldDescriptor (fdn 138).2.2.1 = some .int := by decide +kernel
theorem fd_139 : parseFieldDescriptor (fdn 139).2.2.1 = some .int := by decide +kernel
theorem fd_140 : parseFieldDescriptor (fdn 140).2.2.1 = some (.object "TollRoad$Trip") := by decide +kernel
theorem fd_141 : parseFieldDescriptor (fdn 141).2.2.1 = some .int := by decide +kernel
theorem fd_142 : parseFieldDescriptor (fdn 142).2.2.1 = some .int := by decide +kernel
theorem fd_143 : parseFieldDescriptor (fdn 143).2.2.1 = some .int := by decide +kernel
theorem fd_144 : parseFieldDescriptor (fdn 144).2.2.1 = some (.object "java/lang/Object") := by decide +kernel
theorem fd_145 : parseFieldDescriptor (fdn 145).2.2.1 = some (.object "java/lang/Object") := by decide +kernel
theorem fd_146 : parseFieldDescriptor (fdn 146).2.2.1 = some (.object "java/util/HashMap$Node") := by decide +kernel
theorem fd_147 : parseFieldDescriptor (fdn 147).2.2.1 = some (.object "java/util/HashMap") := by decide +kernel
theorem fd_148 : parseFieldDescriptor (fdn 148).2.2.1 = some (.array .int) := by decide +kernel
theorem fd_149 : parseFieldDescriptor (fdn 149).2.2.1 = some (.array .int) := by decide +kernel
theorem fd_150 : parseFieldDescriptor (fdn 150).2.2.1 = some (.array .int) := by decide +kernel
theorem fd_151 : parseFieldDescriptor (fdn 151).2.2.1 = some (.array .boolean) := by decide +kernel
theorem fd_152 : parseFieldDescriptor (fdn 152).2.2.1 = some (.array .int) := by decide +kernel
theorem fd_153 : parseFieldDescriptor (fdn 153).2.2.1 = some (.array .int) := by decide +kernel
theorem fd_154 : parseFieldDescriptor (fdn 154).2.2.1 = some (.array .int) := by decide +kernel
theorem fd_155 : parseFieldDescriptor (fdn 155).2.2.1 = some .int := by decide +kernel
theorem fd_156 : parseFieldDescriptor (fdn 156).2.2.1 = some (.array .int) := by decide +kernel
theorem fd_157 : parseFieldDescriptor (fdn 157).2.2.1 = some .int := by decide +kernel
theorem fd_158 : parseFieldDescriptor (fdn 158).2.2.1 = some .int := by decide +kernel
theorem fd_159 : parseFieldDescriptor (fdn 159).2.2.1 = some .int := by decide +kernel
theorem fd_160 : parseFieldDescriptor (fdn 160).2.2.1 = some .int := by decide +kernel
theorem fd_161 : parseFieldDescriptor (fdn 161).2.2.1 = some .int := by decide +kernel
theorem fd_162 : parseFieldDescriptor (fdn 162).2.2.1 = some .int := by decide +kernel
theorem fd_163 : parseFieldDescriptor (fdn 163).2.2.1 = some .int := by decide +kernel
theorem fd_164 : parseFieldDescriptor (fdn 164).2.2.1 = some .int := by decide +kernel
theorem fd_165 : parseFieldDescriptor (fdn 165).2.2.1 = some .long := by decide +kernel
theorem fd_166 : parseFieldDescriptor (fdn 166).2.2.1 = some (.array .int) := by decide +kernel
theorem fd_167 : parseFieldDescriptor (fdn 167).2.2.1 = some (.array .int) := by decide +kernel
theorem fd_168 : parseFieldDescriptor (fdn 168).2.2.1 = some (.array .int) := by decide +kernel
theorem fd_169 : parseFieldDescriptor (fdn 169).2.2.1 = some (.array .int) := by decide +kernel
theorem fd_170 : parseFieldDescriptor (fdn 170).2.2.1 = some (.array .int) := by decide +kernel
theorem fd_171 : parseFieldDescriptor (fdn 171).2.2.1 = some (.array .int) := by decide +kernel
theorem fd_172 : parseFieldDescriptor (fdn 172).2.2.1 = some .int := by decide +kernel
theorem fd_173 : parseFieldDescriptor (fdn 173).2.2.1 = some .int := by decide +kernel
theorem fd_174 : parseFieldDescriptor (fdn 174).2.2.1 = some .int := by decide +kernel
theorem fd_175 : parseFieldDescriptor (fdn 175).2.2.1 = some .int := by decide +kernel
theorem fd_176 : parseFieldDescriptor (fdn 176).2.2.1 = some .int := by decide +kernel
theorem fd_177 : parseFieldDescriptor (fdn 177).2.2.1 = some (.array .int) := by decide +kernel
theorem fd_178 : parseFieldDescriptor (fdn 178).2.2.1 = some (.array .int) := by decide +kernel
theorem fd_179 : parseFieldDescriptor (fdn 179).2.2.1 = some (.array .int) := by decide +kernel
theorem fd_180 : parseFieldDescriptor (fdn 180).2.2.1 = some (.array .int) := by decide +kernel
theorem fd_181 : parseFieldDescriptor (fdn 181).2.2.1 = some (.array .int) := by decide +kernel
theorem fd_182 : parseFieldDescriptor (fdn 182).2.2.1 = some (.array .int) := by decide +kernel
theorem fd_183 : parseFieldDescriptor (fdn 183).2.2.1 = some (.array .boolean) := by decide +kernel
theorem fd_184 : parseFieldDescriptor (fdn 184).2.2.1 = some .int := by decide +kernel
theorem fd_185 : parseFieldDescriptor (fdn 185).2.2.1 = some .int := by decide +kernel
theorem fd_186 : parseFieldDescriptor (fdn 186).2.2.1 = some .int := by decide +kernel
theorem pd_0 : (parseMethodDescriptor "()V").map (fun d => d.parameters.length) = some 0 := by decide +kernel
theorem pd_1 : (parseMethodDescriptor "(II)I").map (fun d => d.parameters.length) = some 2 := by decide +kernel
theorem pd_2 : (parseMethodDescriptor "(I[BII)I").map (fun d => d.parameters.length) = some 4 := by decide +kernel
theorem pd_3 : (parseMethodDescriptor "()Ljava/lang/String;").map (fun d => d.parameters.length) = some 0 := by decide +kernel
theorem pd_4 : (parseMethodDescriptor "([BII)[B").map (fun d => d.parameters.length) = some 3 := by decide +kernel
theorem pd_5 : (parseMethodDescriptor "(II)V").map (fun d => d.parameters.length) = some 2 := by decide +kernel
theorem pd_6 : (parseMethodDescriptor "([Ljava/lang/Object;ILjava/lang/Class;)[Ljava/lang/Object;").map (fun d => d.parameters.length) = some 3 := by decide +kernel
theorem pd_7 : (parseMethodDescriptor "(Ljava/lang/Object;IIII)I").map (fun d => d.parameters.length) = some 5 := by decide +kernel
theorem pd_8 : (parseMethodDescriptor "(Ljava/lang/Integer;)I").map (fun d => d.parameters.length) = some 1 := by decide +kernel
theorem pd_9 : (parseMethodDescriptor "(I)V").map (fun d => d.parameters.length) = some 1 := by decide +kernel
theorem pd_10 : (parseMethodDescriptor "(Ljava/lang/Object;)Ljava/util/HashMap$Node;").map (fun d => d.parameters.length) = some 1 := by decide +kernel
theorem pd_11 : (parseMethodDescriptor "(Ljava/lang/Object;)I").map (fun d => d.parameters.length) = some 1 := by decide +kernel
theorem pd_12 : (parseMethodDescriptor "(Ljava/lang/Object;)Z").map (fun d => d.parameters.length) = some 1 := by decide +kernel
theorem pd_13 : (parseMethodDescriptor "()I").map (fun d => d.parameters.length) = some 0 := by decide +kernel
theorem pd_14 : (parseMethodDescriptor "(ILjava/lang/Object;Ljava/lang/Object;ZZ)Ljava/lang/Object;").map (fun d => d.parameters.length) = some 5 := by decide +kernel
theorem pd_15 : (parseMethodDescriptor "()[Ljava/util/HashMap$Node;").map (fun d => d.parameters.length) = some 0 := by decide +kernel
theorem pd_16 : (parseMethodDescriptor "(ILjava/lang/Object;Ljava/lang/Object;Ljava/util/HashMap$Node;)Ljava/util/HashMap$Node;").map (fun d => d.parameters.length) = some 4 := by decide +kernel
theorem pd_17 : (parseMethodDescriptor "(Ljava/util/HashMap$Node;)V").map (fun d => d.parameters.length) = some 1 := by decide +kernel
theorem pd_18 : (parseMethodDescriptor "(Z)V").map (fun d => d.parameters.length) = some 1 := by decide +kernel
theorem pd_19 : (parseMethodDescriptor "(ILjava/lang/Object;Ljava/lang/Object;Ljava/util/HashMap$Node;)V").map (fun d => d.parameters.length) = some 4 := by decide +kernel
theorem pd_20 : (parseMethodDescriptor "(Ljava/util/HashMap;)V").map (fun d => d.parameters.length) = some 1 := by decide +kernel
theorem pd_21 : (parseMethodDescriptor "(Ljava/util/ArrayList;)V").map (fun d => d.parameters.length) = some 1 := by decide +kernel
theorem pd_22 : (parseMethodDescriptor "(Ljava/lang/Object;[Ljava/lang/Object;I)V").map (fun d => d.parameters.length) = some 3 := by decide +kernel
theorem pd_23 : (parseMethodDescriptor "()[Ljava/lang/Object;").map (fun d => d.parameters.length) = some 0 := by decide +kernel
theorem pd_24 : (parseMethodDescriptor "(I)[Ljava/lang/Object;").map (fun d => d.parameters.length) = some 1 := by decide +kernel
theorem pd_25 : (parseMethodDescriptor "(III)I").map (fun d => d.parameters.length) = some 3 := by decide +kernel
theorem pd_26 : (parseMethodDescriptor "([Ljava/lang/Object;I)[Ljava/lang/Object;").map (fun d => d.parameters.length) = some 2 := by decide +kernel
theorem pd_27 : (parseMethodDescriptor "(I)Ljava/lang/Object;").map (fun d => d.parameters.length) = some 1 := by decide +kernel
theorem pd_28 : (parseMethodDescriptor "(Ljava/lang/Object;Ljava/lang/Object;Z)Ljava/lang/Object;").map (fun d => d.parameters.length) = some 3 := by decide +kernel
theorem pd_29 : (parseMethodDescriptor "(Ljava/lang/Object;Ljava/lang/Object;)V").map (fun d => d.parameters.length) = some 2 := by decide +kernel
theorem pd_30 : (parseMethodDescriptor "(Ljava/lang/Object;Ljava/lang/Object;)I").map (fun d => d.parameters.length) = some 2 := by decide +kernel
theorem pd_31 : (parseMethodDescriptor "(Ljava/lang/Object;)Ljava/lang/Object;").map (fun d => d.parameters.length) = some 1 := by decide +kernel
theorem pd_32 : (parseMethodDescriptor "(Ljava/lang/Object;Ljava/lang/Object;Ljava/util/TreeMap$Entry;Z)V").map (fun d => d.parameters.length) = some 4 := by decide +kernel
theorem pd_33 : (parseMethodDescriptor "(Ljava/lang/Object;Ljava/lang/Object;Ljava/util/TreeMap$Entry;)V").map (fun d => d.parameters.length) = some 3 := by decide +kernel
theorem pd_34 : (parseMethodDescriptor "(Ljava/util/TreeMap$Entry;)V").map (fun d => d.parameters.length) = some 1 := by decide +kernel
theorem pd_35 : (parseMethodDescriptor "(Ljava/util/TreeMap$Entry;)Ljava/util/TreeMap$Entry;").map (fun d => d.parameters.length) = some 1 := by decide +kernel
theorem pd_36 : (parseMethodDescriptor "(Ljava/util/TreeMap$Entry;)Z").map (fun d => d.parameters.length) = some 1 := by decide +kernel
theorem pd_37 : (parseMethodDescriptor "(Ljava/util/TreeMap$Entry;Z)V").map (fun d => d.parameters.length) = some 2 := by decide +kernel
theorem pd_38 : (parseMethodDescriptor "(Ljava/util/TreeMap;)V").map (fun d => d.parameters.length) = some 1 := by decide +kernel
theorem pd_39 : (parseMethodDescriptor "(IILjava/util/function/BiFunction;)I").map (fun d => d.parameters.length) = some 3 := by decide +kernel
theorem pd_40 : (parseMethodDescriptor "(ILjava/lang/Object;)V").map (fun d => d.parameters.length) = some 2 := by decide +kernel
theorem pd_41 : (parseMethodDescriptor "(ILjava/lang/Object;[Ljava/lang/Object;Ljava/util/Comparator;)V").map (fun d => d.parameters.length) = some 4 := by decide +kernel
theorem pd_42 : (parseMethodDescriptor "(ILjava/lang/Object;[Ljava/lang/Object;ILjava/util/Comparator;)V").map (fun d => d.parameters.length) = some 5 := by decide +kernel
theorem pd_43 : (parseMethodDescriptor "()Ljava/util/TreeMap$Entry;").map (fun d => d.parameters.length) = some 0 := by decide +kernel
theorem pd_44 : (parseMethodDescriptor "(Ljava/util/TreeMap;Ljava/util/TreeMap$Entry;)V").map (fun d => d.parameters.length) = some 2 := by decide +kernel
theorem pd_45 : (parseMethodDescriptor "()Ljava/util/Map$Entry;").map (fun d => d.parameters.length) = some 0 := by decide +kernel
theorem pd_46 : (parseMethodDescriptor "()Ljava/util/HashMap$Node;").map (fun d => d.parameters.length) = some 0 := by decide +kernel
theorem pd_47 : (parseMethodDescriptor "(Ljava/lang/String;Ljava/lang/Throwable;ZZ)V").map (fun d => d.parameters.length) = some 4 := by decide +kernel
theorem pd_48 : (parseMethodDescriptor "(I)I").map (fun d => d.parameters.length) = some 1 := by decide +kernel
theorem pd_49 : (parseMethodDescriptor "([BI)[B").map (fun d => d.parameters.length) = some 2 := by decide +kernel
theorem pd_50 : (parseMethodDescriptor "()Z").map (fun d => d.parameters.length) = some 0 := by decide +kernel
theorem pd_51 : (parseMethodDescriptor "(C)Z").map (fun d => d.parameters.length) = some 1 := by decide +kernel
theorem pd_52 : (parseMethodDescriptor "(Ljava/lang/StringBuilder;)V").map (fun d => d.parameters.length) = some 1 := by decide +kernel
theorem pd_53 : (parseMethodDescriptor "(C)Ljava/lang/AbstractStringBuilder;").map (fun d => d.parameters.length) = some 1 := by decide +kernel
theorem pd_54 : (parseMethodDescriptor "()B").map (fun d => d.parameters.length) = some 0 := by decide +kernel
theorem pd_55 : (parseMethodDescriptor "(Ljava/lang/AbstractStringBuilder;Ljava/lang/Void;)V").map (fun d => d.parameters.length) = some 2 := by decide +kernel
theorem pd_56 : (parseMethodDescriptor "()[B").map (fun d => d.parameters.length) = some 0 := by decide +kernel
theorem pd_57 : (parseMethodDescriptor "([B)I").map (fun d => d.parameters.length) = some 1 := by decide +kernel
theorem pd_58 : (parseMethodDescriptor "([B[B)Z").map (fun d => d.parameters.length) = some 2 := by decide +kernel
theorem pd_59 : (parseMethodDescriptor "([BI)C").map (fun d => d.parameters.length) = some 2 := by decide +kernel
theorem pd_60 : (parseMethodDescriptor "(LTollRoad;I[J)I").map (fun d => d.parameters.length) = some 3 := by decide +kernel
theorem pd_61 : (parseMethodDescriptor "(LTollRoad;IIII[J)I").map (fun d => d.parameters.length) = some 6 := by decide +kernel
theorem pd_62 : (parseMethodDescriptor "(IIII)I").map (fun d => d.parameters.length) = some 4 := by decide +kernel
theorem pd_63 : (parseMethodDescriptor "(LTollRoad;III[J)I").map (fun d => d.parameters.length) = some 5 := by decide +kernel
theorem pd_64 : (parseMethodDescriptor "(LTollRoad;II[J)I").map (fun d => d.parameters.length) = some 4 := by decide +kernel
theorem pd_65 : (parseMethodDescriptor "()J").map (fun d => d.parameters.length) = some 0 := by decide +kernel
theorem pd_66 : (parseMethodDescriptor "(LTollRoad;I[D)I").map (fun d => d.parameters.length) = some 3 := by decide +kernel
theorem pd_67 : (parseMethodDescriptor "(I)F").map (fun d => d.parameters.length) = some 1 := by decide +kernel
theorem pd_68 : (parseMethodDescriptor "()D").map (fun d => d.parameters.length) = some 0 := by decide +kernel
theorem pd_69 : (parseMethodDescriptor "(LTollRoad;I)I").map (fun d => d.parameters.length) = some 2 := by decide +kernel
theorem pd_70 : (parseMethodDescriptor "()Ljava/util/Iterator;").map (fun d => d.parameters.length) = some 0 := by decide +kernel
theorem pd_71 : (parseMethodDescriptor "()Ljava/lang/Object;").map (fun d => d.parameters.length) = some 0 := by decide +kernel
theorem pd_72 : (parseMethodDescriptor "(IZ)I").map (fun d => d.parameters.length) = some 2 := by decide +kernel
theorem pd_73 : (parseMethodDescriptor "(LTollRoad;I)V").map (fun d => d.parameters.length) = some 2 := by decide +kernel
theorem pd_74 : (parseMethodDescriptor "(JJJ)Z").map (fun d => d.parameters.length) = some 3 := by decide +kernel
theorem pd_75 : (parseMethodDescriptor "(II)LTollRoad$Road;").map (fun d => d.parameters.length) = some 2 := by decide +kernel
theorem pd_76 : (parseMethodDescriptor "(I)LTollRoad$Bounds;").map (fun d => d.parameters.length) = some 1 := by decide +kernel
theorem pd_77 : (parseMethodDescriptor "(I)Z").map (fun d => d.parameters.length) = some 1 := by decide +kernel
theorem pd_78 : (parseMethodDescriptor "(Z)I").map (fun d => d.parameters.length) = some 1 := by decide +kernel
theorem pd_79 : (parseMethodDescriptor "(I)LTollRoad$Account;").map (fun d => d.parameters.length) = some 1 := by decide +kernel
theorem pd_80 : (parseMethodDescriptor "(I)LTollRoad$Vehicle;").map (fun d => d.parameters.length) = some 1 := by decide +kernel
theorem pd_81 : (parseMethodDescriptor "(III)LTollRoad$Route;").map (fun d => d.parameters.length) = some 3 := by decide +kernel
theorem pd_82 : (parseMethodDescriptor "(LTollRoad$Network;[IIII)V").map (fun d => d.parameters.length) = some 5 := by decide +kernel
theorem pd_83 : (parseMethodDescriptor "()LTollRoad$Search;").map (fun d => d.parameters.length) = some 0 := by decide +kernel
theorem pd_84 : (parseMethodDescriptor "(IIIZ)V").map (fun d => d.parameters.length) = some 4 := by decide +kernel
theorem pd_85 : (parseMethodDescriptor "(LTollRoad$Read;II)I").map (fun d => d.parameters.length) = some 3 := by decide +kernel
theorem pd_86 : (parseMethodDescriptor "(I)LTollRoad$Read;").map (fun d => d.parameters.length) = some 1 := by decide +kernel
theorem pd_87 : (parseMethodDescriptor "()Ljava/util/PriorityQueue;").map (fun d => d.parameters.length) = some 0 := by decide +kernel
theorem pd_88 : (parseMethodDescriptor "(LTollRoad$World;)V").map (fun d => d.parameters.length) = some 1 := by decide +kernel
theorem pd_89 : (parseMethodDescriptor "(ILjava/util/Comparator;)V").map (fun d => d.parameters.length) = some 2 := by decide +kernel
theorem pd_90 : (parseMethodDescriptor "(LTollRoad$Read;I)V").map (fun d => d.parameters.length) = some 2 := by decide +kernel
theorem pd_91 : (parseMethodDescriptor "(I)Ljava/util/ArrayList;").map (fun d => d.parameters.length) = some 1 := by decide +kernel
theorem pd_92 : (parseMethodDescriptor "(II)LTollRoad$Trip;").map (fun d => d.parameters.length) = some 2 := by decide +kernel
theorem pd_93 : (parseMethodDescriptor "(I)LTollRoad$Bill;").map (fun d => d.parameters.length) = some 1 := by decide +kernel
theorem pd_94 : (parseMethodDescriptor "(LTollRoad$Bill;I)I").map (fun d => d.parameters.length) = some 2 := by decide +kernel
theorem pd_95 : (parseMethodDescriptor "()LTollRoad$World;").map (fun d => d.parameters.length) = some 0 := by decide +kernel
theorem pd_96 : (parseMethodDescriptor "(IIIII)V").map (fun d => d.parameters.length) = some 5 := by decide +kernel
theorem pd_97 : (parseMethodDescriptor "(IIII)Z").map (fun d => d.parameters.length) = some 4 := by decide +kernel
theorem pd_98 : (parseMethodDescriptor "(LTollRoad$Network;II)V").map (fun d => d.parameters.length) = some 3 := by decide +kernel
theorem pd_99 : (parseMethodDescriptor "(LTollRoad$Read;LTollRoad$Read;)I").map (fun d => d.parameters.length) = some 2 := by decide +kernel
theorem pd_100 : (parseMethodDescriptor "(LTollRoad$Read;)I").map (fun d => d.parameters.length) = some 1 := by decide +kernel
theorem pd_101 : (parseMethodDescriptor "(I)Ljava/lang/Integer;").map (fun d => d.parameters.length) = some 1 := by decide +kernel
theorem pd_102 : (parseMethodDescriptor "(LTollRoad$Priced;III)I").map (fun d => d.parameters.length) = some 4 := by decide +kernel
theorem pd_103 : (parseMethodDescriptor "(IILTollRoad$Trip;III)V").map (fun d => d.parameters.length) = some 6 := by decide +kernel
theorem pd_104 : (parseMethodDescriptor "(IZ)V").map (fun d => d.parameters.length) = some 2 := by decide +kernel
theorem pd_105 : (parseMethodDescriptor "(III)V").map (fun d => d.parameters.length) = some 3 := by decide +kernel
theorem pd_106 : (parseMethodDescriptor "(Ljava/lang/Object;Ljava/lang/Object;)Ljava/lang/Object;").map (fun d => d.parameters.length) = some 2 := by decide +kernel
theorem pd_107 : (parseMethodDescriptor "()Ljava/util/Collection;").map (fun d => d.parameters.length) = some 0 := by decide +kernel
theorem pd_108 : (parseMethodDescriptor "(LTollRoad$Read;LTollRoad$Network;[I)Z").map (fun d => d.parameters.length) = some 3 := by decide +kernel
theorem pd_109 : (parseMethodDescriptor "(LTollRoad$Trip;I)Z").map (fun d => d.parameters.length) = some 2 := by decide +kernel
theorem pd_110 : (parseMethodDescriptor "(ILTollRoad$Trip;I)LTollRoad$Bill;").map (fun d => d.parameters.length) = some 3 := by decide +kernel
theorem pd_111 : (parseMethodDescriptor "(LTollRoad$Bill;)V").map (fun d => d.parameters.length) = some 1 := by decide +kernel
theorem pd_112 : (parseMethodDescriptor "(LTollRoad$Account;I)I").map (fun d => d.parameters.length) = some 2 := by decide +kernel
theorem pd_113 : (parseMethodDescriptor "()[Z").map (fun d => d.parameters.length) = some 0 := by decide +kernel
theorem pd_114 : (parseMethodDescriptor "(LTollRoad$Bill;)I").map (fun d => d.parameters.length) = some 1 := by decide +kernel
theorem pd_115 : (parseMethodDescriptor "()LTollRoad$Network;").map (fun d => d.parameters.length) = some 0 := by decide +kernel
theorem pd_116 : (parseMethodDescriptor "()LTollRoad$Account;").map (fun d => d.parameters.length) = some 0 := by decide +kernel
theorem pd_117 : (parseMethodDescriptor "()LTollRoad$Vehicle;").map (fun d => d.parameters.length) = some 0 := by decide +kernel
theorem pd_118 : (parseMethodDescriptor "()LTollRoad$Read;").map (fun d => d.parameters.length) = some 0 := by decide +kernel
theorem pd_119 : (parseMethodDescriptor "()LTollRoad$Bill;").map (fun d => d.parameters.length) = some 0 := by decide +kernel
theorem pd_120 : (parseMethodDescriptor "()Ljava/util/Set;").map (fun d => d.parameters.length) = some 0 := by decide +kernel
theorem pd_121 : (parseMethodDescriptor "(III)Z").map (fun d => d.parameters.length) = some 3 := by decide +kernel
theorem pd_122 : (parseMethodDescriptor "([II[II)V").map (fun d => d.parameters.length) = some 4 := by decide +kernel
theorem pd_123 : (parseMethodDescriptor "(Ljava/lang/String;)Z").map (fun d => d.parameters.length) = some 1 := by decide +kernel
theorem pd_124 : (parseMethodDescriptor "(ZI)V").map (fun d => d.parameters.length) = some 2 := by decide +kernel
theorem pd_125 : (parseMethodDescriptor "(I)C").map (fun d => d.parameters.length) = some 1 := by decide +kernel
theorem pd_126 : (parseMethodDescriptor "(II)Z").map (fun d => d.parameters.length) = some 2 := by decide +kernel
theorem pd_127 : (parseMethodDescriptor "(IIIII)I").map (fun d => d.parameters.length) = some 5 := by decide +kernel
theorem pd_128 : (parseMethodDescriptor "(Z)J").map (fun d => d.parameters.length) = some 1 := by decide +kernel
theorem pd_129 : (parseMethodDescriptor "(C)Ljava/lang/StringBuilder;").map (fun d => d.parameters.length) = some 1 := by decide +kernel
theorem pd_130 : (parseMethodDescriptor "(Ljava/lang/CharSequence;)I").map (fun d => d.parameters.length) = some 1 := by decide +kernel
theorem cn_0 : "java/util/AbstractCollection" ≠ "java/lang/invoke/MethodHandle" ∧ "java/util/AbstractCollection" ≠ "java/lang/invoke/VarHandle" := by decide +kernel
theorem cn_1 : "java/lang/Math" ≠ "java/lang/invoke/MethodHandle" ∧ "java/lang/Math" ≠ "java/lang/invoke/VarHandle" := by decide +kernel
theorem cn_2 : "jdk/internal/util/ArraysSupport" ≠ "java/lang/invoke/MethodHandle" ∧ "jdk/internal/util/ArraysSupport" ≠ "java/lang/invoke/VarHandle" := by decide +kernel
theorem cn_3 : "java/lang/StringBuilder" ≠ "java/lang/invoke/MethodHandle" ∧ "java/lang/StringBuilder" ≠ "java/lang/invoke/VarHandle" := by decide +kernel
theorem cn_4 : "java/util/Arrays" ≠ "java/lang/invoke/MethodHandle" ∧ "java/util/Arrays" ≠ "java/lang/invoke/VarHandle" := by decide +kernel
theorem cn_5 : "java/lang/String" ≠ "java/lang/invoke/MethodHandle" ∧ "java/lang/String" ≠ "java/lang/invoke/VarHandle" := by decide +kernel
theorem cn_6 : "java/lang/Integer" ≠ "java/lang/invoke/MethodHandle" ∧ "java/lang/Integer" ≠ "java/lang/invoke/VarHandle" := by decide +kernel
theorem cn_7 : "java/lang/Number" ≠ "java/lang/invoke/MethodHandle" ∧ "java/lang/Number" ≠ "java/lang/invoke/VarHandle" := by decide +kernel
theorem cn_8 : "java/util/AbstractMap" ≠ "java/lang/invoke/MethodHandle" ∧ "java/util/AbstractMap" ≠ "java/lang/invoke/VarHandle" := by decide +kernel
theorem cn_9 : "java/util/HashMap" ≠ "java/lang/invoke/MethodHandle" ∧ "java/util/HashMap" ≠ "java/lang/invoke/VarHandle" := by decide +kernel
theorem cn_10 : "java/lang/Object" ≠ "java/lang/invoke/MethodHandle" ∧ "java/lang/Object" ≠ "java/lang/invoke/VarHandle" := by decide +kernel
theorem cn_11 : "java/util/HashMap$Node" ≠ "java/lang/invoke/MethodHandle" ∧ "java/util/HashMap$Node" ≠ "java/lang/invoke/VarHandle" := by decide +kernel
theorem cn_12 : "java/util/HashMap$EntrySet" ≠ "java/lang/invoke/MethodHandle" ∧ "java/util/HashMap$EntrySet" ≠ "java/lang/invoke/VarHandle" := by decide +kernel
theorem cn_13 : "java/util/AbstractList" ≠ "java/lang/invoke/MethodHandle" ∧ "java/util/AbstractList" ≠ "java/lang/invoke/VarHandle" := by decide +kernel
theorem cn_14 : "java/util/ArrayList$Itr" ≠ "java/lang/invoke/MethodHandle" ∧ "java/util/ArrayList$Itr" ≠ "java/lang/invoke/VarHandle" := by decide +kernel
theorem cn_15 : "java/util/ArrayList" ≠ "java/lang/invoke/MethodHandle" ∧ "java/util/ArrayList" ≠ "java/lang/invoke/VarHandle" := by decide +kernel
theorem cn_16 : "java/util/Objects" ≠ "java/lang/invoke/MethodHandle" ∧ "java/util/Objects" ≠ "java/lang/invoke/VarHandle" := by decide +kernel
theorem cn_17 : "java/util/TreeMap" ≠ "java/lang/invoke/MethodHandle" ∧ "java/util/TreeMap" ≠ "java/lang/invoke/VarHandle" := by decide +kernel
theorem cn_18 : "java/util/Comparator" ≠ "java/lang/invoke/MethodHandle" ∧ "java/util/Comparator" ≠ "java/lang/invoke/VarHandle" := by decide +kernel
theorem cn_19 : "java/lang/Comparable" ≠ "java/lang/invoke/MethodHandle" ∧ "java/lang/Comparable" ≠ "java/lang/invoke/VarHandle" := by decide +kernel
theorem cn_20 : "java/util/TreeMap$Entry" ≠ "java/lang/invoke/MethodHandle" ∧ "java/util/TreeMap$Entry" ≠ "java/lang/invoke/VarHandle" := by decide +kernel
theorem cn_21 : "java/util/TreeMap$Values" ≠ "java/lang/invoke/MethodHandle" ∧ "java/util/TreeMap$Values" ≠ "java/lang/invoke/VarHandle" := by decide +kernel
theorem cn_22 : "jdk/internal/util/Preconditions" ≠ "java/lang/invoke/MethodHandle" ∧ "jdk/internal/util/Preconditions" ≠ "java/lang/invoke/VarHandle" := by decide +kernel
theorem cn_23 : "java/util/AbstractQueue" ≠ "java/lang/invoke/MethodHandle" ∧ "java/util/AbstractQueue" ≠ "java/lang/invoke/VarHandle" := by decide +kernel
theorem cn_24 : "java/util/PriorityQueue" ≠ "java/lang/invoke/MethodHandle" ∧ "java/util/PriorityQueue" ≠ "java/lang/invoke/VarHandle" := by decide +kernel
theorem cn_25 : "java/util/TreeMap$ValueIterator" ≠ "java/lang/invoke/MethodHandle" ∧ "java/util/TreeMap$ValueIterator" ≠ "java/lang/invoke/VarHandle" := by decide +kernel
theorem cn_26 : "java/util/HashMap$EntryIterator" ≠ "java/lang/invoke/MethodHandle" ∧ "java/util/HashMap$EntryIterator" ≠ "java/lang/invoke/VarHandle" := by decide +kernel
theorem cn_27 : "java/util/HashMap$HashIterator" ≠ "java/lang/invoke/MethodHandle" ∧ "java/util/HashMap$HashIterator" ≠ "java/lang/invoke/VarHandle" := by decide +kernel
theorem cn_28 : "java/util/TreeMap$PrivateEntryIterator" ≠ "java/lang/invoke/MethodHandle" ∧ "java/util/TreeMap$PrivateEntryIterator" ≠ "java/lang/invoke/VarHandle" := by decide +kernel
theorem cn_29 : "java/lang/Throwable" ≠ "java/lang/invoke/MethodHandle" ∧ "java/lang/Throwable" ≠ "java/lang/invoke/VarHandle" := by decide +kernel
theorem cn_30 : "java/util/AbstractSet" ≠ "java/lang/invoke/MethodHandle" ∧ "java/util/AbstractSet" ≠ "java/lang/invoke/VarHandle" := by decide +kernel
theorem cn_31 : "java/lang/AbstractStringBuilder" ≠ "java/lang/invoke/MethodHandle" ∧ "java/lang/AbstractStringBuilder" ≠ "java/lang/invoke/VarHandle" := by decide +kernel
theorem cn_32 : "java/lang/StringLatin1" ≠ "java/lang/invoke/MethodHandle" ∧ "java/lang/StringLatin1" ≠ "java/lang/invoke/VarHandle" := by decide +kernel
theorem cn_33 : "TollRoad" ≠ "java/lang/invoke/MethodHandle" ∧ "TollRoad" ≠ "java/lang/invoke/VarHandle" := by decide +kernel
theorem cn_34 : "TollRoadModel" ≠ "java/lang/invoke/MethodHandle" ∧ "TollRoadModel" ≠ "java/lang/invoke/VarHandle" := by decide +kernel
theorem cn_35 : "TollRoadLaw" ≠ "java/lang/invoke/MethodHandle" ∧ "TollRoadLaw" ≠ "java/lang/invoke/VarHandle" := by decide +kernel
theorem cn_36 : "TollRoad$World" ≠ "java/lang/invoke/MethodHandle" ∧ "TollRoad$World" ≠ "java/lang/invoke/VarHandle" := by decide +kernel
theorem cn_37 : "java/util/Iterator" ≠ "java/lang/invoke/MethodHandle" ∧ "java/util/Iterator" ≠ "java/lang/invoke/VarHandle" := by decide +kernel
theorem cn_38 : "TollRoad$Parser" ≠ "java/lang/invoke/MethodHandle" ∧ "TollRoad$Parser" ≠ "java/lang/invoke/VarHandle" := by decide +kernel
theorem cn_39 : "java/lang/CharSequence" ≠ "java/lang/invoke/MethodHandle" ∧ "java/lang/CharSequence" ≠ "java/lang/invoke/VarHandle" := by decide +kernel
theorem cn_40 : "TollRoad$Network" ≠ "java/lang/invoke/MethodHandle" ∧ "TollRoad$Network" ≠ "java/lang/invoke/VarHandle" := by decide +kernel
theorem cn_41 : "TollRoad$Bounds" ≠ "java/lang/invoke/MethodHandle" ∧ "TollRoad$Bounds" ≠ "java/lang/invoke/VarHandle" := by decide +kernel
theorem cn_42 : "TollRoad$Route" ≠ "java/lang/invoke/MethodHandle" ∧ "TollRoad$Route" ≠ "java/lang/invoke/VarHandle" := by decide +kernel
theorem cn_43 : "TollRoad$Search" ≠ "java/lang/invoke/MethodHandle" ∧ "TollRoad$Search" ≠ "java/lang/invoke/VarHandle" := by decide +kernel
theorem cn_44 : "TollRoad$Read" ≠ "java/lang/invoke/MethodHandle" ∧ "TollRoad$Read" ≠ "java/lang/invoke/VarHandle" := by decide +kernel
theorem cn_45 : "TollRoad$Order" ≠ "java/lang/invoke/MethodHandle" ∧ "TollRoad$Order" ≠ "java/lang/invoke/VarHandle" := by decide +kernel
theorem cn_46 : "TollRoad$Trip" ≠ "java/lang/invoke/MethodHandle" ∧ "TollRoad$Trip" ≠ "java/lang/invoke/VarHandle" := by decide +kernel
theorem cn_47 : "TollRoad$Bill" ≠ "java/lang/invoke/MethodHandle" ∧ "TollRoad$Bill" ≠ "java/lang/invoke/VarHandle" := by decide +kernel
theorem cn_48 : "TollRoad$Bounds$1" ≠ "java/lang/invoke/MethodHandle" ∧ "TollRoad$Bounds$1" ≠ "java/lang/invoke/VarHandle" := by decide +kernel
theorem cn_49 : "TollRoad$Priced" ≠ "java/lang/invoke/MethodHandle" ∧ "TollRoad$Priced" ≠ "java/lang/invoke/VarHandle" := by decide +kernel
theorem cn_50 : "TollRoad$Mark" ≠ "java/lang/invoke/MethodHandle" ∧ "TollRoad$Mark" ≠ "java/lang/invoke/VarHandle" := by decide +kernel
theorem cn_51 : "TollRoad$Account" ≠ "java/lang/invoke/MethodHandle" ∧ "TollRoad$Account" ≠ "java/lang/invoke/VarHandle" := by decide +kernel
theorem cn_52 : "TollRoad$Vehicle" ≠ "java/lang/invoke/MethodHandle" ∧ "TollRoad$Vehicle" ≠ "java/lang/invoke/VarHandle" := by decide +kernel
theorem cn_53 : "TollRoad$Cheapest" ≠ "java/lang/invoke/MethodHandle" ∧ "TollRoad$Cheapest" ≠ "java/lang/invoke/VarHandle" := by decide +kernel
theorem cn_54 : "java/util/Collection" ≠ "java/lang/invoke/MethodHandle" ∧ "java/util/Collection" ≠ "java/lang/invoke/VarHandle" := by decide +kernel
theorem cn_55 : "java/util/Set" ≠ "java/lang/invoke/MethodHandle" ∧ "java/util/Set" ≠ "java/lang/invoke/VarHandle" := by decide +kernel
theorem cn_56 : "java/util/Map$Entry" ≠ "java/lang/invoke/MethodHandle" ∧ "java/util/Map$Entry" ≠ "java/lang/invoke/VarHandle" := by decide +kernel
theorem cn_57 : "TollRoad$Road" ≠ "java/lang/invoke/MethodHandle" ∧ "TollRoad$Road" ≠ "java/lang/invoke/VarHandle" := by decide +kernel
theorem cn_58 : "TollRoad$TextError" ≠ "java/lang/invoke/MethodHandle" ∧ "TollRoad$TextError" ≠ "java/lang/invoke/VarHandle" := by decide +kernel
theorem cn_59 : "java/lang/Exception" ≠ "java/lang/invoke/MethodHandle" ∧ "java/lang/Exception" ≠ "java/lang/invoke/VarHandle" := by decide +kernel
theorem cst_0 : CastL [0, 1, 2, 3, 4, 5, 6, 7, 8, 9, 10, 11, 12, 13, 14, 15, 16, 17, 18, 19, 20, 21, 22, 23, 24, 25, 26, 27, 28, 29, 30, 31, 32, 33, 34] "java/lang/Object" := (castL_c (r := CLr 0) rfl (Or.inl q3718) (castL_c (r := CLr 1) rfl (Or.inl q3716) (castL_c (r := CLr 2) rfl (Or.inl q3719) (castL_c (r := CLr 3) rfl (Or.inl q3720) (castL_c (r := CLr 4) rfl (Or.inl q3722) (castL_c (r := CLr 5) rfl (Or.inl q3723) (castL_c (r := CLr 6) rfl (Or.inl q3724) (castL_c (r := CLr 7) rfl (Or.inl q3734) (castL_c (r := CLr 8) rfl (Or.inl q3750) (castL_c (r := CLr 9) rfl (Or.inl q3727) (castL_c (r := CLr 10) rfl (Or.inl q3729) (castL_c (r := CLr 11) rfl (Or.inl q3714) (castL_c (r := CLr 12) rfl (Or.inl q3715) (castL_c (r := CLr 13) rfl (Or.inl q3730) (castL_c (r := CLr 14) rfl (Or.inl q3731) (castL_c (r := CLr 15) rfl (Or.inl q3735) (castL_c (r := CLr 16) rfl (Or.inl q3736) (castL_c (r := CLr 17) rfl (Or.inl q3737) (castL_c (r := CLr 18) rfl (Or.inl q3738) (castL_c (r := CLr 19) rfl (Or.inl q3739) (castL_c (r := CLr 20) rfl (Or.inl q3742) (castL_c (r := CLr 21) rfl (Or.inl q3743) (castL_c (r := CLr 22) rfl (Or.inl q3744) (castL_c (r := CLr 23) rfl (Or.inl q3745) (castL_c (r := CLr 24) rfl (Or.inl q3753) (castL_c (r := CLr 25) rfl (Or.inl q3747) (castL_c (r := CLr 26) rfl (Or.inl q3748) (castL_c (r := CLr 27) rfl (Or.inl q3749) (castL_c (r := CLr 28) rfl (Or.inl q3717) (castL_c (r := CLr 29) rfl (Or.inl q3752) (castL_c (r := CLr 30) rfl (Or.inl q3725) (castL_c (r := CLr 31) rfl (Or.inl q3733) (castL_c (r := CLr 32) rfl (Or.inl q3721) (castL_c (r := CLr 33) rfl (Or.inl q3726) (castL_c (r := CLr 34) rfl (Or.inl q3740) castL_nil)))))))))))))))))))))))))))))))))))
theorem cst_1 : CastL [21] "java/lang/Integer" := (castL_c (r := CLr 21) rfl (Or.inr rfl) castL_nil)
theorem cst_2 : CastL [28] "java/util/HashMap$Node" := (castL_c (r := CLr 28) rfl (Or.inr rfl) castL_nil)
theorem cst_3 : CastL [4, 5, 21] "java/lang/Comparable" := (castL_c (r := CLr 4) rfl (Or.inl q1212) (castL_c (r := CLr 5) rfl (Or.inl q1066) (castL_c (r := CLr 21) rfl (Or.inl q1053) castL_nil)))
theorem cst_4 : CastL [5] "java/lang/String" := (castL_c (r := CLr 5) rfl (Or.inr rfl) castL_nil)
theorem cst_5 : CastL [27] "TollRoad$Bill" := (castL_c (r := CLr 27) rfl (Or.inr rfl) castL_nil)
theorem cst_6 : CastL [17] "TollRoad$Read" := (castL_c (r := CLr 17) rfl (Or.inr rfl) castL_nil)
theorem cst_7 : CastL [13] "TollRoad$Vehicle" := (castL_c (r := CLr 13) rfl (Or.inr rfl) castL_nil)
theorem cst_8 : CastL [26] "TollRoad$Trip" := (castL_c (r := CLr 26) rfl (Or.inr rfl) castL_nil)
theorem cst_9 : CastL [1] "TollRoad$World" := (castL_c (r := CLr 1) rfl (Or.inr rfl) castL_nil)
theorem cst_10 : CastL [12] "TollRoad$Account" := (castL_c (r := CLr 12) rfl (Or.inr rfl) castL_nil)
theorem cst_11 : CastL [22, 28] "java/util/Map$Entry" := (castL_c (r := CLr 22) rfl (Or.inl q3041) (castL_c (r := CLr 28) rfl (Or.inl q3032) castL_nil))
theorem cst_12 : CastL [8] "TollRoad$Mark" := (castL_c (r := CLr 8) rfl (Or.inr rfl) castL_nil)
theorem cst_13 : CastL [11] "TollRoad$Road" := (castL_c (r := CLr 11) rfl (Or.inr rfl) castL_nil)
theorem q_oi : Cond.code Lib.objectInit ⟨#[0xb1]⟩ 1 none ∈ lw_all := q189
theorem lsw_ok_16_2 : ∀ x : Int32, ((2 : Nat) : Int) + Op.lookupswitch.offset (#[(0, 26), (1, 30)] : Array (Int × Int)).toList 40 x.toInt = (lsw [(0, 28), (1, 32)] 42 x : Int) := (lsw_c (k := 0) (t := 28) (lsw_c (k := 1) (t := 32) (lsw_n 2 40 42 rfl) (by decide +kernel) rfl) (by decide +kernel) rfl)
theorem lsw_ok_166_13 : ∀ x : Int32, ((13 : Nat) : Int) + Op.lookupswitch.offset (#[((-1253191065), 51), ((-1177318867), 81), (113762, 111), (3505952, 66), (342069036, 96)] : Array (Int × Int)).toList 123 x.toInt = (lsw [((-1253191065), 64), ((-1177318867), 94), (113762, 124), (3505952, 79), (342069036, 109)] 136 x : Int) := (lsw_c (k := (-1253191065)) (t := 64) (lsw_c (k := (-1177318867)) (t := 94) (lsw_c (k := 113762) (t := 124) (lsw_c (k := 3505952) (t := 79) (lsw_c (k := 342069036) (t := 109) (lsw_n 13 123 136 rfl) (by decide +kernel) rfl) (by decide +kernel) rfl) (by decide +kernel) rfl) (by decide +kernel) rfl) (by decide +kernel) rfl)
/-! the code of every method as ops; names; infos -/
def RX10 : String := "TollRoad$Bounds"
def RX19 : String := "TollRoad$Priced"
def RX12 : String := "TollRoad$Search"
def RX0 : String := "TollRoadLaw"
def RJ7 : String := "java/lang/AbstractStringBuilder"
def RJ4 : String := "java/lang/Exception"
def RJ12 : String := "java/lang/Math"
def RJ16 : String := "java/lang/Number"
def RJ15 : String := "java/lang/StringLatin1"
def RJ3 : String := "java/lang/Throwable"
def RJ0 : String := "java/util/AbstractCollection"
def RJ1 : String := "java/util/AbstractList"
def RJ18 : String := "java/util/AbstractMap"
def RJ27 : String := "java/util/AbstractQueue"
def RJ42 : String := "java/util/AbstractSet"
def RJ13 : String := "java/util/Arrays"
def RJ34 : String := "java/util/HashMap$HashIterator"
def RJ26 : String := "java/util/Objects"
def RJ37 : String := "java/util/TreeMap$PrivateEntryIterator"
def RJ11 : String := "jdk/internal/util/ArraysSupport"
def RJ14 : String := "jdk/internal/util/Preconditions"
abbrev cJ0_init : ByteArray := prog_50_method_1_code
def yJ0_init : MethodName := ⟨RJ0, "<init>", "()V"⟩
def I0 : Mi := ("java/util/AbstractCollection", (cJ0_init, (1, ([], ((Option.none : Option Jvm.ClassFile.FieldType), true)))))
def K0 : Mt := (([0], 1), lk2 [[(0, o_aload 0 1), (1, o_oi), (4, o_vret)]])
abbrev cJ1_init : ByteArray := prog_51_method_1_code
def yJ1_init : MethodName := ⟨RJ1, "<init>", "()V"⟩
def I1 : Mi := ("java/util/AbstractList", (cJ1_init, (1, ([], ((Option.none : Option Jvm.ClassFile.FieldType), true)))))
def K1 : Mt := (([0], 1), lk2 [[(0, o_aload 0 1), (1, o_ci 0 0), (4, o_aload 0 1), (5, o_push 1 (.int 0)), (6, o_put 18 1), (9, o_vret)]])
abbrev cJ11_newLength : ByteArray := prog_90_method_27_code
def yJ11_newLength : MethodName := ⟨RJ11, "newLength", "(III)I"⟩
def I2 : Mi := ("jdk/internal/util/ArraysSupport", (cJ11_newLength, (4, ([], ((Option.some Jvm.ClassFile.FieldType.int), false)))))
def K2 : Mt := (([1, 1, 1], 4), lk2 [[(0, o_iload 0 1), (1, o_iload 1 1), (2, o_iload 2 1), (3, o_cs 6 2 false none), (6, o_iop (fun x y => x + y)), (7, o_istore 3 1), (8, o_push 1 (.int 0)), (9, o_iload 3 1), (10, o_icmp (fun x y => decide (y ≤ x)) 21), (13, o_iload 3 1), (14, o_push 2 (.int 2147483639)), (16, o_icmp (fun x y => decide (y < x)) 21), (19, o_iload 3 1), (20, o_ret 1), (21, o_iload 0 1), (22, o_iload 1 1), (26, o_ret 1)]])
abbrev cJ11_vectorizedHashCode : ByteArray := prog_90_method_4_code
def yJ11_vectorizedHashCode : MethodName := ⟨RJ11, "vectorizedHashCode", "(Ljava/lang/Object;IIII)I"⟩
def I3 : Mi := ("jdk/internal/util/ArraysSupport", (cJ11_vectorizedHashCode, (5, ([], ((Option.some Jvm.ClassFile.FieldType.int), false)))))
def K3 : Mt := (([0, 1, 1, 1, 1], 5), lk2 [[(0, o_iload 4 2), (2, o_sw (swt 4 [44, 57, 129, 129, 90, 103, 116] 129)), (44, o_iload 3 1), (45, o_aload 0 1), (46, o_casta 1), (49, o_iload 1 1), (50, o_iload 2 1), (51, o_cs 4 4 false none), (54, o_goto 157), (57, o_aload 0 1), (61, o_if (fun x => decide (x = 0)) 77)],
  [(64, o_iload 3 1), (65, o_aload 0 1), (66, o_casta 1), (69, o_iload 1 1), (70, o_iload 2 1), (74, o_goto 157), (77, o_iload 3 1), (78, o_aload 0 1), (82, o_iload 1 1), (83, o_iload 2 1), (87, o_goto 157), (90, o_iload 3 1), (91, o_aload 0 1), (92, o_casta 1), (95, o_iload 1 1), (96, o_iload 2 1), (97, o_cs 5 4 false none), (100, o_goto 157), (103, o_iload 3 1), (104, o_aload 0 1), (108, o_iload 1 1), (109, o_iload 2 1), (113, o_goto 157), (116, o_iload 3 1), (117, o_aload 0 1), (118, o_casta 0), (121, o_iload 1 1), (122, o_iload 2 1), (126, o_goto 157)],
  [(132, o_dup), (133, o_new 4 4 dv4), (136, o_dup), (137, o_ci 111 0), (145, o_iload 4 2), (150, o_cv [(4, 112)] 0 3 false none), (157, o_ret 1)]])
abbrev cJ11_signedHashCode : ByteArray := prog_90_method_5_code
def yJ11_signedHashCode : MethodName := ⟨RJ11, "signedHashCode", "(I[BII)I"⟩
def I4 : Mi := ("jdk/internal/util/ArraysSupport", (cJ11_signedHashCode, (6, ([], ((Option.some Jvm.ClassFile.FieldType.int), false)))))
def K4 : Mt := (([1, 0, 1, 1], 6), lk2 [[(0, o_iload 2 1), (1, o_iload 3 1), (2, o_iop (fun x y => x + y)), (3, o_istore 4 2), (5, o_iload 2 1), (6, o_istore 5 2), (8, o_iload 5 2), (10, o_iload 4 2), (12, o_icmp (fun x y => decide (y ≤ x)) 35), (15, o_push 2 (.int 31)), (17, o_iload 0 1), (18, o_iop (fun x y => x * y)), (19, o_aload 1 1), (20, o_iload 5 2), (22, o_rdIs 1), (23, o_push 3 (.int 255)), (26, o_iop (fun x y => x &&& y)), (27, o_iop (fun x y => x + y)), (28, o_istore 0 1), (29, o_iinc 5 1), (32, o_goto 8), (35, o_iload 0 1), (36, o_ret 1)]])
abbrev cJ11_hashCode_2 : ByteArray := prog_90_method_6_code
def yJ11_hashCode_2 : MethodName := ⟨RJ11, "hashCode", "(I[BII)I"⟩
def I5 : Mi := ("jdk/internal/util/ArraysSupport", (cJ11_hashCode_2, (6, ([], ((Option.some Jvm.ClassFile.FieldType.int), false)))))
def K5 : Mt := (([1, 0, 1, 1], 6), lk2 [[(0, o_iload 2 1), (1, o_iload 3 1), (2, o_iop (fun x y => x + y)), (3, o_istore 4 2), (5, o_iload 2 1), (6, o_istore 5 2), (8, o_iload 5 2), (10, o_iload 4 2), (12, o_icmp (fun x y => decide (y ≤ x)) 31), (15, o_push 2 (.int 31)), (17, o_iload 0 1), (18, o_iop (fun x y => x * y)), (19, o_aload 1 1), (20, o_iload 5 2), (22, o_rdIs 1), (23, o_iop (fun x y => x + y)), (24, o_istore 0 1), (25, o_iinc 5 1), (28, o_goto 8), (31, o_iload 0 1), (32, o_ret 1)]])
abbrev cJ12_max : ByteArray := prog_37_method_65_code
def yJ12_max : MethodName := ⟨RJ12, "max", "(II)I"⟩
def I6 : Mi := ("java/lang/Math", (cJ12_max, (2, ([], ((Option.some Jvm.ClassFile.FieldType.int), false)))))
def K6 : Mt := (([1, 1], 2), lk2 [[(0, o_iload 0 1), (1, o_iload 1 1), (2, o_icmp (fun x y => decide (x < y)) 9), (5, o_iload 0 1), (6, o_goto 10), (9, o_iload 1 1), (10, o_ret 1)]])
abbrev cJ12_min : ByteArray := prog_37_method_69_code
def yJ12_min : MethodName := ⟨RJ12, "min", "(II)I"⟩
def I7 : Mi := ("java/lang/Math", (cJ12_min, (2, ([], ((Option.some Jvm.ClassFile.FieldType.int), false)))))
def K7 : Mt := (([1, 1], 2), lk2 [[(0, o_iload 0 1), (1, o_iload 1 1), (2, o_icmp (fun x y => decide (y < x)) 9), (5, o_iload 0 1), (6, o_goto 10), (9, o_iload 1 1), (10, o_ret 1)]])
abbrev cJ12_abs : ByteArray := prog_37_method_59_code
def yJ12_abs : MethodName := ⟨RJ12, "abs", "(I)I"⟩
def I8 : Mi := ("java/lang/Math", (cJ12_abs, (1, ([], ((Option.some Jvm.ClassFile.FieldType.int), false)))))
def K8 : Mt := (([1], 1), lk2 [[(0, o_iload 0 1), (1, o_if (fun x => decide (0 ≤ x)) 9), (4, o_iload 0 1), (5, o_ii (fun x => -x)), (6, o_goto 10), (9, o_iload 0 1), (10, o_ret 1)]])
abbrev cJ13_copyOf : ByteArray := prog_58_method_121_code
def yJ13_copyOf : MethodName := ⟨RJ13, "copyOf", "([BI)[B"⟩
def I9 : Mi := ("java/util/Arrays", (cJ13_copyOf, (3, ([], ((Option.some (Jvm.ClassFile.FieldType.array Jvm.ClassFile.FieldType.byte)), false)))))
def K9 : Mt := (([0, 1], 3), lk2 [[(0, o_iload 1 1), (1, o_aload 0 1), (2, o_alen), (3, o_icmp (fun x y => decide (¬ x = y)) 14), (6, o_aload 0 1), (7, o_clnb), (10, o_casta 1), (13, o_ret 0), (14, o_iload 1 1), (15, o_newa 1 2), (17, o_astore 2 1), (18, o_aload 0 1), (19, o_push 1 (.int 0)), (20, o_aload 2 1), (21, o_push 1 (.int 0)), (22, o_aload 0 1), (23, o_alen), (24, o_iload 1 1), (25, o_cs 7 2 false none), (28, o_cpI 1), (31, o_aload 2 1), (32, o_ret 0)]])
abbrev cJ13_copyOfRange : ByteArray := prog_58_method_132_code
def yJ13_copyOfRange : MethodName := ⟨RJ13, "copyOfRange", "([BII)[B"⟩
def I10 : Mi := ("java/util/Arrays", (cJ13_copyOfRange, (3, ([], ((Option.some (Jvm.ClassFile.FieldType.array Jvm.ClassFile.FieldType.byte)), false)))))
def K10 : Mt := (([0, 1, 1], 3), lk2 [[(0, o_iload 1 1), (1, o_if (fun x => decide (¬ x = 0)) 10), (4, o_iload 2 1), (5, o_aload 0 1), (6, o_alen), (7, o_icmp (fun x y => decide (x = y)) 17), (10, o_aload 0 1), (11, o_iload 1 1), (12, o_iload 2 1), (13, o_cs 11 3 false none), (16, o_ret 0), (17, o_aload 0 1), (18, o_clnb), (21, o_casta 1), (24, o_ret 0)]])
abbrev cJ13_copyOfRangeByte : ByteArray := prog_58_method_133_code
def yJ13_copyOfRangeByte : MethodName := ⟨RJ13, "copyOfRangeByte", "([BII)[B"⟩
def I11 : Mi := ("java/util/Arrays", (cJ13_copyOfRangeByte, (5, ([], ((Option.some (Jvm.ClassFile.FieldType.array Jvm.ClassFile.FieldType.byte)), false)))))
def K11 : Mt := (([0, 1, 1], 5), lk2 [[(0, o_iload 1 1), (1, o_iload 2 1), (2, o_cs 12 2 true none), (5, o_iload 2 1), (6, o_iload 1 1), (7, o_iop (fun x y => x - y)), (8, o_istore 3 1), (9, o_iload 3 1), (10, o_newa 1 2), (12, o_astore 4 2), (14, o_aload 0 1), (15, o_iload 1 1), (16, o_aload 4 2), (18, o_push 1 (.int 0)), (19, o_aload 0 1), (20, o_alen), (21, o_iload 1 1), (22, o_iop (fun x y => x - y)), (23, o_iload 3 1), (24, o_cs 7 2 false none), (27, o_cpI 1), (30, o_aload 4 2), (32, o_ret 0)]])
abbrev cJ13_checkLength : ByteArray := prog_58_method_131_code
def yJ13_checkLength : MethodName := ⟨RJ13, "checkLength", "(II)V"⟩
def I12 : Mi := ("java/util/Arrays", (cJ13_checkLength, (2, ([], ((Option.none : Option Jvm.ClassFile.FieldType), false)))))
def K12 : Mt := (([1, 1], 2), lk2 [[(0, o_iload 1 1), (1, o_iload 0 1), (2, o_icmp (fun x y => decide (y ≤ x)) 37), (8, o_dup), (9, o_new 4 4 dv4), (12, o_dup), (13, o_ci 111 0), (16, o_iload 0 1), (26, o_iload 1 1), (30, o_cv [(4, 112)] 0 3 false none), (37, o_vret)]])
abbrev cJ13_copyOf_2 : ByteArray := prog_58_method_119_code
def yJ13_copyOf_2 : MethodName := ⟨RJ13, "copyOf", "([Ljava/lang/Object;I)[Ljava/lang/Object;"⟩
def I13 : Mi := ("java/util/Arrays", (cJ13_copyOf_2, (2, ([], ((Option.some (Jvm.ClassFile.FieldType.array (Jvm.ClassFile.FieldType.object "java/lang/Object"))), false)))))
def K13 : Mt := (([0, 1], 2), lk2 [[(0, o_aload 0 1), (1, o_iload 1 1), (2, o_aload 0 1), (3, o_gcl 5 0), (6, o_cs 14 3 false none), (9, o_ret 0)]])
abbrev cJ13_copyOf_3 : ByteArray := prog_58_method_120_code
def yJ13_copyOf_3 : MethodName := ⟨RJ13, "copyOf", "([Ljava/lang/Object;ILjava/lang/Class;)[Ljava/lang/Object;"⟩
def I14 : Mi := ("java/util/Arrays", (cJ13_copyOf_3, (4, ([], ((Option.some (Jvm.ClassFile.FieldType.array (Jvm.ClassFile.FieldType.object "java/lang/Object"))), false)))))
def K14 : Mt := (([0, 1, 0], 4), lk2 [[(0, o_aload 2 1), (1, o_pushA 2 0), (3, o_acmp false 13), (6, o_iload 1 1), (7, o_newa 5 3), (10, o_goto 24), (13, o_aload 2 1), (24, o_astore 3 1), (25, o_aload 0 1), (26, o_push 1 (.int 0)), (27, o_aload 3 1), (28, o_push 1 (.int 0)), (29, o_aload 0 1), (30, o_alen), (31, o_iload 1 1), (32, o_cs 7 2 false none), (35, o_cpQ 5 [0, 1, 2, 3, 4, 5, 6, 7, 8, 9, 10, 11, 12, 13, 14, 15, 16, 17, 18, 19, 20, 21, 22, 23, 24, 25, 26, 27, 28, 29, 30, 31, 32, 33, 34]), (38, o_aload 3 1), (39, o_ret 0)]])
abbrev cJ14_checkIndex : ByteArray := prog_91_method_11_code
def yJ14_checkIndex : MethodName := ⟨RJ14, "checkIndex", "(IILjava/util/function/BiFunction;)I"⟩
def I15 : Mi := ("jdk/internal/util/Preconditions", (cJ14_checkIndex, (3, ([], ((Option.some Jvm.ClassFile.FieldType.int), false)))))
def K15 : Mt := (([1, 1, 0], 3), lk2 [[(0, o_iload 0 1), (1, o_if (fun x => decide (x < 0)) 9), (4, o_iload 0 1), (5, o_iload 1 1), (6, o_icmp (fun x y => decide (x < y)) 16), (9, o_aload 2 1), (10, o_iload 0 1), (11, o_iload 1 1), (16, o_iload 0 1), (17, o_ret 1)]])
abbrev cJ15_hashCode : ByteArray := prog_43_method_21_code
def yJ15_hashCode : MethodName := ⟨RJ15, "hashCode", "([B)I"⟩
def I16 : Mi := ("java/lang/StringLatin1", (cJ15_hashCode, (1, ([], ((Option.some Jvm.ClassFile.FieldType.int), false)))))
def K16 : Mt := (([0], 1), lk2 [[(0, o_aload 0 1), (1, o_alens), (2, o_sw (lsw [(0, 28), (1, 32)] 42)), (28, o_push 1 (.int 0)), (29, o_goto 51), (32, o_aload 0 1), (33, o_push 1 (.int 0)), (34, o_rdIs 1), (35, o_push 3 (.int 255)), (38, o_iop (fun x y => x &&& y)), (39, o_goto 51), (42, o_aload 0 1), (43, o_push 1 (.int 0)), (44, o_aload 0 1), (45, o_alens), (46, o_push 1 (.int 0)), (47, o_push 1 (.int 4)), (48, o_cs 3 5 false none), (51, o_ret 1)]])
abbrev cJ15_equals : ByteArray := prog_43_method_13_code
def yJ15_equals : MethodName := ⟨RJ15, "equals", "([B[B)Z"⟩
def I17 : Mi := ("java/lang/StringLatin1", (cJ15_equals, (3, ([], ((Option.some Jvm.ClassFile.FieldType.boolean), false)))))
def K17 : Mt := (([0, 0], 3), lk2 [[(0, o_aload 0 1), (1, o_alens), (2, o_aload 1 1), (3, o_alens), (4, o_icmp (fun x y => decide (¬ x = y)) 34), (7, o_push 1 (.int 0)), (8, o_istore 2 1), (9, o_iload 2 1), (10, o_aload 0 1), (11, o_alens), (12, o_icmp (fun x y => decide (y ≤ x)) 32), (15, o_aload 0 1), (16, o_iload 2 1), (17, o_rdIs 1), (18, o_aload 1 1), (19, o_iload 2 1), (20, o_rdIs 1), (21, o_icmp (fun x y => decide (x = y)) 26), (24, o_push 1 (.int 0)), (25, o_ret 5), (26, o_iinc 2 1), (29, o_goto 9), (32, o_push 1 (.int 1)), (33, o_ret 5), (34, o_push 1 (.int 0)), (35, o_ret 5)]])
abbrev cJ15_canEncode : ByteArray := prog_43_method_3_code
def yJ15_canEncode : MethodName := ⟨RJ15, "canEncode", "(C)Z"⟩
def I18 : Mi := ("java/lang/StringLatin1", (cJ15_canEncode, (1, ([], ((Option.some Jvm.ClassFile.FieldType.boolean), false)))))
def K18 : Mt := (([1], 1), lk2 [[(0, o_iload 0 1), (1, o_push 3 (.int 255)), (4, o_icmp (fun x y => decide (y < x)) 11), (7, o_push 1 (.int 1)), (8, o_goto 12), (11, o_push 1 (.int 0)), (12, o_ret 5)]])
abbrev cJ15_charAt : ByteArray := prog_43_method_2_code
def yJ15_charAt : MethodName := ⟨RJ15, "charAt", "([BI)C"⟩
def I19 : Mi := ("java/lang/StringLatin1", (cJ15_charAt, (2, ([], ((Option.some Jvm.ClassFile.FieldType.char), false)))))
def K19 : Mt := (([0, 1], 2), lk2 [[(0, o_iload 1 1), (1, o_aload 0 1), (2, o_alens), (3, o_cs 122 2 true none), (6, o_aload 0 1), (7, o_iload 1 1), (8, o_rdIs 1), (9, o_push 3 (.int 255)), (12, o_iop (fun x y => x &&& y)), (13, o_ii (fun x => (x.toUInt32 % 65536).toInt32)), (14, o_ret 7)]])
abbrev cJ16_init : ByteArray := prog_39_method_1_code
def yJ16_init : MethodName := ⟨RJ16, "<init>", "()V"⟩
def I20 : Mi := ("java/lang/Number", (cJ16_init, (1, ([], ((Option.none : Option Jvm.ClassFile.FieldType), true)))))
def K20 : Mt := (([0], 1), lk2 [[(0, o_aload 0 1), (1, o_oi), (4, o_vret)]])
abbrev cJ17_intValue : ByteArray := prog_33_method_27_code
def yJ17_intValue : MethodName := ⟨RJ17, "intValue", "()I"⟩
def I21 : Mi := ("java/lang/Integer", (cJ17_intValue, (1, ([], ((Option.some Jvm.ClassFile.FieldType.int), false)))))
def K21 : Mt := (([0], 1), lk2 [[(0, o_aload 0 1), (1, o_gets 109), (4, o_ret 1)]])
abbrev cJ17_compareTo : ByteArray := prog_33_method_63_code
def yJ17_compareTo : MethodName := ⟨RJ17, "compareTo", "(Ljava/lang/Object;)I"⟩
def I22 : Mi := ("java/lang/Integer", (cJ17_compareTo, (2, ([], ((Option.some Jvm.ClassFile.FieldType.int), false)))))
def K22 : Mt := (([0, 0], 2), lk2 [[(0, o_aload 0 1), (1, o_aload 1 1), (2, o_cast [21]), (5, o_cvs [(21, 23)] 1 3 false), (8, o_ret 1)]])
abbrev cJ17_compareTo_2 : ByteArray := prog_33_method_39_code
def yJ17_compareTo_2 : MethodName := ⟨RJ17, "compareTo", "(Ljava/lang/Integer;)I"⟩
def I23 : Mi := ("java/lang/Integer", (cJ17_compareTo_2, (2, ([], ((Option.some Jvm.ClassFile.FieldType.int), false)))))
def K23 : Mt := (([0, 0], 2), lk2 [[(0, o_aload 0 1), (1, o_gets 109), (4, o_aload 1 1), (5, o_gets 109), (8, o_cs 24 2 false none), (11, o_ret 1)]])
abbrev cJ17_compare : ByteArray := prog_33_method_40_code
def yJ17_compare : MethodName := ⟨RJ17, "compare", "(II)I"⟩
def I24 : Mi := ("java/lang/Integer", (cJ17_compare, (2, ([], ((Option.some Jvm.ClassFile.FieldType.int), false)))))
def K24 : Mt := (([1, 1], 2), lk2 [[(0, o_iload 0 1), (1, o_iload 1 1), (2, o_icmp (fun x y => decide (y ≤ x)) 9), (5, o_push 1 (.int (-1))), (6, o_goto 19), (9, o_iload 0 1), (10, o_iload 1 1), (11, o_icmp (fun x y => decide (¬ x = y)) 18), (14, o_push 1 (.int 0)), (15, o_goto 19), (18, o_push 1 (.int 1)), (19, o_ret 1)]])
abbrev cJ17_valueOf : ByteArray := prog_33_method_22_code
def yJ17_valueOf : MethodName := ⟨RJ17, "valueOf", "(I)Ljava/lang/Integer;"⟩
def I25 : Mi := ("java/lang/Integer", (cJ17_valueOf, (1, ([], ((Option.some (Jvm.ClassFile.FieldType.object "java/lang/Integer")), false)))))
def K25 : Mt := (([1], 1), lk2 [[(0, o_iload 0 1), (1, o_push 2 (.int (-128))), (3, o_icmp (fun x y => decide (x < y)) 23), (6, o_iload 0 1), (7, o_push 3 (.int 127)), (10, o_icmp (fun x y => decide (y < x)) 23), (13, o_pushA 3 1), (16, o_iload 0 1), (17, o_push 3 (.int 128)), (20, o_iop (fun x y => x + y)), (21, o_rdQs), (22, o_ret 0), (23, o_new 21 1 dv21), (26, o_dup), (27, o_iload 0 1), (28, o_ci 26 1), (31, o_ret 0)]])
abbrev cJ17_init : ByteArray := prog_33_method_23_code
def yJ17_init : MethodName := ⟨RJ17, "<init>", "(I)V"⟩
def I26 : Mi := ("java/lang/Integer", (cJ17_init, (2, ([], ((Option.none : Option Jvm.ClassFile.FieldType), true)))))
def K26 : Mt := (([0, 1], 2), lk2 [[(0, o_aload 0 1), (1, o_ci 20 0), (4, o_aload 0 1), (5, o_iload 1 1), (6, o_put 109 1), (9, o_vret)]])
abbrev cJ18_init : ByteArray := prog_52_method_1_code
def yJ18_init : MethodName := ⟨RJ18, "<init>", "()V"⟩
def I27 : Mi := ("java/util/AbstractMap", (cJ18_init, (1, ([], ((Option.none : Option Jvm.ClassFile.FieldType), true)))))
def K27 : Mt := (([0], 1), lk2 [[(0, o_aload 0 1), (1, o_oi), (4, o_vret)]])
abbrev cJ19_init : ByteArray := prog_61_method_7_code
def yJ19_init : MethodName := ⟨RJ19, "<init>", "()V"⟩
def I28 : Mi := ("java/util/HashMap", (cJ19_init, (1, ([], ((Option.none : Option Jvm.ClassFile.FieldType), true)))))
def K28 : Mt := (([0], 1), lk2 [[(0, o_aload 0 1), (1, o_ci 27 0), (4, o_aload 0 1), (5, o_push 2 (.float 1061158912)), (7, o_put 36 3), (10, o_vret)]])
abbrev cJ19_get : ByteArray := prog_61_method_12_code
def yJ19_get : MethodName := ⟨RJ19, "get", "(Ljava/lang/Object;)Ljava/lang/Object;"⟩
def I29 : Mi := ("java/util/HashMap", (cJ19_get, (3, ([], ((Option.some (Jvm.ClassFile.FieldType.object "java/lang/Object")), false)))))
def K29 : Mt := (([0, 0], 3), lk2 [[(0, o_aload 0 1), (1, o_aload 1 1), (2, o_cv [(6, 30)] 1 3 false none), (5, o_dup), (6, o_astore 2 1), (7, o_ifnonnull 14), (10, o_push 1 .null), (11, o_goto 18), (14, o_aload 2 1), (15, o_get 145), (18, o_ret 0)]])
abbrev cJ19_getNode : ByteArray := prog_61_method_13_code
def yJ19_getNode : MethodName := ⟨RJ19, "getNode", "(Ljava/lang/Object;)Ljava/util/HashMap$Node;"⟩
def I30 : Mi := ("java/util/HashMap", (cJ19_getNode, (8, ([], ((Option.some (Jvm.ClassFile.FieldType.object "java/util/HashMap$Node")), false)))))
def K30 : Mt := (([0, 0], 8), lk2 [[(0, o_aload 0 1), (1, o_get 31), (4, o_dup), (5, o_astore 2 1), (6, o_ifnull 148), (9, o_aload 2 1), (10, o_alen), (11, o_dup), (12, o_istore 5 2), (14, o_if (fun x => decide (x ≤ 0)) 148), (17, o_aload 2 1), (18, o_iload 5 2), (20, o_push 1 (.int 1)), (21, o_iop (fun x y => x - y)), (22, o_aload 1 1), (23, o_cs 31 1 false none), (26, o_dup), (27, o_istore 6 2), (29, o_iop (fun x y => x &&& y)), (30, o_rdQ), (31, o_dup), (32, o_astore 3 1), (33, o_ifnull 148), (36, o_aload 3 1), (37, o_get 143), (40, o_iload 6 2), (42, o_icmp (fun x y => decide (¬ x = y)) 71), (45, o_aload 3 1), (46, o_get 144), (49, o_dup), (50, o_astore 7 2), (52, o_aload 1 1), (53, o_acmp true 69), (56, o_aload 1 1), (57, o_ifnull 71), (60, o_aload 1 1), (61, o_aload 7 2), (63, o_cv [(8, 281)] 1 3 false none)],
  [(66, o_if (fun x => decide (x = 0)) 71), (69, o_aload 3 1), (70, o_ret 0), (71, o_aload 3 1), (72, o_get 146), (75, o_dup), (76, o_astore 4 2), (78, o_ifnull 148), (81, o_aload 3 1), (82, o_inst [] [28]), (85, o_if (fun x => decide (x = 0)) 99), (88, o_aload 3 1), (92, o_iload 6 2), (94, o_aload 1 1), (98, o_ret 0), (99, o_aload 4 2), (101, o_get 143), (104, o_iload 6 2), (106, o_icmp (fun x y => decide (¬ x = y)) 137), (109, o_aload 4 2), (111, o_get 144), (114, o_dup), (115, o_astore 7 2), (117, o_aload 1 1), (118, o_acmp true 134), (121, o_aload 1 1), (122, o_ifnull 137), (125, o_aload 1 1), (126, o_aload 7 2)],
  [(128, o_cv [(8, 281)] 1 3 false none), (131, o_if (fun x => decide (x = 0)) 137), (134, o_aload 4 2), (136, o_ret 0), (137, o_aload 4 2), (139, o_get 146), (142, o_dup), (143, o_astore 4 2), (145, o_ifnonnull 99), (148, o_push 1 .null), (149, o_ret 0)]])
abbrev cJ19_hash : ByteArray := prog_61_method_1_code
def yJ19_hash : MethodName := ⟨RJ19, "hash", "(Ljava/lang/Object;)I"⟩
def I31 : Mi := ("java/util/HashMap", (cJ19_hash, (2, ([], ((Option.some Jvm.ClassFile.FieldType.int), false)))))
def K31 : Mt := (([0], 2), lk2 [[(0, o_aload 0 1), (1, o_ifnonnull 8), (4, o_push 1 (.int 0)), (5, o_goto 19), (8, o_aload 0 1), (9, o_cv [(8, 280)] 0 3 false none), (12, o_dup), (13, o_istore 1 1), (14, o_iload 1 1), (15, o_push 2 (.int 16)), (17, o_iop (fun x y => (x.toUInt32 >>> (y.toUInt32 &&& Int32.toUInt32 31)).toInt32)), (18, o_iop (fun x y => x ^^^ y)), (19, o_ret 1)]])
abbrev cJ19_put : ByteArray := prog_61_method_15_code
def yJ19_put : MethodName := ⟨RJ19, "put", "(Ljava/lang/Object;Ljava/lang/Object;)Ljava/lang/Object;"⟩
def I32 : Mi := ("java/util/HashMap", (cJ19_put, (3, ([], ((Option.some (Jvm.ClassFile.FieldType.object "java/lang/Object")), false)))))
def K32 : Mt := (([0, 0, 0], 3), lk2 [[(0, o_aload 0 1), (1, o_aload 1 1), (2, o_cs 31 1 false none), (5, o_aload 1 1), (6, o_aload 2 1), (7, o_push 1 (.int 0)), (8, o_push 1 (.int 1)), (9, o_cv [(6, 33)] 5 3 false none), (12, o_ret 0)]])
abbrev cJ19_putVal : ByteArray := prog_61_method_16_code
def yJ19_putVal : MethodName := ⟨RJ19, "putVal", "(ILjava/lang/Object;Ljava/lang/Object;ZZ)Ljava/lang/Object;"⟩
def I33 : Mi := ("java/util/HashMap", (cJ19_putVal, (13, ([], ((Option.some (Jvm.ClassFile.FieldType.object "java/lang/Object")), false)))))
def K33 : Mt := (([0, 1, 0, 0, 1, 1], 13), lk2 [[(0, o_aload 0 1), (1, o_get 31), (4, o_dup), (5, o_astore 6 2), (7, o_ifnull 19), (10, o_aload 6 2), (12, o_alen), (13, o_dup), (14, o_istore 8 2), (16, o_if (fun x => decide (¬ x = 0)) 29), (19, o_aload 0 1), (20, o_cv [(6, 34)] 0 3 false none), (23, o_dup), (24, o_astore 6 2), (26, o_alen), (27, o_istore 8 2), (29, o_aload 6 2), (31, o_iload 8 2), (33, o_push 1 (.int 1)), (34, o_iop (fun x y => x - y)), (35, o_iload 1 1), (36, o_iop (fun x y => x &&& y)), (37, o_dup), (38, o_istore 9 2), (40, o_rdQ), (41, o_dup), (42, o_astore 7 2), (44, o_ifnonnull 63), (47, o_aload 6 2), (49, o_iload 9 2), (51, o_aload 0 1), (52, o_iload 1 1), (53, o_aload 2 1), (54, o_aload 3 1), (55, o_push 1 .null), (56, o_cv [(6, 35)] 4 3 false none), (59, o_wrQ 9 [28]), (60, o_goto 259), (63, o_aload 7 2)],
  [(65, o_get 143), (68, o_iload 1 1), (69, o_icmp (fun x y => decide (¬ x = y)) 104), (72, o_aload 7 2), (74, o_get 144), (77, o_dup), (78, o_astore 11 2), (80, o_aload 2 1), (81, o_acmp true 97), (84, o_aload 2 1), (85, o_ifnull 104), (88, o_aload 2 1), (89, o_aload 11 2), (91, o_cv [(8, 281)] 1 3 false none), (94, o_if (fun x => decide (x = 0)) 104), (97, o_aload 7 2), (99, o_astore 10 2), (101, o_goto 222), (104, o_aload 7 2), (106, o_inst [] [28]), (109, o_if (fun x => decide (x = 0)) 131), (112, o_aload 7 2), (117, o_aload 0 1), (118, o_aload 6 2), (120, o_iload 1 1), (121, o_aload 2 1), (122, o_aload 3 1), (126, o_astore 10 2)],
  [(128, o_goto 222), (131, o_push 1 (.int 0)), (132, o_istore 12 2), (134, o_aload 7 2), (136, o_get 146), (139, o_dup), (140, o_astore 10 2), (142, o_ifnonnull 175), (145, o_aload 7 2), (147, o_aload 0 1), (148, o_iload 1 1), (149, o_aload 2 1), (150, o_aload 3 1), (151, o_push 1 .null), (152, o_cv [(6, 35)] 4 3 false none), (155, o_put 146 0), (158, o_iload 12 2), (160, o_push 2 (.int 7)), (162, o_icmp (fun x y => decide (x < y)) 222), (165, o_aload 0 1), (166, o_aload 6 2), (168, o_iload 1 1), (172, o_goto 222), (175, o_aload 10 2), (177, o_get 143), (180, o_iload 1 1), (181, o_icmp (fun x y => decide (¬ x = y)) 212), (184, o_aload 10 2), (186, o_get 144), (189, o_dup), (190, o_astore 11 2)],
  [(192, o_aload 2 1), (193, o_acmp true 222), (196, o_aload 2 1), (197, o_ifnull 212), (200, o_aload 2 1), (201, o_aload 11 2), (203, o_cv [(8, 281)] 1 3 false none), (206, o_if (fun x => decide (x = 0)) 212), (209, o_goto 222), (212, o_aload 10 2), (214, o_astore 7 2), (216, o_iinc 12 1), (219, o_goto 134), (222, o_aload 10 2), (224, o_ifnull 259), (227, o_aload 10 2), (229, o_get 145), (232, o_astore 12 2), (234, o_iload 4 2), (236, o_if (fun x => decide (x = 0)) 244), (239, o_aload 12 2), (241, o_ifnonnull 250), (244, o_aload 10 2), (246, o_aload 3 1), (247, o_put 145 0), (250, o_aload 0 1), (251, o_aload 10 2), (253, o_cv [(6, 36)] 1 3 true none)],
  [(256, o_aload 12 2), (258, o_ret 0), (259, o_aload 0 1), (260, o_dup), (261, o_get 34), (264, o_push 1 (.int 1)), (265, o_iop (fun x y => x + y)), (266, o_put 34 1), (269, o_aload 0 1), (270, o_dup), (271, o_get 33), (274, o_push 1 (.int 1)), (275, o_iop (fun x y => x + y)), (276, o_dupx1), (277, o_put 33 1), (280, o_aload 0 1), (281, o_get 35), (284, o_icmp (fun x y => decide (x ≤ y)) 292), (287, o_aload 0 1), (288, o_cv [(6, 34)] 0 3 false none), (291, o_pop), (292, o_aload 0 1), (293, o_iload 5 2), (295, o_cv [(6, 37)] 1 3 true none), (298, o_push 1 .null), (299, o_ret 0)]])
abbrev cJ19_resize : ByteArray := prog_61_method_17_code
def yJ19_resize : MethodName := ⟨RJ19, "resize", "()[Ljava/util/HashMap$Node;"⟩
def I34 : Mi := ("java/util/HashMap", (cJ19_resize, (14, ([], ((Option.some (Jvm.ClassFile.FieldType.array (Jvm.ClassFile.FieldType.object "java/util/HashMap$Node"))), false)))))
def K34 : Mt := (([0], 14), lk2 [[(0, o_aload 0 1), (1, o_get 31), (4, o_astore 1 1), (5, o_aload 1 1), (6, o_ifnonnull 13), (9, o_push 1 (.int 0)), (10, o_goto 15), (13, o_aload 1 1), (14, o_alen), (15, o_istore 2 1), (16, o_aload 0 1), (17, o_get 35), (20, o_istore 3 1), (21, o_push 1 (.int 0)), (22, o_istore 5 2), (24, o_iload 2 1), (25, o_if (fun x => decide (x ≤ 0)) 67), (28, o_iload 2 1), (29, o_push 2 (.int 1073741824)), (31, o_icmp (fun x y => decide (x < y)) 42), (34, o_aload 0 1), (35, o_push 2 (.int 2147483647)), (37, o_put 35 1), (40, o_aload 1 1), (41, o_ret 0), (42, o_iload 2 1), (43, o_push 1 (.int 1)), (44, o_iop (fun x y => x <<< (y &&& 31))), (45, o_dup), (46, o_istore 4 2), (48, o_push 2 (.int 1073741824)), (50, o_icmp (fun x y => decide (y ≤ x)) 85), (53, o_iload 2 1), (54, o_push 2 (.int 16)), (56, o_icmp (fun x y => decide (x < y)) 85), (59, o_iload 3 1), (60, o_push 1 (.int 1)), (61, o_iop (fun x y => x <<< (y &&& 31))), (62, o_istore 5 2)],
  [(64, o_goto 85), (67, o_iload 3 1), (68, o_if (fun x => decide (x ≤ 0)) 77), (71, o_iload 3 1), (72, o_istore 4 2), (74, o_goto 85), (77, o_push 2 (.int 16)), (79, o_istore 4 2), (81, o_push 2 (.int 12)), (83, o_istore 5 2), (85, o_iload 5 2), (87, o_if (fun x => decide (¬ x = 0)) 125), (90, o_iload 4 2), (92, o_i2f), (93, o_aload 0 1), (94, o_get 36), (98, o_fstore 6 2), (100, o_iload 4 2), (102, o_push 2 (.int 1073741824)), (104, o_icmp (fun x y => decide (y ≤ x)) 121), (107, o_fload 6 2), (109, o_push 2 (.float 1317011456)), (111, o_fcmp .g), (112, o_if (fun x => decide (0 ≤ x)) 121), (115, o_fload 6 2), (118, o_goto 123), (121, o_push 2 (.int 2147483647)), (123, o_istore 5 2), (125, o_aload 0 1), (126, o_iload 5 2)],
  [(128, o_put 35 1), (131, o_iload 4 2), (133, o_newa 9 3), (136, o_astore 6 2), (138, o_aload 0 1), (139, o_aload 6 2), (141, o_put 31 0), (144, o_aload 1 1), (145, o_ifnull 353), (148, o_push 1 (.int 0)), (149, o_istore 7 2), (151, o_iload 7 2), (153, o_iload 2 1), (154, o_icmp (fun x y => decide (y ≤ x)) 353), (157, o_aload 1 1), (158, o_iload 7 2), (160, o_rdQ), (161, o_dup), (162, o_astore 8 2), (164, o_ifnull 347), (167, o_aload 1 1), (168, o_iload 7 2), (170, o_push 1 .null), (171, o_wrQ 9 [28]), (172, o_aload 8 2), (174, o_get 146), (177, o_ifnonnull 198), (180, o_aload 6 2), (182, o_aload 8 2), (184, o_get 143), (187, o_iload 4 2), (189, o_push 1 (.int 1)), (190, o_iop (fun x y => x - y)), (191, o_iop (fun x y => x &&& y))],
  [(192, o_aload 8 2), (194, o_wrQ 9 [28]), (195, o_goto 347), (198, o_aload 8 2), (200, o_inst [] [28]), (203, o_if (fun x => decide (x = 0)) 223), (206, o_aload 8 2), (211, o_aload 0 1), (212, o_aload 6 2), (214, o_iload 7 2), (216, o_iload 2 1), (220, o_goto 347), (223, o_push 1 .null), (224, o_astore 9 2), (226, o_push 1 .null), (227, o_astore 10 2), (229, o_push 1 .null), (230, o_astore 11 2), (232, o_push 1 .null), (233, o_astore 12 2), (235, o_aload 8 2), (237, o_get 146), (240, o_astore 13 2), (242, o_aload 8 2), (244, o_get 143), (247, o_iload 2 1), (248, o_iop (fun x y => x &&& y)), (249, o_if (fun x => decide (¬ x = 0)) 278), (252, o_aload 10 2), (254, o_ifnonnull 264)],
  [(257, o_aload 8 2), (259, o_astore 9 2), (261, o_goto 271), (264, o_aload 10 2), (266, o_aload 8 2), (268, o_put 146 0), (271, o_aload 8 2), (273, o_astore 10 2), (275, o_goto 301), (278, o_aload 12 2), (280, o_ifnonnull 290), (283, o_aload 8 2), (285, o_astore 11 2), (287, o_goto 297), (290, o_aload 12 2), (292, o_aload 8 2), (294, o_put 146 0), (297, o_aload 8 2), (299, o_astore 12 2), (301, o_aload 13 2), (303, o_dup), (304, o_astore 8 2), (306, o_ifnonnull 235), (309, o_aload 10 2), (311, o_ifnull 327), (314, o_aload 10 2), (316, o_push 1 .null), (317, o_put 146 0)],
  [(320, o_aload 6 2), (322, o_iload 7 2), (324, o_aload 9 2), (326, o_wrQ 9 [28]), (327, o_aload 12 2), (329, o_ifnull 347), (332, o_aload 12 2), (334, o_push 1 .null), (335, o_put 146 0), (338, o_aload 6 2), (340, o_iload 7 2), (342, o_iload 2 1), (343, o_iop (fun x y => x + y)), (344, o_aload 11 2), (346, o_wrQ 9 [28]), (347, o_iinc 7 1), (350, o_goto 151), (353, o_aload 6 2), (355, o_ret 0)]])
abbrev cJ19_newNode : ByteArray := prog_61_method_46_code
def yJ19_newNode : MethodName := ⟨RJ19, "newNode", "(ILjava/lang/Object;Ljava/lang/Object;Ljava/util/HashMap$Node;)Ljava/util/HashMap$Node;"⟩
def I35 : Mi := ("java/util/HashMap", (cJ19_newNode, (5, ([], ((Option.some (Jvm.ClassFile.FieldType.object "java/util/HashMap$Node")), false)))))
def K35 : Mt := (([0, 1, 0, 0, 0], 5), lk2 [[(0, o_new 28 4 dv28), (3, o_dup), (4, o_iload 1 1), (5, o_aload 2 1), (6, o_aload 3 1), (7, o_aload 4 2), (9, o_ci 97 4), (12, o_ret 0)]])
abbrev cJ19_afterNodeAccess : ByteArray := prog_61_method_51_code
def yJ19_afterNodeAccess : MethodName := ⟨RJ19, "afterNodeAccess", "(Ljava/util/HashMap$Node;)V"⟩
def I36 : Mi := ("java/util/HashMap", (cJ19_afterNodeAccess, (2, ([], ((Option.none : Option Jvm.ClassFile.FieldType), false)))))
def K36 : Mt := (([0, 0], 2), lk2 [[(0, o_vret)]])
abbrev cJ19_afterNodeInsertion : ByteArray := prog_61_method_52_code
def yJ19_afterNodeInsertion : MethodName := ⟨RJ19, "afterNodeInsertion", "(Z)V"⟩
def I37 : Mi := ("java/util/HashMap", (cJ19_afterNodeInsertion, (2, ([], ((Option.none : Option Jvm.ClassFile.FieldType), false)))))
def K37 : Mt := (([0, 1], 2), lk2 [[(0, o_vret)]])
abbrev cJ19_entrySet : ByteArray := prog_61_method_29_code
def yJ19_entrySet : MethodName := ⟨RJ19, "entrySet", "()Ljava/util/Set;"⟩
def I38 : Mi := ("java/util/HashMap", (cJ19_entrySet, (2, ([], ((Option.some (Jvm.ClassFile.FieldType.object "java/util/Set")), false)))))
def K38 : Mt := (([0], 2), lk2 [[(0, o_aload 0 1), (1, o_get 32), (4, o_dup), (5, o_astore 1 1), (6, o_ifnonnull 25), (9, o_aload 0 1), (10, o_new 29 1 dv29), (13, o_dup), (14, o_aload 0 1), (15, o_ci 103 1), (18, o_dupx1), (19, o_put 32 0), (22, o_goto 26), (25, o_aload 1 1), (26, o_ret 0)]])
abbrev cJ2_init : ByteArray := prog_56_method_1_code
def yJ2_init : MethodName := ⟨RJ2, "<init>", "(I)V"⟩
def I39 : Mi := ("java/util/ArrayList", (cJ2_init, (2, ([], ((Option.none : Option Jvm.ClassFile.FieldType), true)))))
def K39 : Mt := (([0, 1], 2), lk2 [[(0, o_aload 0 1), (1, o_ci 1 0), (4, o_iload 1 1), (5, o_if (fun x => decide (x ≤ 0)) 19), (8, o_aload 0 1), (9, o_iload 1 1), (10, o_newa 5 3), (13, o_put 19 0), (16, o_goto 60), (19, o_iload 1 1), (20, o_if (fun x => decide (¬ x = 0)) 33), (23, o_aload 0 1), (27, o_put 19 0), (30, o_goto 60), (36, o_dup), (37, o_new 4 4 dv4), (40, o_dup), (41, o_ci 111 0), (49, o_iload 1 1), (53, o_cv [(4, 112)] 0 3 false none), (60, o_vret)]])
abbrev cJ2_iterator : ByteArray := prog_56_method_55_code
def yJ2_iterator : MethodName := ⟨RJ2, "iterator", "()Ljava/util/Iterator;"⟩
def I40 : Mi := ("java/util/ArrayList", (cJ2_iterator, (1, ([], ((Option.some (Jvm.ClassFile.FieldType.object "java/util/Iterator")), false)))))
def K40 : Mt := (([0], 1), lk2 [[(0, o_new 7 4 dv7), (3, o_dup), (4, o_aload 0 1), (5, o_ci 49 1), (8, o_ret 0)]])
abbrev cJ2_isEmpty : ByteArray := prog_56_method_9_code
def yJ2_isEmpty : MethodName := ⟨RJ2, "isEmpty", "()Z"⟩
def I41 : Mi := ("java/util/ArrayList", (cJ2_isEmpty, (1, ([], ((Option.some Jvm.ClassFile.FieldType.boolean), false)))))
def K41 : Mt := (([0], 1), lk2 [[(0, o_aload 0 1), (1, o_get 20), (4, o_if (fun x => decide (¬ x = 0)) 11), (7, o_push 1 (.int 1)), (8, o_goto 12), (11, o_push 1 (.int 0)), (12, o_ret 5)]])
abbrev cJ2_size : ByteArray := prog_56_method_8_code
def yJ2_size : MethodName := ⟨RJ2, "size", "()I"⟩
def I42 : Mi := ("java/util/ArrayList", (cJ2_size, (1, ([], ((Option.some Jvm.ClassFile.FieldType.int), false)))))
def K42 : Mt := (([0], 1), lk2 [[(0, o_aload 0 1), (1, o_get 20), (4, o_ret 1)]])
abbrev cJ2_add : ByteArray := prog_56_method_25_code
def yJ2_add : MethodName := ⟨RJ2, "add", "(Ljava/lang/Object;)Z"⟩
def I43 : Mi := ("java/util/ArrayList", (cJ2_add, (2, ([], ((Option.some Jvm.ClassFile.FieldType.boolean), false)))))
def K43 : Mt := (([0, 0], 2), lk2 [[(0, o_aload 0 1), (1, o_dup), (2, o_get 18), (5, o_push 1 (.int 1)), (6, o_iop (fun x y => x + y)), (7, o_put 18 1), (10, o_aload 0 1), (11, o_aload 1 1), (12, o_aload 0 1), (13, o_get 19), (16, o_aload 0 1), (17, o_get 20), (20, o_cv [(3, 44)] 3 3 true none), (23, o_push 1 (.int 1)), (24, o_ret 5)]])
abbrev cJ2_add_2 : ByteArray := prog_56_method_24_code
def yJ2_add_2 : MethodName := ⟨RJ2, "add", "(Ljava/lang/Object;[Ljava/lang/Object;I)V"⟩
def I44 : Mi := ("java/util/ArrayList", (cJ2_add_2, (4, ([], ((Option.none : Option Jvm.ClassFile.FieldType), false)))))
def K44 : Mt := (([0, 0, 0, 1], 4), lk2 [[(0, o_iload 3 1), (1, o_aload 2 1), (2, o_alen), (3, o_icmp (fun x y => decide (¬ x = y)) 11), (6, o_aload 0 1), (7, o_cv [(3, 45)] 0 3 false none), (10, o_astore 2 1), (11, o_aload 2 1), (12, o_iload 3 1), (13, o_aload 1 1), (14, o_wrQ 5 [0, 1, 2, 3, 4, 5, 6, 7, 8, 9, 10, 11, 12, 13, 14, 15, 16, 17, 18, 19, 20, 21, 22, 23, 24, 25, 26, 27, 28, 29, 30, 31, 32, 33, 34]), (15, o_aload 0 1), (16, o_iload 3 1), (17, o_push 1 (.int 1)), (18, o_iop (fun x y => x + y)), (19, o_put 20 1), (22, o_vret)]])
abbrev cJ2_grow : ByteArray := prog_56_method_7_code
def yJ2_grow : MethodName := ⟨RJ2, "grow", "()[Ljava/lang/Object;"⟩
def I45 : Mi := ("java/util/ArrayList", (cJ2_grow, (1, ([], ((Option.some (Jvm.ClassFile.FieldType.array (Jvm.ClassFile.FieldType.object "java/lang/Object"))), false)))))
def K45 : Mt := (([0], 1), lk2 [[(0, o_aload 0 1), (1, o_aload 0 1), (2, o_get 20), (5, o_push 1 (.int 1)), (6, o_iop (fun x y => x + y)), (7, o_cv [(3, 46)] 1 3 false none), (10, o_ret 0)]])
abbrev cJ2_grow_2 : ByteArray := prog_56_method_6_code
def yJ2_grow_2 : MethodName := ⟨RJ2, "grow", "(I)[Ljava/lang/Object;"⟩
def I46 : Mi := ("java/util/ArrayList", (cJ2_grow_2, (4, ([], ((Option.some (Jvm.ClassFile.FieldType.array (Jvm.ClassFile.FieldType.object "java/lang/Object"))), false)))))
def K46 : Mt := (([0, 1], 4), lk2 [[(0, o_aload 0 1), (1, o_get 19), (4, o_alen), (5, o_istore 2 1), (6, o_iload 2 1), (7, o_if (fun x => decide (0 < x)) 20), (10, o_aload 0 1), (11, o_get 19), (17, o_acmp true 45), (20, o_iload 2 1), (21, o_iload 1 1), (22, o_iload 2 1), (23, o_iop (fun x y => x - y)), (24, o_iload 2 1), (25, o_push 1 (.int 1)), (26, o_iop (fun x y => x >>> (y &&& 31))), (27, o_cs 2 3 false none), (30, o_istore 3 1), (31, o_aload 0 1), (32, o_aload 0 1), (33, o_get 19), (36, o_iload 3 1), (37, o_cs 13 2 false none), (40, o_dupx1), (41, o_put 19 0), (44, o_ret 0), (45, o_aload 0 1), (46, o_push 2 (.int 10)), (48, o_iload 1 1), (49, o_cs 6 2 false none), (52, o_newa 5 3), (55, o_dupx1), (56, o_put 19 0), (59, o_ret 0)]])
abbrev cJ2_get : ByteArray := prog_56_method_20_code
def yJ2_get : MethodName := ⟨RJ2, "get", "(I)Ljava/lang/Object;"⟩
def I47 : Mi := ("java/util/ArrayList", (cJ2_get, (2, ([], ((Option.some (Jvm.ClassFile.FieldType.object "java/lang/Object")), false)))))
def K47 : Mt := (([0, 1], 2), lk2 [[(0, o_iload 1 1), (1, o_aload 0 1), (2, o_get 20), (5, o_cs 70 2 false none), (8, o_pop), (9, o_aload 0 1), (10, o_iload 1 1), (11, o_cv [(3, 48)] 1 3 false none), (14, o_ret 0)]])
abbrev cJ2_elementData : ByteArray := prog_56_method_18_code
def yJ2_elementData : MethodName := ⟨RJ2, "elementData", "(I)Ljava/lang/Object;"⟩
def I48 : Mi := ("java/util/ArrayList", (cJ2_elementData, (2, ([], ((Option.some (Jvm.ClassFile.FieldType.object "java/lang/Object")), false)))))
def K48 : Mt := (([0, 1], 2), lk2 [[(0, o_aload 0 1), (1, o_get 19), (4, o_iload 1 1), (5, o_rdQ), (6, o_ret 0)]])
abbrev cJ23_init : ByteArray := prog_57_method_1_code
def yJ23_init : MethodName := ⟨RJ23, "<init>", "(Ljava/util/ArrayList;)V"⟩
def I49 : Mi := ("java/util/ArrayList$Itr", (cJ23_init, (2, ([], ((Option.none : Option Jvm.ClassFile.FieldType), true)))))
def K49 : Mt := (([0, 0], 2), lk2 [[(0, o_aload 0 1), (1, o_aload 1 1), (2, o_put 40 0), (5, o_aload 0 1), (6, o_oi), (9, o_aload 0 1), (10, o_push 1 (.int (-1))), (11, o_put 38 1), (14, o_aload 0 1), (15, o_aload 0 1), (16, o_get 40), (19, o_get 18), (22, o_put 39 1), (25, o_vret)]])
abbrev cJ23_hasNext : ByteArray := prog_57_method_2_code
def yJ23_hasNext : MethodName := ⟨RJ23, "hasNext", "()Z"⟩
def I50 : Mi := ("java/util/ArrayList$Itr", (cJ23_hasNext, (1, ([], ((Option.some Jvm.ClassFile.FieldType.boolean), false)))))
def K50 : Mt := (([0], 1), lk2 [[(0, o_aload 0 1), (1, o_get 37), (4, o_aload 0 1), (5, o_get 40), (8, o_get 20), (11, o_icmp (fun x y => decide (x = y)) 18), (14, o_push 1 (.int 1)), (15, o_goto 19), (18, o_push 1 (.int 0)), (19, o_ret 5)]])
abbrev cJ23_next : ByteArray := prog_57_method_3_code
def yJ23_next : MethodName := ⟨RJ23, "next", "()Ljava/lang/Object;"⟩
def I51 : Mi := ("java/util/ArrayList$Itr", (cJ23_next, (3, ([], ((Option.some (Jvm.ClassFile.FieldType.object "java/lang/Object")), false)))))
def K51 : Mt := (([0], 3), lk2 [[(0, o_aload 0 1), (1, o_cv [(7, 52)] 0 3 true none), (4, o_aload 0 1), (5, o_get 37), (8, o_istore 1 1), (9, o_iload 1 1), (10, o_aload 0 1), (11, o_get 40), (14, o_get 20), (17, o_icmp (fun x y => decide (x < y)) 28), (23, o_dup), (28, o_aload 0 1), (29, o_get 40), (32, o_get 19), (35, o_astore 2 1), (36, o_iload 1 1), (37, o_aload 2 1), (38, o_alen), (39, o_icmp (fun x y => decide (x < y)) 50), (45, o_dup), (50, o_aload 0 1), (51, o_iload 1 1), (52, o_push 1 (.int 1)), (53, o_iop (fun x y => x + y)), (54, o_put 37 1), (57, o_aload 2 1), (58, o_aload 0 1), (59, o_iload 1 1), (60, o_dupx1), (61, o_put 38 1)],
  [(64, o_rdQ), (65, o_ret 0)]])
abbrev cJ23_checkForComodification : ByteArray := prog_57_method_6_code
def yJ23_checkForComodification : MethodName := ⟨RJ23, "checkForComodification", "()V"⟩
def I52 : Mi := ("java/util/ArrayList$Itr", (cJ23_checkForComodification, (1, ([], ((Option.none : Option Jvm.ClassFile.FieldType), false)))))
def K52 : Mt := (([0], 1), lk2 [[(0, o_aload 0 1), (1, o_get 40), (4, o_get 18), (7, o_aload 0 1), (8, o_get 39), (11, o_icmp (fun x y => decide (x = y)) 22), (17, o_dup), (22, o_vret)]])
abbrev cJ25_successor : ByteArray := prog_82_method_74_code
def yJ25_successor : MethodName := ⟨RJ25, "successor", "(Ljava/util/TreeMap$Entry;)Ljava/util/TreeMap$Entry;"⟩
def I53 : Mi := ("java/util/TreeMap", (cJ25_successor, (3, ([], ((Option.some (Jvm.ClassFile.FieldType.object "java/util/TreeMap$Entry")), false)))))
def K53 : Mt := (([0], 3), lk2 [[(0, o_aload 0 1), (1, o_ifnonnull 6), (4, o_push 1 .null), (5, o_ret 0), (6, o_aload 0 1), (7, o_get 113), (10, o_ifnull 35), (13, o_aload 0 1), (14, o_get 113), (17, o_astore 1 1), (18, o_aload 1 1), (19, o_get 112), (22, o_ifnull 33), (25, o_aload 1 1), (26, o_get 112), (29, o_astore 1 1), (30, o_goto 18), (33, o_aload 1 1), (34, o_ret 0), (35, o_aload 0 1), (36, o_get 114), (39, o_astore 1 1), (40, o_aload 0 1), (41, o_astore 2 1), (42, o_aload 1 1), (43, o_ifnull 64), (46, o_aload 2 1), (47, o_aload 1 1), (48, o_get 113), (51, o_acmp false 64), (54, o_aload 1 1), (55, o_astore 2 1), (56, o_aload 1 1), (57, o_get 114), (60, o_astore 1 1), (61, o_goto 42)],
  [(64, o_aload 1 1), (65, o_ret 0)]])
abbrev cJ25_init : ByteArray := prog_82_method_1_code
def yJ25_init : MethodName := ⟨RJ25, "<init>", "()V"⟩
def I54 : Mi := ("java/util/TreeMap", (cJ25_init, (1, ([], ((Option.none : Option Jvm.ClassFile.FieldType), true)))))
def K54 : Mt := (([0], 1), lk2 [[(0, o_aload 0 1), (1, o_ci 27 0), (4, o_aload 0 1), (5, o_push 1 (.int 0)), (6, o_put 104 1), (9, o_aload 0 1), (10, o_push 1 (.int 0)), (11, o_put 105 1), (14, o_aload 0 1), (15, o_push 1 .null), (16, o_put 102 0), (19, o_vret)]])
abbrev cJ25_put : ByteArray := prog_82_method_21_code
def yJ25_put : MethodName := ⟨RJ25, "put", "(Ljava/lang/Object;Ljava/lang/Object;)Ljava/lang/Object;"⟩
def I55 : Mi := ("java/util/TreeMap", (cJ25_put, (3, ([], ((Option.some (Jvm.ClassFile.FieldType.object "java/lang/Object")), false)))))
def K55 : Mt := (([0, 0, 0], 3), lk2 [[(0, o_aload 0 1), (1, o_aload 1 1), (2, o_aload 2 1), (3, o_push 1 (.int 1)), (4, o_cv [(20, 56)] 3 3 false none), (7, o_ret 0)]])
abbrev cJ25_put_2 : ByteArray := prog_82_method_31_code
def yJ25_put_2 : MethodName := ⟨RJ25, "put", "(Ljava/lang/Object;Ljava/lang/Object;Z)Ljava/lang/Object;"⟩
def I56 : Mi := ("java/util/TreeMap", (cJ25_put_2, (10, ([], ((Option.some (Jvm.ClassFile.FieldType.object "java/lang/Object")), false)))))
def K56 : Mt := (([0, 0, 0, 1], 10), lk2 [[(0, o_aload 0 1), (1, o_get 103), (4, o_astore 4 2), (6, o_aload 4 2), (8, o_ifnonnull 19), (11, o_aload 0 1), (12, o_aload 1 1), (13, o_aload 2 1), (14, o_cv [(20, 57)] 2 3 true none), (17, o_push 1 .null), (18, o_ret 0), (19, o_aload 0 1), (20, o_get 102), (23, o_astore 7 2), (25, o_aload 7 2), (27, o_ifnull 112), (30, o_aload 4 2), (32, o_astore 6 2), (34, o_aload 7 2), (36, o_aload 1 1), (37, o_aload 4 2), (39, o_get 110), (42, o_cv [(19, 239)] 2 5 false none), (47, o_istore 5 2), (49, o_iload 5 2), (51, o_if (fun x => decide (0 ≤ x)) 64), (54, o_aload 4 2), (56, o_get 112), (59, o_astore 4 2), (61, o_goto 104)],
  [(64, o_iload 5 2), (66, o_if (fun x => decide (x ≤ 0)) 79), (69, o_aload 4 2), (71, o_get 113), (74, o_astore 4 2), (76, o_goto 104), (79, o_aload 4 2), (81, o_get 111), (84, o_astore 8 2), (86, o_iload 3 1), (87, o_if (fun x => decide (¬ x = 0)) 95), (90, o_aload 8 2), (92, o_ifnonnull 101), (95, o_aload 4 2), (97, o_aload 2 1), (98, o_put 111 0), (101, o_aload 8 2), (103, o_ret 0), (104, o_aload 4 2), (106, o_ifnonnull 30), (109, o_goto 201), (112, o_aload 1 1), (113, o_cs 71 1 false none), (116, o_pop), (117, o_aload 1 1), (118, o_cast [4, 5, 21]), (121, o_astore 8 2), (123, o_aload 4 2), (125, o_astore 6 2), (127, o_aload 8 2)],
  [(129, o_aload 4 2), (131, o_get 110), (134, o_cvs [(21, 22)] 1 5 false), (139, o_istore 5 2), (141, o_iload 5 2), (143, o_if (fun x => decide (0 ≤ x)) 156), (146, o_aload 4 2), (148, o_get 112), (151, o_astore 4 2), (153, o_goto 196), (156, o_iload 5 2), (158, o_if (fun x => decide (x ≤ 0)) 171), (161, o_aload 4 2), (163, o_get 113), (166, o_astore 4 2), (168, o_goto 196), (171, o_aload 4 2), (173, o_get 111), (176, o_astore 9 2), (178, o_iload 3 1), (179, o_if (fun x => decide (¬ x = 0)) 187), (182, o_aload 9 2), (184, o_ifnonnull 193), (187, o_aload 4 2), (189, o_aload 2 1), (190, o_put 111 0)],
  [(193, o_aload 9 2), (195, o_ret 0), (196, o_aload 4 2), (198, o_ifnonnull 123), (201, o_aload 0 1), (202, o_aload 1 1), (203, o_aload 2 1), (204, o_aload 6 2), (206, o_iload 5 2), (208, o_if (fun x => decide (0 ≤ x)) 215), (211, o_push 1 (.int 1)), (212, o_goto 216), (215, o_push 1 (.int 0)), (216, o_cv [(20, 59)] 4 3 true none), (219, o_push 1 .null), (220, o_ret 0)]])
abbrev cJ25_addEntryToEmptyMap : ByteArray := prog_82_method_30_code
def yJ25_addEntryToEmptyMap : MethodName := ⟨RJ25, "addEntryToEmptyMap", "(Ljava/lang/Object;Ljava/lang/Object;)V"⟩
def I57 : Mi := ("java/util/TreeMap", (cJ25_addEntryToEmptyMap, (3, ([], ((Option.none : Option Jvm.ClassFile.FieldType), false)))))
def K57 : Mt := (([0, 0, 0], 3), lk2 [[(0, o_aload 0 1), (1, o_aload 1 1), (2, o_aload 1 1), (3, o_cv [(20, 58)] 2 3 false none), (6, o_pop), (7, o_aload 0 1), (8, o_new 22 6 dv22), (11, o_dup), (12, o_aload 1 1), (13, o_aload 2 1), (14, o_push 1 .null), (15, o_ci 83 3), (18, o_put 103 0), (21, o_aload 0 1), (22, o_push 1 (.int 1)), (23, o_put 104 1), (26, o_aload 0 1), (27, o_dup), (28, o_get 105), (31, o_push 1 (.int 1)), (32, o_iop (fun x y => x + y)), (33, o_put 105 1), (36, o_vret)]])
abbrev cJ25_compare : ByteArray := prog_82_method_67_code
def yJ25_compare : MethodName := ⟨RJ25, "compare", "(Ljava/lang/Object;Ljava/lang/Object;)I"⟩
def I58 : Mi := ("java/util/TreeMap", (cJ25_compare, (3, ([], ((Option.some Jvm.ClassFile.FieldType.int), false)))))
def K58 : Mt := (([0, 0, 0], 3), lk2 [[(0, o_aload 0 1), (1, o_get 102), (4, o_ifnonnull 20), (7, o_aload 1 1), (8, o_cast [4, 5, 21]), (11, o_aload 2 1), (12, o_cvs [(21, 22)] 1 5 false), (17, o_goto 31), (20, o_aload 0 1), (21, o_get 102), (24, o_aload 1 1), (25, o_aload 2 1), (26, o_cv [(19, 239)] 2 5 false none), (31, o_ret 1)]])
abbrev cJ25_addEntry : ByteArray := prog_82_method_29_code
def yJ25_addEntry : MethodName := ⟨RJ25, "addEntry", "(Ljava/lang/Object;Ljava/lang/Object;Ljava/util/TreeMap$Entry;Z)V"⟩
def I59 : Mi := ("java/util/TreeMap", (cJ25_addEntry, (6, ([], ((Option.none : Option Jvm.ClassFile.FieldType), false)))))
def K59 : Mt := (([0, 0, 0, 0, 1], 6), lk2 [[(0, o_new 22 6 dv22), (3, o_dup), (4, o_aload 1 1), (5, o_aload 2 1), (6, o_aload 3 1), (7, o_ci 83 3), (10, o_astore 5 2), (12, o_iload 4 2), (14, o_if (fun x => decide (x = 0)) 26), (17, o_aload 3 1), (18, o_aload 5 2), (20, o_put 112 0), (23, o_goto 32), (26, o_aload 3 1), (27, o_aload 5 2), (29, o_put 113 0), (32, o_aload 0 1), (33, o_aload 5 2), (35, o_cv [(20, 60)] 1 3 true none), (38, o_aload 0 1), (39, o_dup), (40, o_get 104), (43, o_push 1 (.int 1)), (44, o_iop (fun x y => x + y)), (45, o_put 104 1), (48, o_aload 0 1), (49, o_dup), (50, o_get 105), (53, o_push 1 (.int 1)), (54, o_iop (fun x y => x + y)), (55, o_put 105 1), (58, o_vret)]])
abbrev cJ25_fixAfterInsertion : ByteArray := prog_82_method_83_code
def yJ25_fixAfterInsertion : MethodName := ⟨RJ25, "fixAfterInsertion", "(Ljava/util/TreeMap$Entry;)V"⟩
def I60 : Mi := ("java/util/TreeMap", (cJ25_fixAfterInsertion, (3, ([], ((Option.none : Option Jvm.ClassFile.FieldType), false)))))
def K60 : Mt := (([0, 0], 3), lk2 [[(0, o_aload 1 1), (1, o_push 1 (.int 0)), (2, o_put 115 5), (5, o_aload 1 1), (6, o_ifnull 258), (9, o_aload 1 1), (10, o_aload 0 1), (11, o_get 103), (14, o_acmp true 258), (17, o_aload 1 1), (18, o_get 114), (21, o_get 115), (24, o_if (fun x => decide (¬ x = 0)) 258), (27, o_aload 1 1), (28, o_cs 61 1 false none), (31, o_aload 1 1), (32, o_cs 61 1 false none), (35, o_cs 61 1 false none), (38, o_cs 62 1 false none), (41, o_acmp false 151), (44, o_aload 1 1), (45, o_cs 61 1 false none), (48, o_cs 61 1 false none), (51, o_cs 63 1 false none), (54, o_astore 2 1), (55, o_aload 2 1), (56, o_cs 64 1 false none), (59, o_if (fun x => decide (¬ x = 0)) 97), (62, o_aload 1 1), (63, o_cs 61 1 false none)],
  [(66, o_push 1 (.int 1)), (67, o_cs 65 2 true none), (70, o_aload 2 1), (71, o_push 1 (.int 1)), (72, o_cs 65 2 true none), (75, o_aload 1 1), (76, o_cs 61 1 false none), (79, o_cs 61 1 false none), (82, o_push 1 (.int 0)), (83, o_cs 65 2 true none), (86, o_aload 1 1), (87, o_cs 61 1 false none), (90, o_cs 61 1 false none), (93, o_astore 1 1), (94, o_goto 148), (97, o_aload 1 1), (98, o_aload 1 1), (99, o_cs 61 1 false none), (102, o_cs 63 1 false none), (105, o_acmp false 118), (108, o_aload 1 1), (109, o_cs 61 1 false none), (112, o_astore 1 1), (113, o_aload 0 1), (114, o_aload 1 1), (115, o_cv [(20, 66)] 1 3 true none), (118, o_aload 1 1), (119, o_cs 61 1 false none), (122, o_push 1 (.int 1)), (123, o_cs 65 2 true none), (126, o_aload 1 1), (127, o_cs 61 1 false none)],
  [(130, o_cs 61 1 false none), (133, o_push 1 (.int 0)), (134, o_cs 65 2 true none), (137, o_aload 0 1), (138, o_aload 1 1), (139, o_cs 61 1 false none), (142, o_cs 61 1 false none), (145, o_cv [(20, 67)] 1 3 true none), (148, o_goto 5), (151, o_aload 1 1), (152, o_cs 61 1 false none), (155, o_cs 61 1 false none), (158, o_cs 62 1 false none), (161, o_astore 2 1), (162, o_aload 2 1), (163, o_cs 64 1 false none), (166, o_if (fun x => decide (¬ x = 0)) 204), (169, o_aload 1 1), (170, o_cs 61 1 false none), (173, o_push 1 (.int 1)), (174, o_cs 65 2 true none), (177, o_aload 2 1), (178, o_push 1 (.int 1)), (179, o_cs 65 2 true none), (182, o_aload 1 1), (183, o_cs 61 1 false none), (186, o_cs 61 1 false none), (189, o_push 1 (.int 0)), (190, o_cs 65 2 true none)],
  [(193, o_aload 1 1), (194, o_cs 61 1 false none), (197, o_cs 61 1 false none), (200, o_astore 1 1), (201, o_goto 255), (204, o_aload 1 1), (205, o_aload 1 1), (206, o_cs 61 1 false none), (209, o_cs 62 1 false none), (212, o_acmp false 225), (215, o_aload 1 1), (216, o_cs 61 1 false none), (219, o_astore 1 1), (220, o_aload 0 1), (221, o_aload 1 1), (222, o_cv [(20, 67)] 1 3 true none), (225, o_aload 1 1), (226, o_cs 61 1 false none), (229, o_push 1 (.int 1)), (230, o_cs 65 2 true none), (233, o_aload 1 1), (234, o_cs 61 1 false none), (237, o_cs 61 1 false none), (240, o_push 1 (.int 0)), (241, o_cs 65 2 true none), (244, o_aload 0 1), (245, o_aload 1 1), (246, o_cs 61 1 false none), (249, o_cs 61 1 false none), (252, o_cv [(20, 66)] 1 3 true none), (255, o_goto 5)],
  [(258, o_aload 0 1), (259, o_get 103), (262, o_push 1 (.int 1)), (263, o_put 115 5), (266, o_vret)]])
abbrev cJ25_parentOf : ByteArray := prog_82_method_77_code
def yJ25_parentOf : MethodName := ⟨RJ25, "parentOf", "(Ljava/util/TreeMap$Entry;)Ljava/util/TreeMap$Entry;"⟩
def I61 : Mi := ("java/util/TreeMap", (cJ25_parentOf, (1, ([], ((Option.some (Jvm.ClassFile.FieldType.object "java/util/TreeMap$Entry")), false)))))
def K61 : Mt := (([0], 1), lk2 [[(0, o_aload 0 1), (1, o_ifnonnull 8), (4, o_push 1 .null), (5, o_goto 12), (8, o_aload 0 1), (9, o_get 114), (12, o_ret 0)]])
abbrev cJ25_leftOf : ByteArray := prog_82_method_79_code
def yJ25_leftOf : MethodName := ⟨RJ25, "leftOf", "(Ljava/util/TreeMap$Entry;)Ljava/util/TreeMap$Entry;"⟩
def I62 : Mi := ("java/util/TreeMap", (cJ25_leftOf, (1, ([], ((Option.some (Jvm.ClassFile.FieldType.object "java/util/TreeMap$Entry")), false)))))
def K62 : Mt := (([0], 1), lk2 [[(0, o_aload 0 1), (1, o_ifnonnull 8), (4, o_push 1 .null), (5, o_goto 12), (8, o_aload 0 1), (9, o_get 112), (12, o_ret 0)]])
abbrev cJ25_rightOf : ByteArray := prog_82_method_80_code
def yJ25_rightOf : MethodName := ⟨RJ25, "rightOf", "(Ljava/util/TreeMap$Entry;)Ljava/util/TreeMap$Entry;"⟩
def I63 : Mi := ("java/util/TreeMap", (cJ25_rightOf, (1, ([], ((Option.some (Jvm.ClassFile.FieldType.object "java/util/TreeMap$Entry")), false)))))
def K63 : Mt := (([0], 1), lk2 [[(0, o_aload 0 1), (1, o_ifnonnull 8), (4, o_push 1 .null), (5, o_goto 12), (8, o_aload 0 1), (9, o_get 113), (12, o_ret 0)]])
abbrev cJ25_colorOf : ByteArray := prog_82_method_76_code
def yJ25_colorOf : MethodName := ⟨RJ25, "colorOf", "(Ljava/util/TreeMap$Entry;)Z"⟩
def I64 : Mi := ("java/util/TreeMap", (cJ25_colorOf, (1, ([], ((Option.some Jvm.ClassFile.FieldType.boolean), false)))))
def K64 : Mt := (([0], 1), lk2 [[(0, o_aload 0 1), (1, o_ifnonnull 8), (4, o_push 1 (.int 1)), (5, o_goto 12), (8, o_aload 0 1), (9, o_get 115), (12, o_ret 5)]])
abbrev cJ25_setColor : ByteArray := prog_82_method_78_code
def yJ25_setColor : MethodName := ⟨RJ25, "setColor", "(Ljava/util/TreeMap$Entry;Z)V"⟩
def I65 : Mi := ("java/util/TreeMap", (cJ25_setColor, (2, ([], ((Option.none : Option Jvm.ClassFile.FieldType), false)))))
def K65 : Mt := (([0, 1], 2), lk2 [[(0, o_aload 0 1), (1, o_ifnull 9), (4, o_aload 0 1), (5, o_iload 1 1), (6, o_put 115 5), (9, o_vret)]])
abbrev cJ25_rotateLeft : ByteArray := prog_82_method_81_code
def yJ25_rotateLeft : MethodName := ⟨RJ25, "rotateLeft", "(Ljava/util/TreeMap$Entry;)V"⟩
def I66 : Mi := ("java/util/TreeMap", (cJ25_rotateLeft, (3, ([], ((Option.none : Option Jvm.ClassFile.FieldType), false)))))
def K66 : Mt := (([0, 0], 3), lk2 [[(0, o_aload 1 1), (1, o_ifnull 95), (4, o_aload 1 1), (5, o_get 113), (8, o_astore 2 1), (9, o_aload 1 1), (10, o_aload 2 1), (11, o_get 112), (14, o_put 113 0), (17, o_aload 2 1), (18, o_get 112), (21, o_ifnull 32), (24, o_aload 2 1), (25, o_get 112), (28, o_aload 1 1), (29, o_put 114 0), (32, o_aload 2 1), (33, o_aload 1 1), (34, o_get 114), (37, o_put 114 0), (40, o_aload 1 1), (41, o_get 114), (44, o_ifnonnull 55), (47, o_aload 0 1), (48, o_aload 2 1), (49, o_put 103 0), (52, o_goto 85), (55, o_aload 1 1), (56, o_get 114), (59, o_get 112), (62, o_aload 1 1), (63, o_acmp false 77)],
  [(66, o_aload 1 1), (67, o_get 114), (70, o_aload 2 1), (71, o_put 112 0), (74, o_goto 85), (77, o_aload 1 1), (78, o_get 114), (81, o_aload 2 1), (82, o_put 113 0), (85, o_aload 2 1), (86, o_aload 1 1), (87, o_put 112 0), (90, o_aload 1 1), (91, o_aload 2 1), (92, o_put 114 0), (95, o_vret)]])
abbrev cJ25_rotateRight : ByteArray := prog_82_method_82_code
def yJ25_rotateRight : MethodName := ⟨RJ25, "rotateRight", "(Ljava/util/TreeMap$Entry;)V"⟩
def I67 : Mi := ("java/util/TreeMap", (cJ25_rotateRight, (3, ([], ((Option.none : Option Jvm.ClassFile.FieldType), false)))))
def K67 : Mt := (([0, 0], 3), lk2 [[(0, o_aload 1 1), (1, o_ifnull 95), (4, o_aload 1 1), (5, o_get 112), (8, o_astore 2 1), (9, o_aload 1 1), (10, o_aload 2 1), (11, o_get 113), (14, o_put 112 0), (17, o_aload 2 1), (18, o_get 113), (21, o_ifnull 32), (24, o_aload 2 1), (25, o_get 113), (28, o_aload 1 1), (29, o_put 114 0), (32, o_aload 2 1), (33, o_aload 1 1), (34, o_get 114), (37, o_put 114 0), (40, o_aload 1 1), (41, o_get 114), (44, o_ifnonnull 55), (47, o_aload 0 1), (48, o_aload 2 1), (49, o_put 103 0), (52, o_goto 85), (55, o_aload 1 1), (56, o_get 114), (59, o_get 113), (62, o_aload 1 1), (63, o_acmp false 77)],
  [(66, o_aload 1 1), (67, o_get 114), (70, o_aload 2 1), (71, o_put 113 0), (74, o_goto 85), (77, o_aload 1 1), (78, o_get 114), (81, o_aload 2 1), (82, o_put 112 0), (85, o_aload 2 1), (86, o_aload 1 1), (87, o_put 113 0), (90, o_aload 1 1), (91, o_aload 2 1), (92, o_put 114 0), (95, o_vret)]])
abbrev cJ25_values : ByteArray := prog_82_method_52_code
def yJ25_values : MethodName := ⟨RJ25, "values", "()Ljava/util/Collection;"⟩
def I68 : Mi := ("java/util/TreeMap", (cJ25_values, (2, ([], ((Option.some (Jvm.ClassFile.FieldType.object "java/util/Collection")), false)))))
def K68 : Mt := (([0], 2), lk2 [[(0, o_aload 0 1), (1, o_get 30), (4, o_astore 1 1), (5, o_aload 1 1), (6, o_ifnonnull 23), (9, o_new 23 1 dv23), (12, o_dup), (13, o_aload 0 1), (14, o_ci 84 1), (17, o_astore 1 1), (18, o_aload 0 1), (19, o_aload 1 1), (20, o_put 30 0), (23, o_aload 1 1), (24, o_ret 0)]])
abbrev cJ25_getFirstEntry : ByteArray := prog_82_method_72_code
def yJ25_getFirstEntry : MethodName := ⟨RJ25, "getFirstEntry", "()Ljava/util/TreeMap$Entry;"⟩
def I69 : Mi := ("java/util/TreeMap", (cJ25_getFirstEntry, (2, ([], ((Option.some (Jvm.ClassFile.FieldType.object "java/util/TreeMap$Entry")), false)))))
def K69 : Mt := (([0], 2), lk2 [[(0, o_aload 0 1), (1, o_get 103), (4, o_astore 1 1), (5, o_aload 1 1), (6, o_ifnull 24), (9, o_aload 1 1), (10, o_get 112), (13, o_ifnull 24), (16, o_aload 1 1), (17, o_get 112), (20, o_astore 1 1), (21, o_goto 9), (24, o_aload 1 1), (25, o_ret 0)]])
abbrev cJ26_checkIndex : ByteArray := prog_73_method_17_code
def yJ26_checkIndex : MethodName := ⟨RJ26, "checkIndex", "(II)I"⟩
def I70 : Mi := ("java/util/Objects", (cJ26_checkIndex, (2, ([], ((Option.some Jvm.ClassFile.FieldType.int), false)))))
def K70 : Mt := (([1, 1], 2), lk2 [[(0, o_iload 0 1), (1, o_iload 1 1), (2, o_push 1 .null), (3, o_cs 15 3 false none), (6, o_ret 1)]])
abbrev cJ26_requireNonNull : ByteArray := prog_73_method_10_code
def yJ26_requireNonNull : MethodName := ⟨RJ26, "requireNonNull", "(Ljava/lang/Object;)Ljava/lang/Object;"⟩
def I71 : Mi := ("java/util/Objects", (cJ26_requireNonNull, (1, ([], ((Option.some (Jvm.ClassFile.FieldType.object "java/lang/Object")), false)))))
def K71 : Mt := (([0], 1), lk2 [[(0, o_aload 0 1), (1, o_ifnonnull 12), (7, o_dup), (12, o_aload 0 1), (13, o_ret 0)]])
abbrev cJ27_init : ByteArray := prog_53_method_1_code
def yJ27_init : MethodName := ⟨RJ27, "<init>", "()V"⟩
def I72 : Mi := ("java/util/AbstractQueue", (cJ27_init, (1, ([], ((Option.none : Option Jvm.ClassFile.FieldType), true)))))
def K72 : Mt := (([0], 1), lk2 [[(0, o_aload 0 1), (1, o_ci 0 0), (4, o_vret)]])
abbrev cJ28_init : ByteArray := prog_74_method_4_code
def yJ28_init : MethodName := ⟨RJ28, "<init>", "(ILjava/util/Comparator;)V"⟩
def I73 : Mi := ("java/util/PriorityQueue", (cJ28_init, (3, ([], ((Option.none : Option Jvm.ClassFile.FieldType), true)))))
def K73 : Mt := (([0, 1, 0], 3), lk2 [[(0, o_aload 0 1), (1, o_ci 72 0), (4, o_iload 1 1), (5, o_push 1 (.int 1)), (6, o_icmp (fun x y => decide (y ≤ x)) 17), (12, o_dup), (17, o_aload 0 1), (18, o_iload 1 1), (19, o_newa 5 3), (22, o_put 97 0), (25, o_aload 0 1), (26, o_aload 2 1), (27, o_put 99 0), (30, o_vret)]])
abbrev cJ28_add : ByteArray := prog_74_method_13_code
def yJ28_add : MethodName := ⟨RJ28, "add", "(Ljava/lang/Object;)Z"⟩
def I74 : Mi := ("java/util/PriorityQueue", (cJ28_add, (2, ([], ((Option.some Jvm.ClassFile.FieldType.boolean), false)))))
def K74 : Mt := (([0, 0], 2), lk2 [[(0, o_aload 0 1), (1, o_aload 1 1), (2, o_cv [(18, 75)] 1 3 false none), (5, o_ret 5)]])
abbrev cJ28_offer : ByteArray := prog_74_method_14_code
def yJ28_offer : MethodName := ⟨RJ28, "offer", "(Ljava/lang/Object;)Z"⟩
def I75 : Mi := ("java/util/PriorityQueue", (cJ28_offer, (3, ([], ((Option.some Jvm.ClassFile.FieldType.boolean), false)))))
def K75 : Mt := (([0, 0], 3), lk2 [[(0, o_aload 1 1), (1, o_ifnonnull 12), (7, o_dup), (12, o_aload 0 1), (13, o_dup), (14, o_get 100), (17, o_push 1 (.int 1)), (18, o_iop (fun x y => x + y)), (19, o_put 100 1), (22, o_aload 0 1), (23, o_get 98), (26, o_istore 2 1), (27, o_iload 2 1), (28, o_aload 0 1), (29, o_get 97), (32, o_alen), (33, o_icmp (fun x y => decide (x < y)) 43), (36, o_aload 0 1), (37, o_iload 2 1), (38, o_push 1 (.int 1)), (39, o_iop (fun x y => x + y)), (40, o_cv [(18, 76)] 1 3 true none), (43, o_aload 0 1), (44, o_iload 2 1), (45, o_aload 1 1), (46, o_cv [(18, 77)] 2 3 true none), (49, o_aload 0 1), (50, o_iload 2 1), (51, o_push 1 (.int 1)), (52, o_iop (fun x y => x + y)), (53, o_put 98 1), (56, o_push 1 (.int 1)), (57, o_ret 5)]])
abbrev cJ28_grow : ByteArray := prog_74_method_12_code
def yJ28_grow : MethodName := ⟨RJ28, "grow", "(I)V"⟩
def I76 : Mi := ("java/util/PriorityQueue", (cJ28_grow, (4, ([], ((Option.none : Option Jvm.ClassFile.FieldType), false)))))
def K76 : Mt := (([0, 1], 4), lk2 [[(0, o_aload 0 1), (1, o_get 97), (4, o_alen), (5, o_istore 2 1), (6, o_iload 2 1), (7, o_iload 1 1), (8, o_iload 2 1), (9, o_iop (fun x y => x - y)), (10, o_iload 2 1), (11, o_push 2 (.int 64)), (13, o_icmp (fun x y => decide (y ≤ x)) 22), (16, o_iload 2 1), (17, o_push 1 (.int 2)), (18, o_iop (fun x y => x + y)), (19, o_goto 25), (22, o_iload 2 1), (23, o_push 1 (.int 1)), (24, o_iop (fun x y => x >>> (y &&& 31))), (25, o_cs 2 3 false none), (28, o_istore 3 1), (29, o_aload 0 1), (30, o_aload 0 1), (31, o_get 97), (34, o_iload 3 1), (35, o_cs 13 2 false none), (38, o_put 97 0), (41, o_vret)]])
abbrev cJ28_siftUp : ByteArray := prog_74_method_27_code
def yJ28_siftUp : MethodName := ⟨RJ28, "siftUp", "(ILjava/lang/Object;)V"⟩
def I77 : Mi := ("java/util/PriorityQueue", (cJ28_siftUp, (3, ([], ((Option.none : Option Jvm.ClassFile.FieldType), false)))))
def K77 : Mt := (([0, 1, 0], 3), lk2 [[(0, o_aload 0 1), (1, o_get 99), (4, o_ifnull 23), (7, o_iload 1 1), (8, o_aload 2 1), (9, o_aload 0 1), (10, o_get 97), (13, o_aload 0 1), (14, o_get 99), (17, o_cs 78 4 true none), (20, o_goto 32), (23, o_iload 1 1), (24, o_aload 2 1), (25, o_aload 0 1), (26, o_get 97), (32, o_vret)]])
abbrev cJ28_siftUpUsingComparator : ByteArray := prog_74_method_29_code
def yJ28_siftUpUsingComparator : MethodName := ⟨RJ28, "siftUpUsingComparator", "(ILjava/lang/Object;[Ljava/lang/Object;Ljava/util/Comparator;)V"⟩
def I78 : Mi := ("java/util/PriorityQueue", (cJ28_siftUpUsingComparator, (6, ([], ((Option.none : Option Jvm.ClassFile.FieldType), false)))))
def K78 : Mt := (([1, 0, 0, 0], 6), lk2 [[(0, o_iload 0 1), (1, o_if (fun x => decide (x ≤ 0)) 43), (4, o_iload 0 1), (5, o_push 1 (.int 1)), (6, o_iop (fun x y => x - y)), (7, o_push 1 (.int 1)), (8, o_iop (fun x y => (x.toUInt32 >>> (y.toUInt32 &&& Int32.toUInt32 31)).toInt32)), (9, o_istore 4 2), (11, o_aload 2 1), (12, o_iload 4 2), (14, o_rdQ), (15, o_astore 5 2), (17, o_aload 3 1), (18, o_aload 1 1), (19, o_aload 5 2), (21, o_cv [(19, 239)] 2 5 false none), (26, o_if (fun x => decide (x < 0)) 32), (29, o_goto 43), (32, o_aload 2 1), (33, o_iload 0 1), (34, o_aload 5 2), (36, o_wrQ 5 [0, 1, 2, 3, 4, 5, 6, 7, 8, 9, 10, 11, 12, 13, 14, 15, 16, 17, 18, 19, 20, 21, 22, 23, 24, 25, 26, 27, 28, 29, 30, 31, 32, 33, 34]), (37, o_iload 4 2), (39, o_istore 0 1), (40, o_goto 0), (43, o_aload 2 1), (44, o_iload 0 1), (45, o_aload 1 1), (46, o_wrQ 5 [0, 1, 2, 3, 4, 5, 6, 7, 8, 9, 10, 11, 12, 13, 14, 15, 16, 17, 18, 19, 20, 21, 22, 23, 24, 25, 26, 27, 28, 29, 30, 31, 32, 33, 34]), (47, o_vret)]])
abbrev cJ28_size : ByteArray := prog_74_method_23_code
def yJ28_size : MethodName := ⟨RJ28, "size", "()I"⟩
def I79 : Mi := ("java/util/PriorityQueue", (cJ28_size, (1, ([], ((Option.some Jvm.ClassFile.FieldType.int), false)))))
def K79 : Mt := (([0], 1), lk2 [[(0, o_aload 0 1), (1, o_get 98), (4, o_ret 1)]])
abbrev cJ28_poll : ByteArray := prog_74_method_25_code
def yJ28_poll : MethodName := ⟨RJ28, "poll", "()Ljava/lang/Object;"⟩
def I80 : Mi := ("java/util/PriorityQueue", (cJ28_poll, (6, ([], ((Option.some (Jvm.ClassFile.FieldType.object "java/lang/Object")), false)))))
def K80 : Mt := (([0], 6), lk2 [[(0, o_aload 0 1), (1, o_get 97), (4, o_dup), (5, o_astore 1 1), (6, o_push 1 (.int 0)), (7, o_rdQ), (8, o_dup), (9, o_astore 2 1), (10, o_ifnull 79), (13, o_aload 0 1), (14, o_dup), (15, o_get 100), (18, o_push 1 (.int 1)), (19, o_iop (fun x y => x + y)), (20, o_put 100 1), (23, o_aload 1 1), (24, o_aload 0 1), (25, o_dup), (26, o_get 98), (29, o_push 1 (.int 1)), (30, o_iop (fun x y => x - y)), (31, o_dupx1), (32, o_put 98 1), (35, o_dup), (36, o_istore 3 1), (37, o_rdQ), (38, o_astore 4 2), (40, o_aload 1 1), (41, o_iload 3 1), (42, o_push 1 .null), (43, o_wrQ 5 [0, 1, 2, 3, 4, 5, 6, 7, 8, 9, 10, 11, 12, 13, 14, 15, 16, 17, 18, 19, 20, 21, 22, 23, 24, 25, 26, 27, 28, 29, 30, 31, 32, 33, 34]), (44, o_iload 3 1), (45, o_if (fun x => decide (x ≤ 0)) 79), (48, o_aload 0 1), (49, o_get 99), (52, o_dup), (53, o_astore 5 2), (55, o_ifnonnull 69), (58, o_push 1 (.int 0)), (59, o_aload 4 2), (61, o_aload 1 1), (62, o_iload 3 1)],
  [(66, o_goto 79), (69, o_push 1 (.int 0)), (70, o_aload 4 2), (72, o_aload 1 1), (73, o_iload 3 1), (74, o_aload 5 2), (76, o_cs 81 5 true none), (79, o_aload 2 1), (80, o_ret 0)]])
abbrev cJ28_siftDownUsingComparator : ByteArray := prog_74_method_32_code
def yJ28_siftDownUsingComparator : MethodName := ⟨RJ28, "siftDownUsingComparator", "(ILjava/lang/Object;[Ljava/lang/Object;ILjava/util/Comparator;)V"⟩
def I81 : Mi := ("java/util/PriorityQueue", (cJ28_siftDownUsingComparator, (9, ([], ((Option.none : Option Jvm.ClassFile.FieldType), false)))))
def K81 : Mt := (([1, 0, 0, 1, 0], 9), lk2 [[(0, o_iload 3 1), (1, o_push 1 (.int 1)), (2, o_iop (fun x y => (x.toUInt32 >>> (y.toUInt32 &&& Int32.toUInt32 31)).toInt32)), (3, o_istore 5 2), (5, o_iload 0 1), (6, o_iload 5 2), (8, o_icmp (fun x y => decide (y ≤ x)) 88), (11, o_iload 0 1), (12, o_push 1 (.int 1)), (13, o_iop (fun x y => x <<< (y &&& 31))), (14, o_push 1 (.int 1)), (15, o_iop (fun x y => x + y)), (16, o_istore 6 2), (18, o_aload 2 1), (19, o_iload 6 2), (21, o_rdQ), (22, o_astore 7 2), (24, o_iload 6 2), (26, o_push 1 (.int 1)), (27, o_iop (fun x y => x + y)), (28, o_istore 8 2), (30, o_iload 8 2), (32, o_iload 3 1), (33, o_icmp (fun x y => decide (y ≤ x)) 61), (36, o_aload 4 2), (38, o_aload 7 2), (40, o_aload 2 1), (41, o_iload 8 2), (43, o_rdQ), (44, o_cv [(19, 239)] 2 5 false none), (49, o_if (fun x => decide (x ≤ 0)) 61), (52, o_aload 2 1), (53, o_iload 8 2), (55, o_dup), (56, o_istore 6 2), (58, o_rdQ), (59, o_astore 7 2), (61, o_aload 4 2), (63, o_aload 1 1)],
  [(64, o_aload 7 2), (66, o_cv [(19, 239)] 2 5 false none), (71, o_if (fun x => decide (0 < x)) 77), (74, o_goto 88), (77, o_aload 2 1), (78, o_iload 0 1), (79, o_aload 7 2), (81, o_wrQ 5 [0, 1, 2, 3, 4, 5, 6, 7, 8, 9, 10, 11, 12, 13, 14, 15, 16, 17, 18, 19, 20, 21, 22, 23, 24, 25, 26, 27, 28, 29, 30, 31, 32, 33, 34]), (82, o_iload 6 2), (84, o_istore 0 1), (85, o_goto 5), (88, o_aload 2 1), (89, o_iload 0 1), (90, o_aload 1 1), (91, o_wrQ 5 [0, 1, 2, 3, 4, 5, 6, 7, 8, 9, 10, 11, 12, 13, 14, 15, 16, 17, 18, 19, 20, 21, 22, 23, 24, 25, 26, 27, 28, 29, 30, 31, 32, 33, 34]), (92, o_vret)]])
abbrev cJ3_init_3 : ByteArray := prog_47_method_5_code
def yJ3_init_3 : MethodName := ⟨RJ3, "<init>", "(Ljava/lang/String;Ljava/lang/Throwable;ZZ)V"⟩
def I82 : Mi := ("java/lang/Throwable", (cJ3_init_3, (5, ([], ((Option.none : Option Jvm.ClassFile.FieldType), true)))))
def K82 : Mt := (([0, 0, 0, 1, 1], 5), lk2 [[(0, o_aload 0 1), (1, o_oi), (4, o_aload 0 1), (5, o_aload 0 1), (6, o_put 52 0), (9, o_aload 0 1), (10, o_pushR 3 0), (13, o_put 53 0), (16, o_aload 0 1), (17, o_pushR 3 1), (20, o_put 54 0), (23, o_iload 4 2), (25, o_if (fun x => decide (x = 0)) 36), (28, o_aload 0 1), (32, o_pop), (33, o_goto 41), (36, o_aload 0 1), (37, o_push 1 .null), (38, o_put 53 0), (41, o_aload 0 1), (42, o_aload 1 1), (43, o_put 55 0), (46, o_aload 0 1), (47, o_aload 2 1), (48, o_put 52 0), (51, o_iload 3 1), (52, o_if (fun x => decide (¬ x = 0)) 60), (55, o_aload 0 1), (56, o_push 1 .null), (57, o_put 54 0), (60, o_vret)]])
abbrev cJ32_init : ByteArray := prog_83_method_1_code
def yJ32_init : MethodName := ⟨RJ32, "<init>", "(Ljava/lang/Object;Ljava/lang/Object;Ljava/util/TreeMap$Entry;)V"⟩
def I83 : Mi := ("java/util/TreeMap$Entry", (cJ32_init, (4, ([], ((Option.none : Option Jvm.ClassFile.FieldType), true)))))
def K83 : Mt := (([0, 0, 0, 0], 4), lk2 [[(0, o_aload 0 1), (1, o_oi), (4, o_aload 0 1), (5, o_push 1 (.int 1)), (6, o_put 115 5), (9, o_aload 0 1), (10, o_aload 1 1), (11, o_put 110 0), (14, o_aload 0 1), (15, o_aload 2 1), (16, o_put 111 0), (19, o_aload 0 1), (20, o_aload 3 1), (21, o_put 114 0), (24, o_vret)]])
abbrev cJ33_init : ByteArray := prog_86_method_1_code
def yJ33_init : MethodName := ⟨RJ33, "<init>", "(Ljava/util/TreeMap;)V"⟩
def I84 : Mi := ("java/util/TreeMap$Values", (cJ33_init, (2, ([], ((Option.none : Option Jvm.ClassFile.FieldType), true)))))
def K84 : Mt := (([0, 0], 2), lk2 [[(0, o_aload 0 1), (1, o_aload 1 1), (2, o_put 116 0), (5, o_aload 0 1), (6, o_ci 0 0), (9, o_vret)]])
abbrev cJ33_iterator : ByteArray := prog_86_method_2_code
def yJ33_iterator : MethodName := ⟨RJ33, "iterator", "()Ljava/util/Iterator;"⟩
def I85 : Mi := ("java/util/TreeMap$Values", (cJ33_iterator, (1, ([], ((Option.some (Jvm.ClassFile.FieldType.object "java/util/Iterator")), false)))))
def K85 : Mt := (([0], 1), lk2 [[(0, o_new 25 4 dv25), (3, o_dup), (4, o_aload 0 1), (5, o_get 116), (8, o_aload 0 1), (9, o_get 116), (12, o_cv [(20, 69)] 0 3 false none), (15, o_ci 96 2), (18, o_ret 0)]])
abbrev cJ34_hasNext : ByteArray := prog_64_method_2_code
def yJ34_hasNext : MethodName := ⟨RJ34, "hasNext", "()Z"⟩
def I86 : Mi := ("java/util/HashMap$HashIterator", (cJ34_hasNext, (1, ([], ((Option.some Jvm.ClassFile.FieldType.boolean), false)))))
def K86 : Mt := (([0], 1), lk2 [[(0, o_aload 0 1), (1, o_get 117), (4, o_ifnull 11), (7, o_push 1 (.int 1)), (8, o_goto 12), (11, o_push 1 (.int 0)), (12, o_ret 5)]])
abbrev cJ34_nextNode : ByteArray := prog_64_method_3_code
def yJ34_nextNode : MethodName := ⟨RJ34, "nextNode", "()Ljava/util/HashMap$Node;"⟩
def I87 : Mi := ("java/util/HashMap$HashIterator", (cJ34_nextNode, (3, ([], ((Option.some (Jvm.ClassFile.FieldType.object "java/util/HashMap$Node")), false)))))
def K87 : Mt := (([0], 3), lk2 [[(0, o_aload 0 1), (1, o_get 117), (4, o_astore 2 1), (5, o_aload 0 1), (6, o_get 121), (9, o_get 34), (12, o_aload 0 1), (13, o_get 119), (16, o_icmp (fun x y => decide (x = y)) 27), (22, o_dup), (27, o_aload 2 1), (28, o_ifnonnull 39), (34, o_dup), (39, o_aload 0 1), (40, o_aload 0 1), (41, o_aload 2 1), (42, o_dupx1), (43, o_put 118 0), (46, o_get 146), (49, o_dupx1), (50, o_put 117 0), (53, o_ifnonnull 98), (56, o_aload 0 1), (57, o_get 121), (60, o_get 31), (63, o_dup)],
  [(64, o_astore 1 1), (65, o_ifnull 98), (68, o_aload 0 1), (69, o_get 120), (72, o_aload 1 1), (73, o_alen), (74, o_icmp (fun x y => decide (y ≤ x)) 98), (77, o_aload 0 1), (78, o_aload 1 1), (79, o_aload 0 1), (80, o_dup), (81, o_get 120), (84, o_dupx1), (85, o_push 1 (.int 1)), (86, o_iop (fun x y => x + y)), (87, o_put 120 1), (90, o_rdQ), (91, o_dupx1), (92, o_put 117 0), (95, o_ifnull 68), (98, o_aload 2 1), (99, o_ret 0)]])
abbrev cJ34_init : ByteArray := prog_64_method_1_code
def yJ34_init : MethodName := ⟨RJ34, "<init>", "(Ljava/util/HashMap;)V"⟩
def I88 : Mi := ("java/util/HashMap$HashIterator", (cJ34_init, (3, ([], ((Option.none : Option Jvm.ClassFile.FieldType), true)))))
def K88 : Mt := (([0, 0], 3), lk2 [[(0, o_aload 0 1), (1, o_aload 1 1), (2, o_put 121 0), (5, o_aload 0 1), (6, o_oi), (9, o_aload 0 1), (10, o_aload 1 1), (11, o_get 34), (14, o_put 119 1), (17, o_aload 1 1), (18, o_get 31), (21, o_astore 2 1), (22, o_aload 0 1), (23, o_aload 0 1), (24, o_push 1 .null), (25, o_dupx1), (26, o_put 117 0), (29, o_put 118 0), (32, o_aload 0 1), (33, o_push 1 (.int 0)), (34, o_put 120 1), (37, o_aload 2 1), (38, o_ifnull 78), (41, o_aload 1 1), (42, o_get 33), (45, o_if (fun x => decide (x ≤ 0)) 78), (48, o_aload 0 1), (49, o_get 120), (52, o_aload 2 1), (53, o_alen), (54, o_icmp (fun x y => decide (y ≤ x)) 78), (57, o_aload 0 1), (58, o_aload 2 1), (59, o_aload 0 1), (60, o_dup), (61, o_get 120)],
  [(64, o_dupx1), (65, o_push 1 (.int 1)), (66, o_iop (fun x y => x + y)), (67, o_put 120 1), (70, o_rdQ), (71, o_dupx1), (72, o_put 117 0), (75, o_ifnull 48), (78, o_vret)]])
abbrev cJ35_next : ByteArray := prog_62_method_3_code
def yJ35_next : MethodName := ⟨RJ35, "next", "()Ljava/lang/Object;"⟩
def I89 : Mi := ("java/util/HashMap$EntryIterator", (cJ35_next, (1, ([], ((Option.some (Jvm.ClassFile.FieldType.object "java/lang/Object")), false)))))
def K89 : Mt := (([0], 1), lk2 [[(0, o_aload 0 1), (1, o_cv [(24, 90)] 0 3 false none), (4, o_ret 0)]])
abbrev cJ35_next_2 : ByteArray := prog_62_method_2_code
def yJ35_next_2 : MethodName := ⟨RJ35, "next", "()Ljava/util/Map$Entry;"⟩
def I90 : Mi := ("java/util/HashMap$EntryIterator", (cJ35_next_2, (1, ([], ((Option.some (Jvm.ClassFile.FieldType.object "java/util/Map$Entry")), false)))))
def K90 : Mt := (([0], 1), lk2 [[(0, o_aload 0 1), (1, o_cv [(24, 87)] 0 3 false none), (4, o_ret 0)]])
abbrev cJ35_init : ByteArray := prog_62_method_1_code
def yJ35_init : MethodName := ⟨RJ35, "<init>", "(Ljava/util/HashMap;)V"⟩
def I91 : Mi := ("java/util/HashMap$EntryIterator", (cJ35_init, (2, ([], ((Option.none : Option Jvm.ClassFile.FieldType), true)))))
def K91 : Mt := (([0, 0], 2), lk2 [[(0, o_aload 0 1), (1, o_aload 1 1), (2, o_ci 88 1), (5, o_vret)]])
abbrev cJ37_hasNext : ByteArray := prog_84_method_2_code
def yJ37_hasNext : MethodName := ⟨RJ37, "hasNext", "()Z"⟩
def I92 : Mi := ("java/util/TreeMap$PrivateEntryIterator", (cJ37_hasNext, (1, ([], ((Option.some Jvm.ClassFile.FieldType.boolean), false)))))
def K92 : Mt := (([0], 1), lk2 [[(0, o_aload 0 1), (1, o_get 122), (4, o_ifnull 11), (7, o_push 1 (.int 1)), (8, o_goto 12), (11, o_push 1 (.int 0)), (12, o_ret 5)]])
abbrev cJ37_nextEntry : ByteArray := prog_84_method_3_code
def yJ37_nextEntry : MethodName := ⟨RJ37, "nextEntry", "()Ljava/util/TreeMap$Entry;"⟩
def I93 : Mi := ("java/util/TreeMap$PrivateEntryIterator", (cJ37_nextEntry, (2, ([], ((Option.some (Jvm.ClassFile.FieldType.object "java/util/TreeMap$Entry")), false)))))
def K93 : Mt := (([0], 2), lk2 [[(0, o_aload 0 1), (1, o_get 122), (4, o_astore 1 1), (5, o_aload 1 1), (6, o_ifnonnull 17), (12, o_dup), (17, o_aload 0 1), (18, o_get 125), (21, o_get 105), (24, o_aload 0 1), (25, o_get 124), (28, o_icmp (fun x y => decide (x = y)) 39), (34, o_dup), (39, o_aload 0 1), (40, o_aload 1 1), (41, o_cs 53 1 false none), (44, o_put 122 0), (47, o_aload 0 1), (48, o_aload 1 1), (49, o_put 123 0), (52, o_aload 1 1), (53, o_ret 0)]])
abbrev cJ37_init : ByteArray := prog_84_method_1_code
def yJ37_init : MethodName := ⟨RJ37, "<init>", "(Ljava/util/TreeMap;Ljava/util/TreeMap$Entry;)V"⟩
def I94 : Mi := ("java/util/TreeMap$PrivateEntryIterator", (cJ37_init, (3, ([], ((Option.none : Option Jvm.ClassFile.FieldType), true)))))
def K94 : Mt := (([0, 0, 0], 3), lk2 [[(0, o_aload 0 1), (1, o_aload 1 1), (2, o_put 125 0), (5, o_aload 0 1), (6, o_oi), (9, o_aload 0 1), (10, o_aload 1 1), (11, o_get 105), (14, o_put 124 1), (17, o_aload 0 1), (18, o_push 1 .null), (19, o_put 123 0), (22, o_aload 0 1), (23, o_aload 2 1), (24, o_put 122 0), (27, o_vret)]])
abbrev cJ38_next : ByteArray := prog_85_method_2_code
def yJ38_next : MethodName := ⟨RJ38, "next", "()Ljava/lang/Object;"⟩
def I95 : Mi := ("java/util/TreeMap$ValueIterator", (cJ38_next, (1, ([], ((Option.some (Jvm.ClassFile.FieldType.object "java/lang/Object")), false)))))
def K95 : Mt := (([0], 1), lk2 [[(0, o_aload 0 1), (1, o_cv [(25, 93)] 0 3 false none), (4, o_get 111), (7, o_ret 0)]])
abbrev cJ38_init : ByteArray := prog_85_method_1_code
def yJ38_init : MethodName := ⟨RJ38, "<init>", "(Ljava/util/TreeMap;Ljava/util/TreeMap$Entry;)V"⟩
def I96 : Mi := ("java/util/TreeMap$ValueIterator", (cJ38_init, (3, ([], ((Option.none : Option Jvm.ClassFile.FieldType), true)))))
def K96 : Mt := (([0, 0, 0], 3), lk2 [[(0, o_aload 0 1), (1, o_aload 1 1), (2, o_aload 2 1), (3, o_ci 94 2), (6, o_vret)]])
abbrev cJ39_init : ByteArray := prog_65_method_1_code
def yJ39_init : MethodName := ⟨RJ39, "<init>", "(ILjava/lang/Object;Ljava/lang/Object;Ljava/util/HashMap$Node;)V"⟩
def I97 : Mi := ("java/util/HashMap$Node", (cJ39_init, (5, ([], ((Option.none : Option Jvm.ClassFile.FieldType), true)))))
def K97 : Mt := (([0, 1, 0, 0, 0], 5), lk2 [[(0, o_aload 0 1), (1, o_oi), (4, o_aload 0 1), (5, o_iload 1 1), (6, o_put 143 1), (9, o_aload 0 1), (10, o_aload 2 1), (11, o_put 144 0), (14, o_aload 0 1), (15, o_aload 3 1), (16, o_put 145 0), (19, o_aload 0 1), (20, o_aload 4 2), (22, o_put 146 0), (25, o_vret)]])
abbrev cJ39_getKey : ByteArray := prog_65_method_2_code
def yJ39_getKey : MethodName := ⟨RJ39, "getKey", "()Ljava/lang/Object;"⟩
def I98 : Mi := ("java/util/HashMap$Node", (cJ39_getKey, (1, ([], ((Option.some (Jvm.ClassFile.FieldType.object "java/lang/Object")), false)))))
def K98 : Mt := (([0], 1), lk2 [[(0, o_aload 0 1), (1, o_get 144), (4, o_ret 0)]])
abbrev cJ39_getValue : ByteArray := prog_65_method_3_code
def yJ39_getValue : MethodName := ⟨RJ39, "getValue", "()Ljava/lang/Object;"⟩
def I99 : Mi := ("java/util/HashMap$Node", (cJ39_getValue, (1, ([], ((Option.some (Jvm.ClassFile.FieldType.object "java/lang/Object")), false)))))
def K99 : Mt := (([0], 1), lk2 [[(0, o_aload 0 1), (1, o_get 145), (4, o_ret 0)]])
abbrev cJ4_init_2 : ByteArray := prog_29_method_5_code
def yJ4_init_2 : MethodName := ⟨RJ4, "<init>", "(Ljava/lang/String;Ljava/lang/Throwable;ZZ)V"⟩
def I100 : Mi := ("java/lang/Exception", (cJ4_init_2, (5, ([], ((Option.none : Option Jvm.ClassFile.FieldType), true)))))
def K100 : Mt := (([0, 0, 0, 1, 1], 5), lk2 [[(0, o_aload 0 1), (1, o_aload 1 1), (2, o_aload 2 1), (3, o_iload 3 1), (4, o_iload 4 2), (6, o_ci 82 4), (9, o_vret)]])
abbrev cJ42_init : ByteArray := prog_54_method_1_code
def yJ42_init : MethodName := ⟨RJ42, "<init>", "()V"⟩
def I101 : Mi := ("java/util/AbstractSet", (cJ42_init, (1, ([], ((Option.none : Option Jvm.ClassFile.FieldType), true)))))
def K101 : Mt := (([0], 1), lk2 [[(0, o_aload 0 1), (1, o_ci 0 0), (4, o_vret)]])
abbrev cJ43_iterator : ByteArray := prog_63_method_4_code
def yJ43_iterator : MethodName := ⟨RJ43, "iterator", "()Ljava/util/Iterator;"⟩
def I102 : Mi := ("java/util/HashMap$EntrySet", (cJ43_iterator, (1, ([], ((Option.some (Jvm.ClassFile.FieldType.object "java/util/Iterator")), false)))))
def K102 : Mt := (([0], 1), lk2 [[(0, o_new 24 5 dv24), (3, o_dup), (4, o_aload 0 1), (5, o_get 147), (8, o_ci 91 1), (11, o_ret 0)]])
abbrev cJ43_init : ByteArray := prog_63_method_1_code
def yJ43_init : MethodName := ⟨RJ43, "<init>", "(Ljava/util/HashMap;)V"⟩
def I103 : Mi := ("java/util/HashMap$EntrySet", (cJ43_init, (2, ([], ((Option.none : Option Jvm.ClassFile.FieldType), true)))))
def K103 : Mt := (([0, 0], 2), lk2 [[(0, o_aload 0 1), (1, o_aload 1 1), (2, o_put 147 0), (5, o_aload 0 1), (6, o_ci 101 0), (9, o_vret)]])
abbrev cJ7_init : ByteArray := prog_23_method_2_code
def yJ7_init : MethodName := ⟨RJ7, "<init>", "(I)V"⟩
def I104 : Mi := ("java/lang/AbstractStringBuilder", (cJ7_init, (2, ([], ((Option.none : Option Jvm.ClassFile.FieldType), true)))))
def K104 : Mt := (([0, 1], 2), lk2 [[(0, o_aload 0 1), (1, o_oi), (4, o_push 3 (.int 1)), (7, o_if (fun x => decide (x = 0)) 25), (10, o_aload 0 1), (11, o_iload 1 1), (12, o_newa 1 2), (14, o_put 21 0), (17, o_aload 0 1), (18, o_push 1 (.int 0)), (19, o_put 22 6), (22, o_goto 38), (25, o_aload 0 1), (26, o_iload 1 1), (30, o_put 21 0), (33, o_aload 0 1), (34, o_push 1 (.int 1)), (35, o_put 22 6), (38, o_vret)]])
abbrev cJ7_ensureCapacityInternal : ByteArray := prog_23_method_9_code
def yJ7_ensureCapacityInternal : MethodName := ⟨RJ7, "ensureCapacityInternal", "(I)V"⟩
def I105 : Mi := ("java/lang/AbstractStringBuilder", (cJ7_ensureCapacityInternal, (3, ([], ((Option.none : Option Jvm.ClassFile.FieldType), false)))))
def K105 : Mt := (([0, 1], 3), lk2 [[(0, o_aload 0 1), (1, o_get 21), (4, o_alen), (5, o_aload 0 1), (6, o_get 22), (9, o_iop (fun x y => x >>> (y &&& 31))), (10, o_istore 2 1), (11, o_iload 1 1), (12, o_iload 2 1), (13, o_iop (fun x y => x - y)), (14, o_if (fun x => decide (x ≤ 0)) 38), (17, o_aload 0 1), (18, o_aload 0 1), (19, o_get 21), (22, o_aload 0 1), (23, o_iload 1 1), (24, o_cv [(4, 106)] 1 3 false none), (27, o_aload 0 1), (28, o_get 22), (31, o_iop (fun x y => x <<< (y &&& 31))), (32, o_cs 9 2 false none), (35, o_put 21 0), (38, o_vret)]])
abbrev cJ7_newCapacity : ByteArray := prog_23_method_10_code
def yJ7_newCapacity : MethodName := ⟨RJ7, "newCapacity", "(I)I"⟩
def I106 : Mi := ("java/lang/AbstractStringBuilder", (cJ7_newCapacity, (6, ([], ((Option.some Jvm.ClassFile.FieldType.int), false)))))
def K106 : Mt := (([0, 1], 6), lk2 [[(0, o_aload 0 1), (1, o_get 21), (4, o_alen), (5, o_istore 2 1), (6, o_iload 1 1), (7, o_aload 0 1), (8, o_get 22), (11, o_iop (fun x y => x <<< (y &&& 31))), (12, o_istore 3 1), (13, o_iload 3 1), (14, o_iload 2 1), (15, o_iop (fun x y => x - y)), (16, o_istore 4 2), (18, o_iload 2 1), (19, o_iload 4 2), (21, o_iload 2 1), (22, o_push 1 (.int 2)), (23, o_aload 0 1), (24, o_get 22), (27, o_iop (fun x y => x <<< (y &&& 31))), (28, o_iop (fun x y => x + y)), (29, o_cs 2 3 false none), (32, o_istore 5 2), (34, o_iload 5 2), (36, o_push 2 (.int 2147483647)), (38, o_icmp (fun x y => decide (¬ x = y)) 51), (44, o_dup), (51, o_iload 5 2), (53, o_aload 0 1), (54, o_get 22), (57, o_iop (fun x y => x >>> (y &&& 31))), (58, o_ret 1)]])
abbrev cJ7_isLatin1 : ByteArray := prog_23_method_68_code
def yJ7_isLatin1 : MethodName := ⟨RJ7, "isLatin1", "()Z"⟩
def I107 : Mi := ("java/lang/AbstractStringBuilder", (cJ7_isLatin1, (1, ([], ((Option.some Jvm.ClassFile.FieldType.boolean), false)))))
def K107 : Mt := (([0], 1), lk2 [[(0, o_push 3 (.int 1)), (3, o_if (fun x => decide (x = 0)) 17), (6, o_aload 0 1), (7, o_get 22), (10, o_if (fun x => decide (¬ x = 0)) 17), (13, o_push 1 (.int 1)), (14, o_goto 18), (17, o_push 1 (.int 0)), (18, o_ret 5)]])
abbrev cJ7_getValue : ByteArray := prog_23_method_64_code
def yJ7_getValue : MethodName := ⟨RJ7, "getValue", "()[B"⟩
def I108 : Mi := ("java/lang/AbstractStringBuilder", (cJ7_getValue, (1, ([], ((Option.some (Jvm.ClassFile.FieldType.array Jvm.ClassFile.FieldType.byte)), false)))))
def K108 : Mt := (([0], 1), lk2 [[(0, o_aload 0 1), (1, o_get 21), (4, o_ret 0)]])
abbrev cJ7_length : ByteArray := prog_23_method_6_code
def yJ7_length : MethodName := ⟨RJ7, "length", "()I"⟩
def I109 : Mi := ("java/lang/AbstractStringBuilder", (cJ7_length, (1, ([], ((Option.some Jvm.ClassFile.FieldType.int), false)))))
def K109 : Mt := (([0], 1), lk2 [[(0, o_aload 0 1), (1, o_get 24), (4, o_ret 1)]])
abbrev cJ7_append_3 : ByteArray := prog_23_method_31_code
def yJ7_append_3 : MethodName := ⟨RJ7, "append", "(C)Ljava/lang/AbstractStringBuilder;"⟩
def I110 : Mi := ("java/lang/AbstractStringBuilder", (cJ7_append_3, (2, ([], ((Option.some (Jvm.ClassFile.FieldType.object "java/lang/AbstractStringBuilder")), false)))))
def K110 : Mt := (([0, 1], 2), lk2 [[(0, o_aload 0 1), (1, o_aload 0 1), (2, o_get 24), (5, o_push 1 (.int 1)), (6, o_iop (fun x y => x + y)), (7, o_cv [(4, 105)] 1 3 true none), (10, o_aload 0 1), (11, o_cv [(4, 107)] 0 3 false none), (14, o_if (fun x => decide (x = 0)) 45), (17, o_iload 1 1), (18, o_cs 18 1 false none), (21, o_if (fun x => decide (x = 0)) 45), (24, o_aload 0 1), (25, o_get 21), (28, o_aload 0 1), (29, o_dup), (30, o_get 24), (33, o_dupx1), (34, o_push 1 (.int 1)), (35, o_iop (fun x y => x + y)), (36, o_put 24 1), (39, o_iload 1 1), (40, o_ii (fun x => x.toInt8.toInt32)), (41, o_wrI 1), (42, o_goto 75), (45, o_aload 0 1), (46, o_cv [(4, 107)] 0 3 false none), (49, o_if (fun x => decide (x = 0)) 56), (52, o_aload 0 1), (56, o_aload 0 1), (57, o_get 21), (60, o_aload 0 1), (61, o_dup), (62, o_get 24)],
  [(65, o_dupx1), (66, o_push 1 (.int 1)), (67, o_iop (fun x y => x + y)), (68, o_put 24 1), (71, o_iload 1 1), (75, o_aload 0 1), (76, o_ret 0)]])
abbrev cJ8_init : ByteArray := prog_42_method_1_code
def yJ8_init : MethodName := ⟨RJ8, "<init>", "()V"⟩
def I111 : Mi := ("java/lang/StringBuilder", (cJ8_init, (1, ([], ((Option.none : Option Jvm.ClassFile.FieldType), true)))))
def K111 : Mt := (([0], 1), lk2 [[(0, o_aload 0 1), (1, o_push 2 (.int 16)), (3, o_ci 104 1), (6, o_vret)]])
abbrev cJ8_toString : ByteArray := prog_42_method_42_code
def yJ8_toString : MethodName := ⟨RJ8, "toString", "()Ljava/lang/String;"⟩
def I112 : Mi := ("java/lang/StringBuilder", (cJ8_toString, (1, ([], ((Option.some (Jvm.ClassFile.FieldType.object "java/lang/String")), false)))))
def K112 : Mt := (([0], 1), lk2 [[(0, o_new 5 4 dv5), (3, o_dup), (4, o_aload 0 1), (5, o_ci 117 1), (8, o_ret 0)]])
abbrev cJ8_length : ByteArray := prog_42_method_93_code
def yJ8_length : MethodName := ⟨RJ8, "length", "()I"⟩
def I113 : Mi := ("java/lang/StringBuilder", (cJ8_length, (1, ([], ((Option.some Jvm.ClassFile.FieldType.int), false)))))
def K113 : Mt := (([0], 1), lk2 [[(0, o_aload 0 1), (1, o_cv [(4, 109)] 0 3 false none), (4, o_ret 1)]])
abbrev cJ8_append_3 : ByteArray := prog_42_method_14_code
def yJ8_append_3 : MethodName := ⟨RJ8, "append", "(C)Ljava/lang/StringBuilder;"⟩
def I114 : Mi := ("java/lang/StringBuilder", (cJ8_append_3, (2, ([], ((Option.some (Jvm.ClassFile.FieldType.object "java/lang/StringBuilder")), false)))))
def K114 : Mt := (([0, 1], 2), lk2 [[(0, o_aload 0 1), (1, o_iload 1 1), (2, o_cv [(4, 110)] 1 3 false none), (5, o_pop), (6, o_aload 0 1), (7, o_ret 0)]])
abbrev cJ9_length : ByteArray := prog_41_method_54_code
def yJ9_length : MethodName := ⟨RJ9, "length", "()I"⟩
def I115 : Mi := ("java/lang/String", (cJ9_length, (1, ([], ((Option.some Jvm.ClassFile.FieldType.int), false)))))
def K115 : Mt := (([0], 1), lk2 [[(0, o_aload 0 1), (1, o_gets 25), (4, o_alens), (5, o_aload 0 1), (6, o_cvs [(5, 116)] 0 3 false), (9, o_iop (fun x y => x >>> (y &&& 31))), (10, o_ret 1)]])
abbrev cJ9_coder : ByteArray := prog_41_method_152_code
def yJ9_coder : MethodName := ⟨RJ9, "coder", "()B"⟩
def I116 : Mi := ("java/lang/String", (cJ9_coder, (1, ([], ((Option.some Jvm.ClassFile.FieldType.byte), false)))))
def K116 : Mt := (([0], 1), lk2 [[(0, o_push 3 (.int 1)), (3, o_if (fun x => decide (x = 0)) 13), (6, o_aload 0 1), (7, o_gets 26), (10, o_goto 14), (13, o_push 1 (.int 1)), (14, o_ret 6)]])
abbrev cJ9_init : ByteArray := prog_41_method_53_code
def yJ9_init : MethodName := ⟨RJ9, "<init>", "(Ljava/lang/StringBuilder;)V"⟩
def I117 : Mi := ("java/lang/String", (cJ9_init, (2, ([], ((Option.none : Option Jvm.ClassFile.FieldType), true)))))
def K117 : Mt := (([0, 0], 2), lk2 [[(0, o_aload 0 1), (1, o_aload 1 1), (2, o_push 1 .null), (3, o_ci 118 2), (6, o_vret)]])
abbrev cJ9_init_2 : ByteArray := prog_41_method_150_code
def yJ9_init_2 : MethodName := ⟨RJ9, "<init>", "(Ljava/lang/AbstractStringBuilder;Ljava/lang/Void;)V"⟩
def I118 : Mi := ("java/lang/String", (cJ9_init_2, (5, ([], ((Option.none : Option Jvm.ClassFile.FieldType), true)))))
def K118 : Mt := (([0, 0, 0], 5), lk2 [[(0, o_aload 0 1), (1, o_oi), (4, o_aload 1 1), (5, o_cv [(4, 108)] 0 3 false none), (8, o_astore 3 1), (9, o_aload 1 1), (10, o_cv [(4, 113)] 0 3 false none), (13, o_istore 4 2), (15, o_aload 1 1), (16, o_cv [(4, 107)] 0 3 false none), (19, o_if (fun x => decide (x = 0)) 41), (22, o_aload 0 1), (23, o_push 1 (.int 0)), (24, o_put 26 6), (27, o_aload 0 1), (28, o_aload 3 1), (29, o_push 1 (.int 0)), (30, o_iload 4 2), (32, o_cs 10 3 false none), (35, o_put 25 0), (38, o_goto 97), (41, o_push 3 (.int 1)), (44, o_if (fun x => decide (x = 0)) 79), (47, o_aload 1 1), (48, o_get 23), (51, o_if (fun x => decide (x = 0)) 79), (54, o_aload 0 1), (55, o_aload 3 1), (56, o_push 1 (.int 0)), (57, o_iload 4 2), (62, o_put 25 0)],
  [(65, o_aload 0 1), (66, o_aload 0 1), (67, o_gets 25), (70, o_iload 4 2), (75, o_put 26 6), (78, o_vret), (79, o_aload 0 1), (80, o_push 1 (.int 1)), (81, o_put 26 6), (84, o_aload 0 1), (85, o_aload 3 1), (86, o_push 1 (.int 0)), (87, o_iload 4 2), (89, o_push 1 (.int 1)), (90, o_iop (fun x y => x <<< (y &&& 31))), (91, o_cs 10 3 false none), (94, o_put 25 0), (97, o_vret)]])
abbrev cJ9_hashCode : ByteArray := prog_41_method_78_code
def yJ9_hashCode : MethodName := ⟨RJ9, "hashCode", "()I"⟩
def I119 : Mi := ("java/lang/String", (cJ9_hashCode, (2, ([], ((Option.some Jvm.ClassFile.FieldType.int), false)))))
def K119 : Mt := (([0], 2), lk2 [[(0, o_aload 0 1), (1, o_get 27), (4, o_istore 1 1), (5, o_iload 1 1), (6, o_if (fun x => decide (¬ x = 0)) 58), (9, o_aload 0 1), (10, o_get 28), (13, o_if (fun x => decide (¬ x = 0)) 58), (16, o_aload 0 1), (17, o_cvs [(5, 120)] 0 3 false), (20, o_if (fun x => decide (x = 0)) 33), (23, o_aload 0 1), (24, o_gets 25), (27, o_cs 16 1 false none), (30, o_goto 40), (33, o_aload 0 1), (34, o_gets 25), (40, o_istore 1 1), (41, o_iload 1 1), (42, o_if (fun x => decide (¬ x = 0)) 53), (45, o_aload 0 1), (46, o_push 1 (.int 1)), (47, o_put 28 5), (50, o_goto 58), (53, o_aload 0 1), (54, o_iload 1 1), (55, o_put 27 1), (58, o_iload 1 1), (59, o_ret 1)]])
abbrev cJ9_isLatin1 : ByteArray := prog_41_method_154_code
def yJ9_isLatin1 : MethodName := ⟨RJ9, "isLatin1", "()Z"⟩
def I120 : Mi := ("java/lang/String", (cJ9_isLatin1, (1, ([], ((Option.some Jvm.ClassFile.FieldType.boolean), false)))))
def K120 : Mt := (([0], 1), lk2 [[(0, o_push 3 (.int 1)), (3, o_if (fun x => decide (x = 0)) 17), (6, o_aload 0 1), (7, o_gets 26), (10, o_if (fun x => decide (¬ x = 0)) 17), (13, o_push 1 (.int 1)), (14, o_goto 18), (17, o_push 1 (.int 0)), (18, o_ret 5)]])
abbrev cJ9_equals : ByteArray := prog_41_method_66_code
def yJ9_equals : MethodName := ⟨RJ9, "equals", "(Ljava/lang/Object;)Z"⟩
def I121 : Mi := ("java/lang/String", (cJ9_equals, (3, ([], ((Option.some Jvm.ClassFile.FieldType.boolean), false)))))
def K121 : Mt := (([0, 0], 3), lk2 [[(0, o_aload 0 1), (1, o_aload 1 1), (2, o_acmp false 7), (5, o_push 1 (.int 1)), (6, o_ret 5), (7, o_aload 1 1), (8, o_inst [5] []), (11, o_if (fun x => decide (x = 0)) 54), (14, o_aload 1 1), (15, o_cast [5]), (18, o_astore 2 1), (19, o_push 3 (.int 1)), (22, o_if (fun x => decide (x = 0)) 36), (25, o_aload 0 1), (26, o_gets 26), (29, o_aload 2 1), (30, o_gets 26), (33, o_icmp (fun x y => decide (¬ x = y)) 54), (36, o_aload 0 1), (37, o_gets 25), (40, o_aload 2 1), (41, o_gets 25), (44, o_cs 17 2 false none), (47, o_if (fun x => decide (x = 0)) 54), (50, o_push 1 (.int 1)), (51, o_goto 55), (54, o_push 1 (.int 0)), (55, o_ret 5)]])
abbrev cJ9_checkIndex : ByteArray := prog_41_method_155_code
def yJ9_checkIndex : MethodName := ⟨RJ9, "checkIndex", "(II)V"⟩
def I122 : Mi := ("java/lang/String", (cJ9_checkIndex, (2, ([], ((Option.none : Option Jvm.ClassFile.FieldType), false)))))
def K122 : Mt := (([1, 1], 2), lk2 [[(0, o_iload 0 1), (1, o_iload 1 1), (2, o_pushR 3 2), (5, o_cs 15 3 false none), (8, o_pop), (9, o_vret)]])
abbrev cJ9_charAt : ByteArray := prog_41_method_56_code
def yJ9_charAt : MethodName := ⟨RJ9, "charAt", "(I)C"⟩
def I123 : Mi := ("java/lang/String", (cJ9_charAt, (2, ([], ((Option.some Jvm.ClassFile.FieldType.char), false)))))
def K123 : Mt := (([0, 1], 2), lk2 [[(0, o_aload 0 1), (1, o_cvs [(5, 120)] 0 3 false), (4, o_if (fun x => decide (x = 0)) 16), (7, o_aload 0 1), (8, o_gets 25), (11, o_iload 1 1), (12, o_cs 19 2 false none), (15, o_ret 7), (16, o_aload 0 1), (17, o_gets 25), (20, o_iload 1 1), (24, o_ret 7)]])
abbrev cL_law : ByteArray := code
def I124 : Mi := ("TollRoadLaw", (cL_law, (10, ([], ((Option.some Jvm.ClassFile.FieldType.boolean), false)))))
def K124 : Mt := (([0], 10), lk2 [[(0, o_new 0 6 dv0), (3, o_dup), (4, o_ci 160 0), (7, o_astore 1 1), (8, o_new 30 39 dv30), (11, o_dup), (12, o_ci 287 0), (15, o_astore 2 1), (16, o_push 1 (.int 1)), (17, o_newa 3 2), (19, o_astore 3 1), (20, o_push 1 (.int 1)), (21, o_newa 4 2), (23, o_astore 4 2), (25, o_push 1 (.int 0)), (26, o_istore 5 2), (28, o_iload 5 2), (30, o_aload 0 1), (31, o_alens), (32, o_push 1 (.int 5)), (33, o_iop (fun x y => x - y)), (34, o_icmp (fun x y => decide (y < x)) 2699), (37, o_aload 0 1), (38, o_iload 5 2), (40, o_rdIs 0), (41, o_push 2 (.int 63)), (43, o_iop (fun x y => x &&& y)), (44, o_sw (swt 0 [224, 280, 336, 349, 362, 375, 431, 523, 603, 671, 739, 795, 863, 931, 999, 1067, 1159, 1251, 1319, 1399, 1491, 1559, 1615, 1671, 1739, 1795, 1875, 1955, 2023, 2079, 2147, 2215, 2283, 2351, 2407, 2421, 2489, 2567, 2580, 2621, 2657] 2693))],
  [],
  [],
  [(224, o_aload 1 1), (225, o_aload 0 1), (226, o_iload 5 2), (228, o_push 1 (.int 1)), (229, o_iop (fun x y => x + y)), (230, o_rdIs 0), (231, o_aload 3 1), (232, o_cs 125 3 false none), (235, o_istore 6 2), (237, o_aload 2 1), (238, o_aload 0 1), (239, o_iload 5 2), (241, o_push 1 (.int 1)), (242, o_iop (fun x y => x + y)), (243, o_rdIs 0), (244, o_cv [(30, 290)] 1 3 false none), (247, o_istore 7 2), (249, o_aload 2 1), (250, o_cv [(30, 289)] 0 3 false none), (253, o_iload 6 2), (255, o_icmp (fun x y => decide (x = y)) 260)],
  [(258, o_push 1 (.int 0)), (259, o_ret 5), (260, o_iload 6 2), (262, o_if (fun x => decide (¬ x = 0)) 277), (265, o_aload 3 1), (266, o_push 1 (.int 0)), (267, o_rdJ), (268, o_iload 7 2), (270, o_i2l), (271, o_lcmp), (272, o_if (fun x => decide (x = 0)) 277), (275, o_push 1 (.int 0)), (276, o_ret 5), (277, o_goto 2693), (280, o_aload 1 1), (281, o_aload 0 1), (282, o_iload 5 2), (284, o_push 1 (.int 1)), (285, o_iop (fun x y => x + y)), (286, o_rdIs 0), (287, o_aload 3 1), (288, o_cs 126 3 false none), (291, o_istore 6 2), (293, o_aload 2 1), (294, o_aload 0 1), (295, o_iload 5 2), (297, o_push 1 (.int 1)), (298, o_iop (fun x y => x + y)), (299, o_rdIs 0), (300, o_cv [(30, 292)] 1 3 false none), (303, o_istore 7 2), (305, o_aload 2 1), (306, o_cv [(30, 289)] 0 3 false none), (309, o_iload 6 2), (311, o_icmp (fun x y => decide (x = y)) 316), (314, o_push 1 (.int 0)), (315, o_ret 5), (316, o_iload 6 2), (318, o_if (fun x => decide (¬ x = 0)) 333)],
  [(321, o_aload 3 1), (322, o_push 1 (.int 0)), (323, o_rdJ), (324, o_iload 7 2), (326, o_i2l), (327, o_lcmp), (328, o_if (fun x => decide (x = 0)) 333), (331, o_push 1 (.int 0)), (332, o_ret 5), (333, o_goto 2693), (336, o_aload 1 1), (337, o_cv [(0, 164)] 0 3 false none), (340, o_aload 2 1), (341, o_cv [(30, 294)] 0 3 false none), (344, o_icmp (fun x y => decide (x = y)) 2693), (347, o_push 1 (.int 0)), (348, o_ret 5), (349, o_aload 1 1), (350, o_cv [(0, 167)] 0 3 false none), (353, o_aload 2 1), (354, o_cv [(30, 319)] 0 3 false none), (357, o_icmp (fun x y => decide (x = y)) 2693), (360, o_push 1 (.int 0)), (361, o_ret 5), (362, o_aload 1 1), (363, o_cv [(0, 168)] 0 3 false none), (366, o_aload 2 1), (367, o_cv [(30, 320)] 0 3 false none), (370, o_icmp (fun x y => decide (x = y)) 2693), (373, o_push 1 (.int 0)), (374, o_ret 5), (375, o_aload 1 1), (376, o_aload 0 1), (377, o_iload 5 2), (379, o_push 1 (.int 1)), (380, o_iop (fun x y => x + y)), (381, o_rdIs 0), (382, o_aload 3 1), (383, o_cs 127 3 false none)],
  [(386, o_istore 6 2), (388, o_aload 2 1), (389, o_aload 0 1), (390, o_iload 5 2), (392, o_push 1 (.int 1)), (393, o_iop (fun x y => x + y)), (394, o_rdIs 0), (395, o_cv [(30, 321)] 1 3 false none), (398, o_istore 7 2), (400, o_aload 2 1), (401, o_cv [(30, 289)] 0 3 false none), (404, o_iload 6 2), (406, o_icmp (fun x y => decide (x = y)) 411), (409, o_push 1 (.int 0)), (410, o_ret 5), (411, o_iload 6 2), (413, o_if (fun x => decide (¬ x = 0)) 428), (416, o_aload 3 1), (417, o_push 1 (.int 0)), (418, o_rdJ), (419, o_iload 7 2), (421, o_i2l), (422, o_lcmp), (423, o_if (fun x => decide (x = 0)) 428), (426, o_push 1 (.int 0)), (427, o_ret 5), (428, o_goto 2693), (431, o_aload 1 1), (432, o_aload 0 1), (433, o_iload 5 2), (435, o_push 1 (.int 1)), (436, o_iop (fun x y => x + y)), (437, o_rdIs 0), (438, o_aload 0 1), (439, o_iload 5 2), (441, o_push 1 (.int 2)), (442, o_iop (fun x y => x + y)), (443, o_rdIs 0), (444, o_aload 0 1), (445, o_iload 5 2), (447, o_push 1 (.int 3))],
  [(448, o_iop (fun x y => x + y)), (449, o_rdIs 0), (450, o_aload 0 1), (451, o_iload 5 2), (453, o_push 1 (.int 4)), (454, o_iop (fun x y => x + y)), (455, o_rdIs 0), (456, o_aload 3 1), (457, o_cs 128 6 false none), (460, o_istore 6 2), (462, o_aload 2 1), (463, o_aload 0 1), (464, o_iload 5 2), (466, o_push 1 (.int 1)), (467, o_iop (fun x y => x + y)), (468, o_rdIs 0), (469, o_aload 0 1), (470, o_iload 5 2), (472, o_push 1 (.int 2)), (473, o_iop (fun x y => x + y)), (474, o_rdIs 0), (475, o_aload 0 1), (476, o_iload 5 2), (478, o_push 1 (.int 3)), (479, o_iop (fun x y => x + y)), (480, o_rdIs 0), (481, o_aload 0 1), (482, o_iload 5 2), (484, o_push 1 (.int 4)), (485, o_iop (fun x y => x + y)), (486, o_rdIs 0), (487, o_cv [(30, 322)] 4 3 false none), (490, o_istore 7 2), (492, o_aload 2 1), (493, o_cv [(30, 289)] 0 3 false none), (496, o_iload 6 2), (498, o_icmp (fun x y => decide (x = y)) 503), (501, o_push 1 (.int 0)), (502, o_ret 5), (503, o_iload 6 2), (505, o_if (fun x => decide (¬ x = 0)) 520), (508, o_aload 3 1), (509, o_push 1 (.int 0)), (510, o_rdJ), (511, o_iload 7 2)],
  [(513, o_i2l), (514, o_lcmp), (515, o_if (fun x => decide (x = 0)) 520), (518, o_push 1 (.int 0)), (519, o_ret 5), (520, o_goto 2693), (523, o_aload 1 1), (524, o_aload 0 1), (525, o_iload 5 2), (527, o_push 1 (.int 1)), (528, o_iop (fun x y => x + y)), (529, o_rdIs 0), (530, o_aload 0 1), (531, o_iload 5 2), (533, o_push 1 (.int 2)), (534, o_iop (fun x y => x + y)), (535, o_rdIs 0), (536, o_aload 0 1), (537, o_iload 5 2), (539, o_push 1 (.int 3)), (540, o_iop (fun x y => x + y)), (541, o_rdIs 0), (542, o_aload 3 1), (543, o_cs 129 5 false none), (546, o_istore 6 2), (548, o_aload 2 1), (549, o_aload 0 1), (550, o_iload 5 2), (552, o_push 1 (.int 1)), (553, o_iop (fun x y => x + y)), (554, o_rdIs 0), (555, o_aload 0 1), (556, o_iload 5 2), (558, o_push 1 (.int 2)), (559, o_iop (fun x y => x + y)), (560, o_rdIs 0), (561, o_aload 0 1), (562, o_iload 5 2), (564, o_push 1 (.int 3)), (565, o_iop (fun x y => x + y)), (566, o_rdIs 0), (567, o_cv [(30, 324)] 3 3 false none), (570, o_istore 7 2), (572, o_aload 2 1), (573, o_cv [(30, 289)] 0 3 false none)],
  [(576, o_iload 6 2), (578, o_icmp (fun x y => decide (x = y)) 583), (581, o_push 1 (.int 0)), (582, o_ret 5), (583, o_iload 6 2), (585, o_if (fun x => decide (¬ x = 0)) 600), (588, o_aload 3 1), (589, o_push 1 (.int 0)), (590, o_rdJ), (591, o_iload 7 2), (593, o_i2l), (594, o_lcmp), (595, o_if (fun x => decide (x = 0)) 600), (598, o_push 1 (.int 0)), (599, o_ret 5), (600, o_goto 2693), (603, o_aload 1 1), (604, o_aload 0 1), (605, o_iload 5 2), (607, o_push 1 (.int 1)), (608, o_iop (fun x y => x + y)), (609, o_rdIs 0), (610, o_aload 0 1), (611, o_iload 5 2), (613, o_push 1 (.int 2)), (614, o_iop (fun x y => x + y)), (615, o_rdIs 0), (616, o_aload 3 1), (617, o_cs 130 4 false none), (620, o_istore 6 2), (622, o_aload 2 1), (623, o_aload 0 1), (624, o_iload 5 2), (626, o_push 1 (.int 1)), (627, o_iop (fun x y => x + y)), (628, o_rdIs 0), (629, o_aload 0 1), (630, o_iload 5 2), (632, o_push 1 (.int 2)), (633, o_iop (fun x y => x + y)), (634, o_rdIs 0), (635, o_cv [(30, 325)] 2 3 false none), (638, o_istore 7 2)],
  [(640, o_aload 2 1), (641, o_cv [(30, 289)] 0 3 false none), (644, o_iload 6 2), (646, o_icmp (fun x y => decide (x = y)) 651), (649, o_push 1 (.int 0)), (650, o_ret 5), (651, o_iload 6 2), (653, o_if (fun x => decide (¬ x = 0)) 668), (656, o_aload 3 1), (657, o_push 1 (.int 0)), (658, o_rdJ), (659, o_iload 7 2), (661, o_i2l), (662, o_lcmp), (663, o_if (fun x => decide (x = 0)) 668), (666, o_push 1 (.int 0)), (667, o_ret 5), (668, o_goto 2693), (671, o_aload 1 1), (672, o_aload 0 1), (673, o_iload 5 2), (675, o_push 1 (.int 1)), (676, o_iop (fun x y => x + y)), (677, o_rdIs 0), (678, o_aload 0 1), (679, o_iload 5 2), (681, o_push 1 (.int 2)), (682, o_iop (fun x y => x + y)), (683, o_rdIs 0), (684, o_aload 3 1), (685, o_cs 131 4 false none), (688, o_istore 6 2), (690, o_aload 2 1), (691, o_aload 0 1), (692, o_iload 5 2), (694, o_push 1 (.int 1)), (695, o_iop (fun x y => x + y)), (696, o_rdIs 0), (697, o_aload 0 1), (698, o_iload 5 2), (700, o_push 1 (.int 2)), (701, o_iop (fun x y => x + y)), (702, o_rdIs 0), (703, o_cv [(30, 327)] 2 3 false none)],
  [(706, o_istore 7 2), (708, o_aload 2 1), (709, o_cv [(30, 289)] 0 3 false none), (712, o_iload 6 2), (714, o_icmp (fun x y => decide (x = y)) 719), (717, o_push 1 (.int 0)), (718, o_ret 5), (719, o_iload 6 2), (721, o_if (fun x => decide (¬ x = 0)) 736), (724, o_aload 3 1), (725, o_push 1 (.int 0)), (726, o_rdJ), (727, o_iload 7 2), (729, o_i2l), (730, o_lcmp), (731, o_if (fun x => decide (x = 0)) 736), (734, o_push 1 (.int 0)), (735, o_ret 5), (736, o_goto 2693), (739, o_aload 1 1), (740, o_aload 0 1), (741, o_iload 5 2), (743, o_push 1 (.int 1)), (744, o_iop (fun x y => x + y)), (745, o_rdIs 0), (746, o_aload 3 1), (747, o_cs 132 3 false none), (750, o_istore 6 2), (752, o_aload 2 1), (753, o_aload 0 1), (754, o_iload 5 2), (756, o_push 1 (.int 1)), (757, o_iop (fun x y => x + y)), (758, o_rdIs 0), (759, o_cv [(30, 329)] 1 3 false none), (762, o_istore 7 2), (764, o_aload 2 1), (765, o_cv [(30, 289)] 0 3 false none)],
  [(768, o_iload 6 2), (770, o_icmp (fun x y => decide (x = y)) 775), (773, o_push 1 (.int 0)), (774, o_ret 5), (775, o_iload 6 2), (777, o_if (fun x => decide (¬ x = 0)) 792), (780, o_aload 3 1), (781, o_push 1 (.int 0)), (782, o_rdJ), (783, o_iload 7 2), (785, o_i2l), (786, o_lcmp), (787, o_if (fun x => decide (x = 0)) 792), (790, o_push 1 (.int 0)), (791, o_ret 5), (792, o_goto 2693), (795, o_aload 1 1), (796, o_aload 0 1), (797, o_iload 5 2), (799, o_push 1 (.int 1)), (800, o_iop (fun x y => x + y)), (801, o_rdIs 0), (802, o_aload 0 1), (803, o_iload 5 2), (805, o_push 1 (.int 2)), (806, o_iop (fun x y => x + y)), (807, o_rdIs 0), (808, o_aload 3 1), (809, o_cs 133 4 false none), (812, o_istore 6 2), (814, o_aload 2 1), (815, o_aload 0 1), (816, o_iload 5 2), (818, o_push 1 (.int 1)), (819, o_iop (fun x y => x + y)), (820, o_rdIs 0), (821, o_aload 0 1), (822, o_iload 5 2), (824, o_push 1 (.int 2)), (825, o_iop (fun x y => x + y)), (826, o_rdIs 0), (827, o_cv [(30, 334)] 2 3 false none), (830, o_istore 7 2)],
  [(832, o_aload 2 1), (833, o_cv [(30, 289)] 0 3 false none), (836, o_iload 6 2), (838, o_icmp (fun x y => decide (x = y)) 843), (841, o_push 1 (.int 0)), (842, o_ret 5), (843, o_iload 6 2), (845, o_if (fun x => decide (¬ x = 0)) 860), (848, o_aload 3 1), (849, o_push 1 (.int 0)), (850, o_rdJ), (851, o_iload 7 2), (853, o_i2l), (854, o_lcmp), (855, o_if (fun x => decide (x = 0)) 860), (858, o_push 1 (.int 0)), (859, o_ret 5), (860, o_goto 2693), (863, o_aload 1 1), (864, o_aload 0 1), (865, o_iload 5 2), (867, o_push 1 (.int 1)), (868, o_iop (fun x y => x + y)), (869, o_rdIs 0), (870, o_aload 0 1), (871, o_iload 5 2), (873, o_push 1 (.int 2)), (874, o_iop (fun x y => x + y)), (875, o_rdIs 0), (876, o_aload 3 1), (877, o_cs 134 4 false none), (880, o_istore 6 2), (882, o_aload 2 1), (883, o_aload 0 1), (884, o_iload 5 2), (886, o_push 1 (.int 1)), (887, o_iop (fun x y => x + y)), (888, o_rdIs 0), (889, o_aload 0 1), (890, o_iload 5 2), (892, o_push 1 (.int 2)), (893, o_iop (fun x y => x + y)), (894, o_rdIs 0), (895, o_cv [(30, 336)] 2 3 false none)],
  [(898, o_istore 7 2), (900, o_aload 2 1), (901, o_cv [(30, 289)] 0 3 false none), (904, o_iload 6 2), (906, o_icmp (fun x y => decide (x = y)) 911), (909, o_push 1 (.int 0)), (910, o_ret 5), (911, o_iload 6 2), (913, o_if (fun x => decide (¬ x = 0)) 928), (916, o_aload 3 1), (917, o_push 1 (.int 0)), (918, o_rdJ), (919, o_iload 7 2), (921, o_i2l), (922, o_lcmp), (923, o_if (fun x => decide (x = 0)) 928), (926, o_push 1 (.int 0)), (927, o_ret 5), (928, o_goto 2693), (931, o_aload 1 1), (932, o_aload 0 1), (933, o_iload 5 2), (935, o_push 1 (.int 1)), (936, o_iop (fun x y => x + y)), (937, o_rdIs 0), (938, o_aload 0 1), (939, o_iload 5 2), (941, o_push 1 (.int 2)), (942, o_iop (fun x y => x + y)), (943, o_rdIs 0), (944, o_aload 3 1), (945, o_cs 135 4 false none), (948, o_istore 6 2), (950, o_aload 2 1), (951, o_aload 0 1), (952, o_iload 5 2), (954, o_push 1 (.int 1)), (955, o_iop (fun x y => x + y)), (956, o_rdIs 0), (957, o_aload 0 1), (958, o_iload 5 2)],
  [(960, o_push 1 (.int 2)), (961, o_iop (fun x y => x + y)), (962, o_rdIs 0), (963, o_cv [(30, 337)] 2 3 false none), (966, o_istore 7 2), (968, o_aload 2 1), (969, o_cv [(30, 289)] 0 3 false none), (972, o_iload 6 2), (974, o_icmp (fun x y => decide (x = y)) 979), (977, o_push 1 (.int 0)), (978, o_ret 5), (979, o_iload 6 2), (981, o_if (fun x => decide (¬ x = 0)) 996), (984, o_aload 3 1), (985, o_push 1 (.int 0)), (986, o_rdJ), (987, o_iload 7 2), (989, o_i2l), (990, o_lcmp), (991, o_if (fun x => decide (x = 0)) 996), (994, o_push 1 (.int 0)), (995, o_ret 5), (996, o_goto 2693), (999, o_aload 1 1), (1000, o_aload 0 1), (1001, o_iload 5 2), (1003, o_push 1 (.int 1)), (1004, o_iop (fun x y => x + y)), (1005, o_rdIs 0), (1006, o_aload 0 1), (1007, o_iload 5 2), (1009, o_push 1 (.int 2)), (1010, o_iop (fun x y => x + y)), (1011, o_rdIs 0), (1012, o_aload 3 1), (1013, o_cs 136 4 false none), (1016, o_istore 6 2), (1018, o_aload 2 1), (1019, o_aload 0 1), (1020, o_iload 5 2), (1022, o_push 1 (.int 1)), (1023, o_iop (fun x y => x + y))],
  [(1024, o_rdIs 0), (1025, o_aload 0 1), (1026, o_iload 5 2), (1028, o_push 1 (.int 2)), (1029, o_iop (fun x y => x + y)), (1030, o_rdIs 0), (1031, o_cv [(30, 343)] 2 3 false none), (1034, o_istore 7 2), (1036, o_aload 2 1), (1037, o_cv [(30, 289)] 0 3 false none), (1040, o_iload 6 2), (1042, o_icmp (fun x y => decide (x = y)) 1047), (1045, o_push 1 (.int 0)), (1046, o_ret 5), (1047, o_iload 6 2), (1049, o_if (fun x => decide (¬ x = 0)) 1064), (1052, o_aload 3 1), (1053, o_push 1 (.int 0)), (1054, o_rdJ), (1055, o_iload 7 2), (1057, o_i2l), (1058, o_lcmp), (1059, o_if (fun x => decide (x = 0)) 1064), (1062, o_push 1 (.int 0)), (1063, o_ret 5), (1064, o_goto 2693), (1067, o_aload 1 1), (1068, o_aload 0 1), (1069, o_iload 5 2), (1071, o_push 1 (.int 1)), (1072, o_iop (fun x y => x + y)), (1073, o_rdIs 0), (1074, o_aload 0 1), (1075, o_iload 5 2), (1077, o_push 1 (.int 2)), (1078, o_iop (fun x y => x + y)), (1079, o_rdIs 0), (1080, o_aload 0 1), (1081, o_iload 5 2), (1083, o_push 1 (.int 3)), (1084, o_iop (fun x y => x + y)), (1085, o_rdIs 0), (1086, o_aload 0 1), (1087, o_iload 5 2)],
  [(1089, o_push 1 (.int 4)), (1090, o_iop (fun x y => x + y)), (1091, o_rdIs 0), (1092, o_aload 3 1), (1093, o_cs 137 6 false none), (1096, o_istore 6 2), (1098, o_aload 2 1), (1099, o_aload 0 1), (1100, o_iload 5 2), (1102, o_push 1 (.int 1)), (1103, o_iop (fun x y => x + y)), (1104, o_rdIs 0), (1105, o_aload 0 1), (1106, o_iload 5 2), (1108, o_push 1 (.int 2)), (1109, o_iop (fun x y => x + y)), (1110, o_rdIs 0), (1111, o_aload 0 1), (1112, o_iload 5 2), (1114, o_push 1 (.int 3)), (1115, o_iop (fun x y => x + y)), (1116, o_rdIs 0), (1117, o_aload 0 1), (1118, o_iload 5 2), (1120, o_push 1 (.int 4)), (1121, o_iop (fun x y => x + y)), (1122, o_rdIs 0), (1123, o_cv [(30, 344)] 4 3 false none), (1126, o_istore 7 2), (1128, o_aload 2 1), (1129, o_cv [(30, 289)] 0 3 false none), (1132, o_iload 6 2), (1134, o_icmp (fun x y => decide (x = y)) 1139), (1137, o_push 1 (.int 0)), (1138, o_ret 5), (1139, o_iload 6 2), (1141, o_if (fun x => decide (¬ x = 0)) 1156), (1144, o_aload 3 1), (1145, o_push 1 (.int 0)), (1146, o_rdJ), (1147, o_iload 7 2), (1149, o_i2l), (1150, o_lcmp), (1151, o_if (fun x => decide (x = 0)) 1156)],
  [(1154, o_push 1 (.int 0)), (1155, o_ret 5), (1156, o_goto 2693), (1159, o_aload 1 1), (1160, o_aload 0 1), (1161, o_iload 5 2), (1163, o_push 1 (.int 1)), (1164, o_iop (fun x y => x + y)), (1165, o_rdIs 0), (1166, o_aload 0 1), (1167, o_iload 5 2), (1169, o_push 1 (.int 2)), (1170, o_iop (fun x y => x + y)), (1171, o_rdIs 0), (1172, o_aload 0 1), (1173, o_iload 5 2), (1175, o_push 1 (.int 3)), (1176, o_iop (fun x y => x + y)), (1177, o_rdIs 0), (1178, o_aload 0 1), (1179, o_iload 5 2), (1181, o_push 1 (.int 4)), (1182, o_iop (fun x y => x + y)), (1183, o_rdIs 0), (1184, o_aload 3 1), (1185, o_cs 138 6 false none), (1188, o_istore 6 2), (1190, o_aload 2 1), (1191, o_aload 0 1), (1192, o_iload 5 2), (1194, o_push 1 (.int 1)), (1195, o_iop (fun x y => x + y)), (1196, o_rdIs 0), (1197, o_aload 0 1), (1198, o_iload 5 2), (1200, o_push 1 (.int 2)), (1201, o_iop (fun x y => x + y)), (1202, o_rdIs 0), (1203, o_aload 0 1), (1204, o_iload 5 2), (1206, o_push 1 (.int 3)), (1207, o_iop (fun x y => x + y)), (1208, o_rdIs 0), (1209, o_aload 0 1), (1210, o_iload 5 2), (1212, o_push 1 (.int 4)), (1213, o_iop (fun x y => x + y)), (1214, o_rdIs 0), (1215, o_cv [(30, 348)] 4 3 false none)],
  [(1218, o_istore 7 2), (1220, o_aload 2 1), (1221, o_cv [(30, 289)] 0 3 false none), (1224, o_iload 6 2), (1226, o_icmp (fun x y => decide (x = y)) 1231), (1229, o_push 1 (.int 0)), (1230, o_ret 5), (1231, o_iload 6 2), (1233, o_if (fun x => decide (¬ x = 0)) 1248), (1236, o_aload 3 1), (1237, o_push 1 (.int 0)), (1238, o_rdJ), (1239, o_iload 7 2), (1241, o_i2l), (1242, o_lcmp), (1243, o_if (fun x => decide (x = 0)) 1248), (1246, o_push 1 (.int 0)), (1247, o_ret 5), (1248, o_goto 2693), (1251, o_aload 1 1), (1252, o_aload 0 1), (1253, o_iload 5 2), (1255, o_push 1 (.int 1)), (1256, o_iop (fun x y => x + y)), (1257, o_rdIs 0), (1258, o_aload 0 1), (1259, o_iload 5 2), (1261, o_push 1 (.int 2)), (1262, o_iop (fun x y => x + y)), (1263, o_rdIs 0), (1264, o_aload 3 1), (1265, o_cs 139 4 false none), (1268, o_istore 6 2), (1270, o_aload 2 1), (1271, o_aload 0 1), (1272, o_iload 5 2), (1274, o_push 1 (.int 1)), (1275, o_iop (fun x y => x + y)), (1276, o_rdIs 0), (1277, o_aload 0 1), (1278, o_iload 5 2)],
  [(1280, o_push 1 (.int 2)), (1281, o_iop (fun x y => x + y)), (1282, o_rdIs 0), (1283, o_cv [(30, 349)] 2 3 false none), (1286, o_istore 7 2), (1288, o_aload 2 1), (1289, o_cv [(30, 289)] 0 3 false none), (1292, o_iload 6 2), (1294, o_icmp (fun x y => decide (x = y)) 1299), (1297, o_push 1 (.int 0)), (1298, o_ret 5), (1299, o_iload 6 2), (1301, o_if (fun x => decide (¬ x = 0)) 1316), (1304, o_aload 3 1), (1305, o_push 1 (.int 0)), (1306, o_rdJ), (1307, o_iload 7 2), (1309, o_i2l), (1310, o_lcmp), (1311, o_if (fun x => decide (x = 0)) 1316), (1314, o_push 1 (.int 0)), (1315, o_ret 5), (1316, o_goto 2693), (1319, o_aload 1 1), (1320, o_aload 0 1), (1321, o_iload 5 2), (1323, o_push 1 (.int 1)), (1324, o_iop (fun x y => x + y)), (1325, o_rdIs 0), (1326, o_aload 0 1), (1327, o_iload 5 2), (1329, o_push 1 (.int 2)), (1330, o_iop (fun x y => x + y)), (1331, o_rdIs 0), (1332, o_aload 0 1), (1333, o_iload 5 2), (1335, o_push 1 (.int 3)), (1336, o_iop (fun x y => x + y)), (1337, o_rdIs 0), (1338, o_aload 3 1), (1339, o_cs 140 5 false none), (1342, o_istore 6 2)],
  [(1344, o_aload 2 1), (1345, o_aload 0 1), (1346, o_iload 5 2), (1348, o_push 1 (.int 1)), (1349, o_iop (fun x y => x + y)), (1350, o_rdIs 0), (1351, o_aload 0 1), (1352, o_iload 5 2), (1354, o_push 1 (.int 2)), (1355, o_iop (fun x y => x + y)), (1356, o_rdIs 0), (1357, o_aload 0 1), (1358, o_iload 5 2), (1360, o_push 1 (.int 3)), (1361, o_iop (fun x y => x + y)), (1362, o_rdIs 0), (1363, o_cv [(30, 351)] 3 3 false none), (1366, o_istore 7 2), (1368, o_aload 2 1), (1369, o_cv [(30, 289)] 0 3 false none), (1372, o_iload 6 2), (1374, o_icmp (fun x y => decide (x = y)) 1379), (1377, o_push 1 (.int 0)), (1378, o_ret 5), (1379, o_iload 6 2), (1381, o_if (fun x => decide (¬ x = 0)) 1396), (1384, o_aload 3 1), (1385, o_push 1 (.int 0)), (1386, o_rdJ), (1387, o_iload 7 2), (1389, o_i2l), (1390, o_lcmp), (1391, o_if (fun x => decide (x = 0)) 1396), (1394, o_push 1 (.int 0)), (1395, o_ret 5), (1396, o_goto 2693), (1399, o_aload 1 1), (1400, o_aload 0 1), (1401, o_iload 5 2), (1403, o_push 1 (.int 1)), (1404, o_iop (fun x y => x + y)), (1405, o_rdIs 0), (1406, o_aload 0 1), (1407, o_iload 5 2)],
  [(1409, o_push 1 (.int 2)), (1410, o_iop (fun x y => x + y)), (1411, o_rdIs 0), (1412, o_aload 0 1), (1413, o_iload 5 2), (1415, o_push 1 (.int 3)), (1416, o_iop (fun x y => x + y)), (1417, o_rdIs 0), (1418, o_aload 0 1), (1419, o_iload 5 2), (1421, o_push 1 (.int 4)), (1422, o_iop (fun x y => x + y)), (1423, o_rdIs 0), (1424, o_aload 3 1), (1425, o_cs 141 6 false none), (1428, o_istore 6 2), (1430, o_aload 2 1), (1431, o_aload 0 1), (1432, o_iload 5 2), (1434, o_push 1 (.int 1)), (1435, o_iop (fun x y => x + y)), (1436, o_rdIs 0), (1437, o_aload 0 1), (1438, o_iload 5 2), (1440, o_push 1 (.int 2)), (1441, o_iop (fun x y => x + y)), (1442, o_rdIs 0), (1443, o_aload 0 1), (1444, o_iload 5 2), (1446, o_push 1 (.int 3)), (1447, o_iop (fun x y => x + y)), (1448, o_rdIs 0), (1449, o_aload 0 1), (1450, o_iload 5 2), (1452, o_push 1 (.int 4)), (1453, o_iop (fun x y => x + y)), (1454, o_rdIs 0), (1455, o_cv [(30, 355)] 4 3 false none), (1458, o_istore 7 2), (1460, o_aload 2 1), (1461, o_cv [(30, 289)] 0 3 false none), (1464, o_iload 6 2), (1466, o_icmp (fun x y => decide (x = y)) 1471), (1469, o_push 1 (.int 0)), (1470, o_ret 5), (1471, o_iload 6 2)],
  [(1473, o_if (fun x => decide (¬ x = 0)) 1488), (1476, o_aload 3 1), (1477, o_push 1 (.int 0)), (1478, o_rdJ), (1479, o_iload 7 2), (1481, o_i2l), (1482, o_lcmp), (1483, o_if (fun x => decide (x = 0)) 1488), (1486, o_push 1 (.int 0)), (1487, o_ret 5), (1488, o_goto 2693), (1491, o_aload 1 1), (1492, o_aload 0 1), (1493, o_iload 5 2), (1495, o_push 1 (.int 1)), (1496, o_iop (fun x y => x + y)), (1497, o_rdIs 0), (1498, o_aload 0 1), (1499, o_iload 5 2), (1501, o_push 1 (.int 2)), (1502, o_iop (fun x y => x + y)), (1503, o_rdIs 0), (1504, o_aload 3 1), (1505, o_cs 142 4 false none), (1508, o_istore 6 2), (1510, o_aload 2 1), (1511, o_aload 0 1), (1512, o_iload 5 2), (1514, o_push 1 (.int 1)), (1515, o_iop (fun x y => x + y)), (1516, o_rdIs 0), (1517, o_aload 0 1), (1518, o_iload 5 2), (1520, o_push 1 (.int 2)), (1521, o_iop (fun x y => x + y)), (1522, o_rdIs 0), (1523, o_cv [(30, 356)] 2 3 false none), (1526, o_istore 7 2), (1528, o_aload 2 1), (1529, o_cv [(30, 289)] 0 3 false none), (1532, o_iload 6 2), (1534, o_icmp (fun x y => decide (x = y)) 1539)],
  [(1537, o_push 1 (.int 0)), (1538, o_ret 5), (1539, o_iload 6 2), (1541, o_if (fun x => decide (¬ x = 0)) 1556), (1544, o_aload 3 1), (1545, o_push 1 (.int 0)), (1546, o_rdJ), (1547, o_iload 7 2), (1549, o_i2l), (1550, o_lcmp), (1551, o_if (fun x => decide (x = 0)) 1556), (1554, o_push 1 (.int 0)), (1555, o_ret 5), (1556, o_goto 2693), (1559, o_aload 1 1), (1560, o_aload 0 1), (1561, o_iload 5 2), (1563, o_push 1 (.int 1)), (1564, o_iop (fun x y => x + y)), (1565, o_rdIs 0), (1566, o_aload 3 1), (1567, o_cs 143 3 false none), (1570, o_istore 6 2), (1572, o_aload 2 1), (1573, o_aload 0 1), (1574, o_iload 5 2), (1576, o_push 1 (.int 1)), (1577, o_iop (fun x y => x + y)), (1578, o_rdIs 0), (1579, o_cv [(30, 358)] 1 3 false none), (1582, o_istore 7 2), (1584, o_aload 2 1), (1585, o_cv [(30, 289)] 0 3 false none), (1588, o_iload 6 2), (1590, o_icmp (fun x y => decide (x = y)) 1595), (1593, o_push 1 (.int 0)), (1594, o_ret 5), (1595, o_iload 6 2), (1597, o_if (fun x => decide (¬ x = 0)) 1612)],
  [(1600, o_aload 3 1), (1601, o_push 1 (.int 0)), (1602, o_rdJ), (1603, o_iload 7 2), (1605, o_i2l), (1606, o_lcmp), (1607, o_if (fun x => decide (x = 0)) 1612), (1610, o_push 1 (.int 0)), (1611, o_ret 5), (1612, o_goto 2693), (1615, o_aload 1 1), (1616, o_aload 0 1), (1617, o_iload 5 2), (1619, o_push 1 (.int 1)), (1620, o_iop (fun x y => x + y)), (1621, o_rdIs 0), (1622, o_aload 3 1), (1623, o_cs 144 3 false none), (1626, o_istore 6 2), (1628, o_aload 2 1), (1629, o_aload 0 1), (1630, o_iload 5 2), (1632, o_push 1 (.int 1)), (1633, o_iop (fun x y => x + y)), (1634, o_rdIs 0), (1635, o_cv [(30, 361)] 1 3 false none), (1638, o_istore 7 2), (1640, o_aload 2 1), (1641, o_cv [(30, 289)] 0 3 false none), (1644, o_iload 6 2), (1646, o_icmp (fun x y => decide (x = y)) 1651), (1649, o_push 1 (.int 0)), (1650, o_ret 5), (1651, o_iload 6 2), (1653, o_if (fun x => decide (¬ x = 0)) 1668), (1656, o_aload 3 1), (1657, o_push 1 (.int 0)), (1658, o_rdJ), (1659, o_iload 7 2), (1661, o_i2l), (1662, o_lcmp), (1663, o_if (fun x => decide (x = 0)) 1668)],
  [(1666, o_push 1 (.int 0)), (1667, o_ret 5), (1668, o_goto 2693), (1671, o_aload 1 1), (1672, o_aload 0 1), (1673, o_iload 5 2), (1675, o_push 1 (.int 1)), (1676, o_iop (fun x y => x + y)), (1677, o_rdIs 0), (1678, o_aload 0 1), (1679, o_iload 5 2), (1681, o_push 1 (.int 2)), (1682, o_iop (fun x y => x + y)), (1683, o_rdIs 0), (1684, o_aload 3 1), (1685, o_cs 145 4 false none), (1688, o_istore 6 2), (1690, o_aload 2 1), (1691, o_aload 0 1), (1692, o_iload 5 2), (1694, o_push 1 (.int 1)), (1695, o_iop (fun x y => x + y)), (1696, o_rdIs 0), (1697, o_aload 0 1), (1698, o_iload 5 2), (1700, o_push 1 (.int 2)), (1701, o_iop (fun x y => x + y)), (1702, o_rdIs 0), (1703, o_cv [(30, 362)] 2 3 false none), (1706, o_istore 7 2), (1708, o_aload 2 1), (1709, o_cv [(30, 289)] 0 3 false none), (1712, o_iload 6 2), (1714, o_icmp (fun x y => decide (x = y)) 1719), (1717, o_push 1 (.int 0)), (1718, o_ret 5), (1719, o_iload 6 2), (1721, o_if (fun x => decide (¬ x = 0)) 1736), (1724, o_aload 3 1), (1725, o_push 1 (.int 0)), (1726, o_rdJ), (1727, o_iload 7 2)],
  [(1729, o_i2l), (1730, o_lcmp), (1731, o_if (fun x => decide (x = 0)) 1736), (1734, o_push 1 (.int 0)), (1735, o_ret 5), (1736, o_goto 2693), (1739, o_aload 1 1), (1740, o_aload 0 1), (1741, o_iload 5 2), (1743, o_push 1 (.int 1)), (1744, o_iop (fun x y => x + y)), (1745, o_rdIs 0), (1746, o_aload 3 1), (1747, o_cs 146 3 false none), (1750, o_istore 6 2), (1752, o_aload 2 1), (1753, o_aload 0 1), (1754, o_iload 5 2), (1756, o_push 1 (.int 1)), (1757, o_iop (fun x y => x + y)), (1758, o_rdIs 0), (1759, o_cv [(30, 363)] 1 3 false none), (1762, o_istore 7 2), (1764, o_aload 2 1), (1765, o_cv [(30, 289)] 0 3 false none), (1768, o_iload 6 2), (1770, o_icmp (fun x y => decide (x = y)) 1775), (1773, o_push 1 (.int 0)), (1774, o_ret 5), (1775, o_iload 6 2), (1777, o_if (fun x => decide (¬ x = 0)) 1792), (1780, o_aload 3 1), (1781, o_push 1 (.int 0)), (1782, o_rdJ), (1783, o_iload 7 2), (1785, o_i2l), (1786, o_lcmp), (1787, o_if (fun x => decide (x = 0)) 1792), (1790, o_push 1 (.int 0)), (1791, o_ret 5)],
  [(1792, o_goto 2693), (1795, o_aload 1 1), (1796, o_aload 0 1), (1797, o_iload 5 2), (1799, o_push 1 (.int 1)), (1800, o_iop (fun x y => x + y)), (1801, o_rdIs 0), (1802, o_aload 0 1), (1803, o_iload 5 2), (1805, o_push 1 (.int 2)), (1806, o_iop (fun x y => x + y)), (1807, o_rdIs 0), (1808, o_aload 0 1), (1809, o_iload 5 2), (1811, o_push 1 (.int 3)), (1812, o_iop (fun x y => x + y)), (1813, o_rdIs 0), (1814, o_aload 3 1), (1815, o_cs 147 5 false none), (1818, o_istore 6 2), (1820, o_aload 2 1), (1821, o_aload 0 1), (1822, o_iload 5 2), (1824, o_push 1 (.int 1)), (1825, o_iop (fun x y => x + y)), (1826, o_rdIs 0), (1827, o_aload 0 1), (1828, o_iload 5 2), (1830, o_push 1 (.int 2)), (1831, o_iop (fun x y => x + y)), (1832, o_rdIs 0), (1833, o_aload 0 1), (1834, o_iload 5 2), (1836, o_push 1 (.int 3)), (1837, o_iop (fun x y => x + y)), (1838, o_rdIs 0), (1839, o_cv [(30, 369)] 3 3 false none), (1842, o_istore 7 2), (1844, o_aload 2 1), (1845, o_cv [(30, 289)] 0 3 false none), (1848, o_iload 6 2), (1850, o_icmp (fun x y => decide (x = y)) 1855), (1853, o_push 1 (.int 0)), (1854, o_ret 5), (1855, o_iload 6 2)],
  [(1857, o_if (fun x => decide (¬ x = 0)) 1872), (1860, o_aload 3 1), (1861, o_push 1 (.int 0)), (1862, o_rdJ), (1863, o_iload 7 2), (1865, o_i2l), (1866, o_lcmp), (1867, o_if (fun x => decide (x = 0)) 1872), (1870, o_push 1 (.int 0)), (1871, o_ret 5), (1872, o_goto 2693), (1875, o_aload 1 1), (1876, o_aload 0 1), (1877, o_iload 5 2), (1879, o_push 1 (.int 1)), (1880, o_iop (fun x y => x + y)), (1881, o_rdIs 0), (1882, o_aload 0 1), (1883, o_iload 5 2), (1885, o_push 1 (.int 2)), (1886, o_iop (fun x y => x + y)), (1887, o_rdIs 0), (1888, o_aload 0 1), (1889, o_iload 5 2), (1891, o_push 1 (.int 3)), (1892, o_iop (fun x y => x + y)), (1893, o_rdIs 0), (1894, o_aload 3 1), (1895, o_cs 148 5 false none), (1898, o_istore 6 2), (1900, o_aload 2 1), (1901, o_aload 0 1), (1902, o_iload 5 2), (1904, o_push 1 (.int 1)), (1905, o_iop (fun x y => x + y)), (1906, o_rdIs 0), (1907, o_aload 0 1), (1908, o_iload 5 2), (1910, o_push 1 (.int 2)), (1911, o_iop (fun x y => x + y)), (1912, o_rdIs 0), (1913, o_aload 0 1), (1914, o_iload 5 2), (1916, o_push 1 (.int 3)), (1917, o_iop (fun x y => x + y)), (1918, o_rdIs 0), (1919, o_cv [(30, 375)] 3 3 false none)],
  [(1922, o_istore 7 2), (1924, o_aload 2 1), (1925, o_cv [(30, 289)] 0 3 false none), (1928, o_iload 6 2), (1930, o_icmp (fun x y => decide (x = y)) 1935), (1933, o_push 1 (.int 0)), (1934, o_ret 5), (1935, o_iload 6 2), (1937, o_if (fun x => decide (¬ x = 0)) 1952), (1940, o_aload 3 1), (1941, o_push 1 (.int 0)), (1942, o_rdJ), (1943, o_iload 7 2), (1945, o_i2l), (1946, o_lcmp), (1947, o_if (fun x => decide (x = 0)) 1952), (1950, o_push 1 (.int 0)), (1951, o_ret 5), (1952, o_goto 2693), (1955, o_aload 1 1), (1956, o_aload 0 1), (1957, o_iload 5 2), (1959, o_push 1 (.int 1)), (1960, o_iop (fun x y => x + y)), (1961, o_rdIs 0), (1962, o_aload 0 1), (1963, o_iload 5 2), (1965, o_push 1 (.int 2)), (1966, o_iop (fun x y => x + y)), (1967, o_rdIs 0), (1968, o_aload 3 1), (1969, o_cs 149 4 false none), (1972, o_istore 6 2), (1974, o_aload 2 1), (1975, o_aload 0 1), (1976, o_iload 5 2), (1978, o_push 1 (.int 1)), (1979, o_iop (fun x y => x + y)), (1980, o_rdIs 0), (1981, o_aload 0 1), (1982, o_iload 5 2)],
  [(1984, o_push 1 (.int 2)), (1985, o_iop (fun x y => x + y)), (1986, o_rdIs 0), (1987, o_cv [(30, 376)] 2 3 false none), (1990, o_istore 7 2), (1992, o_aload 2 1), (1993, o_cv [(30, 289)] 0 3 false none), (1996, o_iload 6 2), (1998, o_icmp (fun x y => decide (x = y)) 2003), (2001, o_push 1 (.int 0)), (2002, o_ret 5), (2003, o_iload 6 2), (2005, o_if (fun x => decide (¬ x = 0)) 2020), (2008, o_aload 3 1), (2009, o_push 1 (.int 0)), (2010, o_rdJ), (2011, o_iload 7 2), (2013, o_i2l), (2014, o_lcmp), (2015, o_if (fun x => decide (x = 0)) 2020), (2018, o_push 1 (.int 0)), (2019, o_ret 5), (2020, o_goto 2693), (2023, o_aload 1 1), (2024, o_aload 0 1), (2025, o_iload 5 2), (2027, o_push 1 (.int 1)), (2028, o_iop (fun x y => x + y)), (2029, o_rdIs 0), (2030, o_aload 3 1), (2031, o_cs 150 3 false none), (2034, o_istore 6 2), (2036, o_aload 2 1), (2037, o_aload 0 1), (2038, o_iload 5 2), (2040, o_push 1 (.int 1)), (2041, o_iop (fun x y => x + y)), (2042, o_rdIs 0), (2043, o_cv [(30, 386)] 1 3 false none), (2046, o_istore 7 2)],
  [(2048, o_aload 2 1), (2049, o_cv [(30, 289)] 0 3 false none), (2052, o_iload 6 2), (2054, o_icmp (fun x y => decide (x = y)) 2059), (2057, o_push 1 (.int 0)), (2058, o_ret 5), (2059, o_iload 6 2), (2061, o_if (fun x => decide (¬ x = 0)) 2076), (2064, o_aload 3 1), (2065, o_push 1 (.int 0)), (2066, o_rdJ), (2067, o_iload 7 2), (2069, o_i2l), (2070, o_lcmp), (2071, o_if (fun x => decide (x = 0)) 2076), (2074, o_push 1 (.int 0)), (2075, o_ret 5), (2076, o_goto 2693), (2079, o_aload 1 1), (2080, o_aload 0 1), (2081, o_iload 5 2), (2083, o_push 1 (.int 1)), (2084, o_iop (fun x y => x + y)), (2085, o_rdIs 0), (2086, o_aload 0 1), (2087, o_iload 5 2), (2089, o_push 1 (.int 2)), (2090, o_iop (fun x y => x + y)), (2091, o_rdIs 0), (2092, o_aload 3 1), (2093, o_cs 151 4 false none), (2096, o_istore 6 2), (2098, o_aload 2 1), (2099, o_aload 0 1), (2100, o_iload 5 2), (2102, o_push 1 (.int 1)), (2103, o_iop (fun x y => x + y)), (2104, o_rdIs 0), (2105, o_aload 0 1), (2106, o_iload 5 2), (2108, o_push 1 (.int 2)), (2109, o_iop (fun x y => x + y)), (2110, o_rdIs 0), (2111, o_cv [(30, 387)] 2 3 false none)],
  [(2114, o_istore 7 2), (2116, o_aload 2 1), (2117, o_cv [(30, 289)] 0 3 false none), (2120, o_iload 6 2), (2122, o_icmp (fun x y => decide (x = y)) 2127), (2125, o_push 1 (.int 0)), (2126, o_ret 5), (2127, o_iload 6 2), (2129, o_if (fun x => decide (¬ x = 0)) 2144), (2132, o_aload 3 1), (2133, o_push 1 (.int 0)), (2134, o_rdJ), (2135, o_iload 7 2), (2137, o_i2l), (2138, o_lcmp), (2139, o_if (fun x => decide (x = 0)) 2144), (2142, o_push 1 (.int 0)), (2143, o_ret 5), (2144, o_goto 2693), (2147, o_aload 1 1), (2148, o_aload 0 1), (2149, o_iload 5 2), (2151, o_push 1 (.int 1)), (2152, o_iop (fun x y => x + y)), (2153, o_rdIs 0), (2154, o_aload 0 1), (2155, o_iload 5 2), (2157, o_push 1 (.int 2)), (2158, o_iop (fun x y => x + y)), (2159, o_rdIs 0), (2160, o_aload 3 1), (2161, o_cs 152 4 false none), (2164, o_istore 6 2), (2166, o_aload 2 1), (2167, o_aload 0 1), (2168, o_iload 5 2), (2170, o_push 1 (.int 1)), (2171, o_iop (fun x y => x + y)), (2172, o_rdIs 0), (2173, o_aload 0 1), (2174, o_iload 5 2)],
  [(2176, o_push 1 (.int 2)), (2177, o_iop (fun x y => x + y)), (2178, o_rdIs 0), (2179, o_cv [(30, 388)] 2 3 false none), (2182, o_istore 7 2), (2184, o_aload 2 1), (2185, o_cv [(30, 289)] 0 3 false none), (2188, o_iload 6 2), (2190, o_icmp (fun x y => decide (x = y)) 2195), (2193, o_push 1 (.int 0)), (2194, o_ret 5), (2195, o_iload 6 2), (2197, o_if (fun x => decide (¬ x = 0)) 2212), (2200, o_aload 3 1), (2201, o_push 1 (.int 0)), (2202, o_rdJ), (2203, o_iload 7 2), (2205, o_i2l), (2206, o_lcmp), (2207, o_if (fun x => decide (x = 0)) 2212), (2210, o_push 1 (.int 0)), (2211, o_ret 5), (2212, o_goto 2693), (2215, o_aload 1 1), (2216, o_aload 0 1), (2217, o_iload 5 2), (2219, o_push 1 (.int 1)), (2220, o_iop (fun x y => x + y)), (2221, o_rdIs 0), (2222, o_aload 0 1), (2223, o_iload 5 2), (2225, o_push 1 (.int 2)), (2226, o_iop (fun x y => x + y)), (2227, o_rdIs 0), (2228, o_aload 3 1), (2229, o_cs 153 4 false none), (2232, o_istore 6 2), (2234, o_aload 2 1), (2235, o_aload 0 1), (2236, o_iload 5 2), (2238, o_push 1 (.int 1)), (2239, o_iop (fun x y => x + y))],
  [(2240, o_rdIs 0), (2241, o_aload 0 1), (2242, o_iload 5 2), (2244, o_push 1 (.int 2)), (2245, o_iop (fun x y => x + y)), (2246, o_rdIs 0), (2247, o_cv [(30, 390)] 2 3 false none), (2250, o_istore 7 2), (2252, o_aload 2 1), (2253, o_cv [(30, 289)] 0 3 false none), (2256, o_iload 6 2), (2258, o_icmp (fun x y => decide (x = y)) 2263), (2261, o_push 1 (.int 0)), (2262, o_ret 5), (2263, o_iload 6 2), (2265, o_if (fun x => decide (¬ x = 0)) 2280), (2268, o_aload 3 1), (2269, o_push 1 (.int 0)), (2270, o_rdJ), (2271, o_iload 7 2), (2273, o_i2l), (2274, o_lcmp), (2275, o_if (fun x => decide (x = 0)) 2280), (2278, o_push 1 (.int 0)), (2279, o_ret 5), (2280, o_goto 2693), (2283, o_aload 1 1), (2284, o_aload 0 1), (2285, o_iload 5 2), (2287, o_push 1 (.int 1)), (2288, o_iop (fun x y => x + y)), (2289, o_rdIs 0), (2290, o_aload 0 1), (2291, o_iload 5 2), (2293, o_push 1 (.int 2)), (2294, o_iop (fun x y => x + y)), (2295, o_rdIs 0), (2296, o_aload 3 1), (2297, o_cs 154 4 false none), (2300, o_istore 6 2), (2302, o_aload 2 1), (2303, o_aload 0 1)],
  [(2304, o_iload 5 2), (2306, o_push 1 (.int 1)), (2307, o_iop (fun x y => x + y)), (2308, o_rdIs 0), (2309, o_aload 0 1), (2310, o_iload 5 2), (2312, o_push 1 (.int 2)), (2313, o_iop (fun x y => x + y)), (2314, o_rdIs 0), (2315, o_cv [(30, 391)] 2 3 false none), (2318, o_istore 7 2), (2320, o_aload 2 1), (2321, o_cv [(30, 289)] 0 3 false none), (2324, o_iload 6 2), (2326, o_icmp (fun x y => decide (x = y)) 2331), (2329, o_push 1 (.int 0)), (2330, o_ret 5), (2331, o_iload 6 2), (2333, o_if (fun x => decide (¬ x = 0)) 2348), (2336, o_aload 3 1), (2337, o_push 1 (.int 0)), (2338, o_rdJ), (2339, o_iload 7 2), (2341, o_i2l), (2342, o_lcmp), (2343, o_if (fun x => decide (x = 0)) 2348), (2346, o_push 1 (.int 0)), (2347, o_ret 5), (2348, o_goto 2693), (2351, o_aload 1 1), (2352, o_aload 0 1), (2353, o_iload 5 2), (2355, o_push 1 (.int 1)), (2356, o_iop (fun x y => x + y)), (2357, o_rdIs 0), (2358, o_aload 3 1), (2359, o_cs 155 3 false none), (2362, o_istore 6 2), (2364, o_aload 2 1), (2365, o_aload 0 1), (2366, o_iload 5 2)],
  [(2368, o_push 1 (.int 1)), (2369, o_iop (fun x y => x + y)), (2370, o_rdIs 0), (2371, o_cv [(30, 396)] 1 3 false none), (2374, o_istore 7 2), (2376, o_aload 2 1), (2377, o_cv [(30, 289)] 0 3 false none), (2380, o_iload 6 2), (2382, o_icmp (fun x y => decide (x = y)) 2387), (2385, o_push 1 (.int 0)), (2386, o_ret 5), (2387, o_iload 6 2), (2389, o_if (fun x => decide (¬ x = 0)) 2404), (2392, o_aload 3 1), (2393, o_push 1 (.int 0)), (2394, o_rdJ), (2395, o_iload 7 2), (2397, o_i2l), (2398, o_lcmp), (2399, o_if (fun x => decide (x = 0)) 2404), (2402, o_push 1 (.int 0)), (2403, o_ret 5), (2404, o_goto 2693), (2407, o_aload 1 1), (2408, o_cv [(0, 161)] 0 3 false none), (2411, o_aload 2 1), (2412, o_cv [(30, 397)] 0 3 false none), (2415, o_lcmp), (2416, o_if (fun x => decide (x = 0)) 2693), (2419, o_push 1 (.int 0)), (2420, o_ret 5), (2421, o_aload 1 1), (2422, o_aload 0 1), (2423, o_iload 5 2), (2425, o_push 1 (.int 1)), (2426, o_iop (fun x y => x + y)), (2427, o_rdIs 0), (2428, o_aload 0 1), (2429, o_iload 5 2), (2431, o_push 1 (.int 2))],
  [(2432, o_iop (fun x y => x + y)), (2433, o_rdIs 0), (2434, o_aload 3 1), (2435, o_cs 156 4 false none), (2438, o_istore 6 2), (2440, o_aload 2 1), (2441, o_aload 0 1), (2442, o_iload 5 2), (2444, o_push 1 (.int 1)), (2445, o_iop (fun x y => x + y)), (2446, o_rdIs 0), (2447, o_aload 0 1), (2448, o_iload 5 2), (2450, o_push 1 (.int 2)), (2451, o_iop (fun x y => x + y)), (2452, o_rdIs 0), (2453, o_cv [(30, 399)] 2 3 false none), (2456, o_istore 7 2), (2458, o_aload 2 1), (2459, o_cv [(30, 289)] 0 3 false none), (2462, o_iload 6 2), (2464, o_icmp (fun x y => decide (x = y)) 2469), (2467, o_push 1 (.int 0)), (2468, o_ret 5), (2469, o_iload 6 2), (2471, o_if (fun x => decide (¬ x = 0)) 2486), (2474, o_aload 3 1), (2475, o_push 1 (.int 0)), (2476, o_rdJ), (2477, o_iload 7 2), (2479, o_i2l), (2480, o_lcmp), (2481, o_if (fun x => decide (x = 0)) 2486), (2484, o_push 1 (.int 0)), (2485, o_ret 5), (2486, o_goto 2693), (2489, o_aload 1 1), (2490, o_aload 0 1), (2491, o_iload 5 2), (2493, o_push 1 (.int 1)), (2494, o_iop (fun x y => x + y)), (2495, o_rdIs 0)],
  [(2496, o_aload 4 2), (2498, o_cs 157 3 false none), (2501, o_istore 6 2), (2503, o_aload 2 1), (2504, o_aload 0 1), (2505, o_iload 5 2), (2507, o_push 1 (.int 1)), (2508, o_iop (fun x y => x + y)), (2509, o_rdIs 0), (2510, o_cv [(30, 402)] 1 3 false none), (2513, o_fstore 7 2), (2515, o_aload 2 1), (2516, o_cv [(30, 289)] 0 3 false none), (2519, o_iload 6 2), (2521, o_icmp (fun x y => decide (x = y)) 2526), (2524, o_push 1 (.int 0)), (2525, o_ret 5), (2526, o_iload 6 2), (2528, o_if (fun x => decide (¬ x = 0)) 2564), (2531, o_aload 4 2), (2533, o_push 1 (.int 0)), (2534, o_rdD), (2535, o_fload 7 2), (2537, o_f2d), (2538, o_dcmp .l), (2539, o_if (fun x => decide (x = 0)) 2564), (2542, o_aload 4 2), (2544, o_push 1 (.int 0)), (2545, o_rdD), (2546, o_aload 4 2), (2548, o_push 1 (.int 0)), (2549, o_rdD), (2550, o_dcmp .l), (2551, o_if (fun x => decide (x = 0)) 2562), (2554, o_fload 7 2), (2556, o_fload 7 2), (2558, o_fcmp .l), (2559, o_if (fun x => decide (¬ x = 0)) 2564)],
  [(2562, o_push 1 (.int 0)), (2563, o_ret 5), (2564, o_goto 2693), (2567, o_aload 1 1), (2568, o_cv [(0, 162)] 0 3 false none), (2571, o_aload 2 1), (2572, o_cv [(30, 403)] 0 3 false none), (2575, o_icmp (fun x y => decide (x = y)) 2693), (2578, o_push 1 (.int 0)), (2579, o_ret 5), (2580, o_aload 1 1), (2581, o_cv [(0, 163)] 0 3 false none), (2584, o_dstore 6 2), (2586, o_aload 2 1), (2587, o_cv [(30, 404)] 0 3 false none), (2590, o_dstore 8 2), (2592, o_dload 6 2), (2594, o_dload 8 2), (2596, o_dcmp .l), (2597, o_if (fun x => decide (x = 0)) 2618), (2600, o_dload 6 2), (2602, o_dload 6 2), (2604, o_dcmp .l), (2605, o_if (fun x => decide (x = 0)) 2616), (2608, o_dload 8 2), (2610, o_dload 8 2), (2612, o_dcmp .l), (2613, o_if (fun x => decide (¬ x = 0)) 2618), (2616, o_push 1 (.int 0)), (2617, o_ret 5), (2618, o_goto 2693), (2621, o_aload 1 1), (2622, o_aload 0 1), (2623, o_iload 5 2)],
  [(2625, o_push 1 (.int 1)), (2626, o_iop (fun x y => x + y)), (2627, o_rdIs 0), (2628, o_cs 158 2 false none), (2631, o_istore 6 2), (2633, o_aload 2 1), (2634, o_aload 0 1), (2635, o_iload 5 2), (2637, o_push 1 (.int 1)), (2638, o_iop (fun x y => x + y)), (2639, o_rdIs 0), (2640, o_cv [(30, 405)] 1 3 true none), (2643, o_aload 2 1), (2644, o_cv [(30, 289)] 0 3 false none), (2647, o_iload 6 2), (2649, o_icmp (fun x y => decide (x = y)) 2654), (2652, o_push 1 (.int 0)), (2653, o_ret 5), (2654, o_goto 2693), (2657, o_aload 1 1), (2658, o_aload 0 1), (2659, o_iload 5 2), (2661, o_push 1 (.int 1)), (2662, o_iop (fun x y => x + y)), (2663, o_rdIs 0), (2664, o_cs 159 2 false none), (2667, o_istore 6 2), (2669, o_aload 2 1), (2670, o_aload 0 1), (2671, o_iload 5 2), (2673, o_push 1 (.int 1)), (2674, o_iop (fun x y => x + y)), (2675, o_rdIs 0), (2676, o_cv [(30, 406)] 1 3 true none), (2679, o_aload 2 1), (2680, o_cv [(30, 289)] 0 3 false none), (2683, o_iload 6 2), (2685, o_icmp (fun x y => decide (x = y)) 2690)],
  [(2688, o_push 1 (.int 0)), (2689, o_ret 5), (2690, o_goto 2693), (2693, o_iinc 5 5), (2696, o_goto 28), (2699, o_push 1 (.int 1)), (2700, o_ret 5)]])
abbrev cX0_appendText : ByteArray := method_3_code
def yX0_appendText : MethodName := ⟨RX0, "appendText", "(LTollRoad;I[J)I"⟩
def I125 : Mi := ("TollRoadLaw", (cX0_appendText, (4, ([(0, 9, 12, 13)], ((Option.some Jvm.ClassFile.FieldType.int), false)))))
def K125 : Mt := (([0, 1, 0], 4), lk2 [[(0, o_aload 2 1), (1, o_push 1 (.int 0)), (2, o_aload 0 1), (3, o_iload 1 1), (4, o_cv [(0, 169)] 1 3 false (some [(33, 12)])), (7, o_i2l), (8, o_wrJ), (9, o_goto 15), (12, o_astore 3 1), (13, o_push 1 (.int 1)), (14, o_ret 1), (15, o_push 1 (.int 0)), (16, o_ret 1)]])
abbrev cX0_truncateText : ByteArray := method_4_code
def yX0_truncateText : MethodName := ⟨RX0, "truncateText", "(LTollRoad;I[J)I"⟩
def I126 : Mi := ("TollRoadLaw", (cX0_truncateText, (4, ([(0, 9, 12, 18)], ((Option.some Jvm.ClassFile.FieldType.int), false)))))
def K126 : Mt := (([0, 1, 0], 4), lk2 [[(0, o_aload 2 1), (1, o_push 1 (.int 0)), (2, o_aload 0 1), (3, o_iload 1 1), (4, o_cv [(0, 171)] 1 3 false (some [(32, 12)])), (7, o_i2l), (8, o_wrJ), (9, o_goto 15), (12, o_astore 3 1), (13, o_push 1 (.int 1)), (14, o_ret 1), (15, o_push 1 (.int 0)), (16, o_ret 1)]])
abbrev cX0_addGantry : ByteArray := method_5_code
def yX0_addGantry : MethodName := ⟨RX0, "addGantry", "(LTollRoad;I[J)I"⟩
def I127 : Mi := ("TollRoadLaw", (cX0_addGantry, (4, ([(0, 9, 12, 18), (0, 9, 15, 13)], ((Option.some Jvm.ClassFile.FieldType.int), false)))))
def K127 : Mt := (([0, 1, 0], 4), lk2 [[(0, o_aload 2 1), (1, o_push 1 (.int 0)), (2, o_aload 0 1), (3, o_iload 1 1), (4, o_cv [(0, 173)] 1 3 false (some [(32, 12), (33, 15)])), (7, o_i2l), (8, o_wrJ), (9, o_goto 18), (12, o_astore 3 1), (13, o_push 1 (.int 1)), (14, o_ret 1), (15, o_astore 3 1), (16, o_push 1 (.int 2)), (17, o_ret 1), (18, o_push 1 (.int 0)), (19, o_ret 1)]])
abbrev cX0_addRoad : ByteArray := method_6_code
def yX0_addRoad : MethodName := ⟨RX0, "addRoad", "(LTollRoad;IIII[J)I"⟩
def I128 : Mi := ("TollRoadLaw", (cX0_addRoad, (7, ([(0, 14, 17, 27), (0, 14, 21, 18), (0, 14, 25, 13)], ((Option.some Jvm.ClassFile.FieldType.int), false)))))
def K128 : Mt := (([0, 1, 1, 1, 1, 0], 7), lk2 [[(0, o_aload 5 2), (2, o_push 1 (.int 0)), (3, o_aload 0 1), (4, o_iload 1 1), (5, o_iload 2 1), (6, o_iload 3 1), (7, o_iload 4 2), (9, o_cv [(0, 174)] 4 3 false (some [(31, 17), (32, 21), (33, 25)])), (12, o_i2l), (13, o_wrJ), (14, o_goto 29), (17, o_astore 6 2), (19, o_push 1 (.int 1)), (20, o_ret 1), (21, o_astore 6 2), (23, o_push 1 (.int 2)), (24, o_ret 1), (25, o_astore 6 2), (27, o_push 1 (.int 3)), (28, o_ret 1), (29, o_push 1 (.int 0)), (30, o_ret 1)]])
abbrev cX0_addAccount : ByteArray := method_7_code
def yX0_addAccount : MethodName := ⟨RX0, "addAccount", "(LTollRoad;III[J)I"⟩
def I129 : Mi := ("TollRoadLaw", (cX0_addAccount, (6, ([(0, 12, 15, 18), (0, 12, 19, 13)], ((Option.some Jvm.ClassFile.FieldType.int), false)))))
def K129 : Mt := (([0, 1, 1, 1, 0], 6), lk2 [[(0, o_aload 4 2), (2, o_push 1 (.int 0)), (3, o_aload 0 1), (4, o_iload 1 1), (5, o_iload 2 1), (6, o_iload 3 1), (7, o_cv [(0, 177)] 3 3 false (some [(32, 15), (33, 19)])), (10, o_i2l), (11, o_wrJ), (12, o_goto 23), (15, o_astore 5 2), (17, o_push 1 (.int 1)), (18, o_ret 1), (19, o_astore 5 2), (21, o_push 1 (.int 2)), (22, o_ret 1), (23, o_push 1 (.int 0)), (24, o_ret 1)]])
abbrev cX0_addVehicle : ByteArray := method_8_code
def yX0_addVehicle : MethodName := ⟨RX0, "addVehicle", "(LTollRoad;II[J)I"⟩
def I130 : Mi := ("TollRoadLaw", (cX0_addVehicle, (5, ([(0, 10, 13, 27), (0, 10, 17, 18), (0, 10, 21, 13)], ((Option.some Jvm.ClassFile.FieldType.int), false)))))
def K130 : Mt := (([0, 1, 1, 0], 5), lk2 [[(0, o_aload 3 1), (1, o_push 1 (.int 0)), (2, o_aload 0 1), (3, o_iload 1 1), (4, o_iload 2 1), (5, o_cv [(0, 178)] 2 3 false (some [(31, 13), (32, 17), (33, 21)])), (8, o_i2l), (9, o_wrJ), (10, o_goto 25), (13, o_astore 4 2), (15, o_push 1 (.int 1)), (16, o_ret 1), (17, o_astore 4 2), (19, o_push 1 (.int 2)), (20, o_ret 1), (21, o_astore 4 2), (23, o_push 1 (.int 3)), (24, o_ret 1), (25, o_push 1 (.int 0)), (26, o_ret 1)]])
abbrev cX0_set : ByteArray := method_9_code
def yX0_set : MethodName := ⟨RX0, "set", "(LTollRoad;II[J)I"⟩
def I131 : Mi := ("TollRoadLaw", (cX0_set, (5, ([(0, 10, 13, 18)], ((Option.some Jvm.ClassFile.FieldType.int), false)))))
def K131 : Mt := (([0, 1, 1, 0], 5), lk2 [[(0, o_aload 3 1), (1, o_push 1 (.int 0)), (2, o_aload 0 1), (3, o_iload 1 1), (4, o_iload 2 1), (5, o_cv [(0, 180)] 2 3 false (some [(32, 13)])), (8, o_i2l), (9, o_wrJ), (10, o_goto 17), (13, o_astore 4 2), (15, o_push 1 (.int 1)), (16, o_ret 1), (17, o_push 1 (.int 0)), (18, o_ret 1)]])
abbrev cX0_count : ByteArray := method_10_code
def yX0_count : MethodName := ⟨RX0, "count", "(LTollRoad;I[J)I"⟩
def I132 : Mi := ("TollRoadLaw", (cX0_count, (4, ([(0, 9, 12, 18)], ((Option.some Jvm.ClassFile.FieldType.int), false)))))
def K132 : Mt := (([0, 1, 0], 4), lk2 [[(0, o_aload 2 1), (1, o_push 1 (.int 0)), (2, o_aload 0 1), (3, o_iload 1 1), (4, o_cv [(0, 181)] 1 3 false (some [(32, 12)])), (7, o_i2l), (8, o_wrJ), (9, o_goto 15), (12, o_astore 3 1), (13, o_push 1 (.int 1)), (14, o_ret 1), (15, o_push 1 (.int 0)), (16, o_ret 1)]])
abbrev cX0_account : ByteArray := method_11_code
def yX0_account : MethodName := ⟨RX0, "account", "(LTollRoad;II[J)I"⟩
def I133 : Mi := ("TollRoadLaw", (cX0_account, (5, ([(0, 10, 13, 27), (0, 10, 17, 18)], ((Option.some Jvm.ClassFile.FieldType.int), false)))))
def K133 : Mt := (([0, 1, 1, 0], 5), lk2 [[(0, o_aload 3 1), (1, o_push 1 (.int 0)), (2, o_aload 0 1), (3, o_iload 1 1), (4, o_iload 2 1), (5, o_cv [(0, 184)] 2 3 false (some [(31, 13), (32, 17)])), (8, o_i2l), (9, o_wrJ), (10, o_goto 21), (13, o_astore 4 2), (15, o_push 1 (.int 1)), (16, o_ret 1), (17, o_astore 4 2), (19, o_push 1 (.int 2)), (20, o_ret 1), (21, o_push 1 (.int 0)), (22, o_ret 1)]])
abbrev cX0_pay : ByteArray := method_12_code
def yX0_pay : MethodName := ⟨RX0, "pay", "(LTollRoad;II[J)I"⟩
def I134 : Mi := ("TollRoadLaw", (cX0_pay, (5, ([(0, 10, 13, 27), (0, 10, 17, 18)], ((Option.some Jvm.ClassFile.FieldType.int), false)))))
def K134 : Mt := (([0, 1, 1, 0], 5), lk2 [[(0, o_aload 3 1), (1, o_push 1 (.int 0)), (2, o_aload 0 1), (3, o_iload 1 1), (4, o_iload 2 1), (5, o_cv [(0, 186)] 2 3 false (some [(31, 13), (32, 17)])), (8, o_i2l), (9, o_wrJ), (10, o_goto 21), (13, o_astore 4 2), (15, o_push 1 (.int 1)), (16, o_ret 1), (17, o_astore 4 2), (19, o_push 1 (.int 2)), (20, o_ret 1), (21, o_push 1 (.int 0)), (22, o_ret 1)]])
abbrev cX0_vehicle : ByteArray := method_13_code
def yX0_vehicle : MethodName := ⟨RX0, "vehicle", "(LTollRoad;II[J)I"⟩
def I135 : Mi := ("TollRoadLaw", (cX0_vehicle, (5, ([(0, 10, 13, 27), (0, 10, 17, 18)], ((Option.some Jvm.ClassFile.FieldType.int), false)))))
def K135 : Mt := (([0, 1, 1, 0], 5), lk2 [[(0, o_aload 3 1), (1, o_push 1 (.int 0)), (2, o_aload 0 1), (3, o_iload 1 1), (4, o_iload 2 1), (5, o_cv [(0, 187)] 2 3 false (some [(31, 13), (32, 17)])), (8, o_i2l), (9, o_wrJ), (10, o_goto 21), (13, o_astore 4 2), (15, o_push 1 (.int 1)), (16, o_ret 1), (17, o_astore 4 2), (19, o_push 1 (.int 2)), (20, o_ret 1), (21, o_push 1 (.int 0)), (22, o_ret 1)]])
abbrev cX0_setAccount : ByteArray := method_14_code
def yX0_setAccount : MethodName := ⟨RX0, "setAccount", "(LTollRoad;II[J)I"⟩
def I136 : Mi := ("TollRoadLaw", (cX0_setAccount, (5, ([(0, 10, 13, 27)], ((Option.some Jvm.ClassFile.FieldType.int), false)))))
def K136 : Mt := (([0, 1, 1, 0], 5), lk2 [[(0, o_aload 3 1), (1, o_push 1 (.int 0)), (2, o_aload 0 1), (3, o_iload 1 1), (4, o_iload 2 1), (5, o_cv [(0, 189)] 2 3 false (some [(31, 13)])), (8, o_i2l), (9, o_wrJ), (10, o_goto 17), (13, o_astore 4 2), (15, o_push 1 (.int 1)), (16, o_ret 1), (17, o_push 1 (.int 0)), (18, o_ret 1)]])
abbrev cX0_route : ByteArray := method_15_code
def yX0_route : MethodName := ⟨RX0, "route", "(LTollRoad;IIII[J)I"⟩
def I137 : Mi := ("TollRoadLaw", (cX0_route, (7, ([(0, 14, 17, 27), (0, 14, 21, 18)], ((Option.some Jvm.ClassFile.FieldType.int), false)))))
def K137 : Mt := (([0, 1, 1, 1, 1, 0], 7), lk2 [[(0, o_aload 5 2), (2, o_push 1 (.int 0)), (3, o_aload 0 1), (4, o_iload 1 1), (5, o_iload 2 1), (6, o_iload 3 1), (7, o_iload 4 2), (9, o_cv [(0, 190)] 4 3 false (some [(31, 17), (32, 21)])), (12, o_i2l), (13, o_wrJ), (14, o_goto 25), (17, o_astore 6 2), (19, o_push 1 (.int 1)), (20, o_ret 1), (21, o_astore 6 2), (23, o_push 1 (.int 2)), (24, o_ret 1), (25, o_push 1 (.int 0)), (26, o_ret 1)]])
abbrev cX0_routeGantry : ByteArray := method_16_code
def yX0_routeGantry : MethodName := ⟨RX0, "routeGantry", "(LTollRoad;IIII[J)I"⟩
def I138 : Mi := ("TollRoadLaw", (cX0_routeGantry, (7, ([(0, 14, 17, 27), (0, 14, 21, 18)], ((Option.some Jvm.ClassFile.FieldType.int), false)))))
def K138 : Mt := (([0, 1, 1, 1, 1, 0], 7), lk2 [[(0, o_aload 5 2), (2, o_push 1 (.int 0)), (3, o_aload 0 1), (4, o_iload 1 1), (5, o_iload 2 1), (6, o_iload 3 1), (7, o_iload 4 2), (9, o_cv [(0, 193)] 4 3 false (some [(31, 17), (32, 21)])), (12, o_i2l), (13, o_wrJ), (14, o_goto 25), (17, o_astore 6 2), (19, o_push 1 (.int 1)), (20, o_ret 1), (21, o_astore 6 2), (23, o_push 1 (.int 2)), (24, o_ret 1), (25, o_push 1 (.int 0)), (26, o_ret 1)]])
abbrev cX0_leastToll : ByteArray := method_17_code
def yX0_leastToll : MethodName := ⟨RX0, "leastToll", "(LTollRoad;II[J)I"⟩
def I139 : Mi := ("TollRoadLaw", (cX0_leastToll, (5, ([(0, 10, 13, 27)], ((Option.some Jvm.ClassFile.FieldType.int), false)))))
def K139 : Mt := (([0, 1, 1, 0], 5), lk2 [[(0, o_aload 3 1), (1, o_push 1 (.int 0)), (2, o_aload 0 1), (3, o_iload 1 1), (4, o_iload 2 1), (5, o_cv [(0, 194)] 2 3 false (some [(31, 13)])), (8, o_i2l), (9, o_wrJ), (10, o_goto 17), (13, o_astore 4 2), (15, o_push 1 (.int 1)), (16, o_ret 1), (17, o_push 1 (.int 0)), (18, o_ret 1)]])
abbrev cX0_tagRead : ByteArray := method_18_code
def yX0_tagRead : MethodName := ⟨RX0, "tagRead", "(LTollRoad;III[J)I"⟩
def I140 : Mi := ("TollRoadLaw", (cX0_tagRead, (6, ([(0, 12, 15, 27), (0, 12, 19, 18), (0, 12, 23, 13)], ((Option.some Jvm.ClassFile.FieldType.int), false)))))
def K140 : Mt := (([0, 1, 1, 1, 0], 6), lk2 [[(0, o_aload 4 2), (2, o_push 1 (.int 0)), (3, o_aload 0 1), (4, o_iload 1 1), (5, o_iload 2 1), (6, o_iload 3 1), (7, o_cv [(0, 195)] 3 3 false (some [(31, 15), (32, 19), (33, 23)])), (10, o_i2l), (11, o_wrJ), (12, o_goto 27), (15, o_astore 5 2), (17, o_push 1 (.int 1)), (18, o_ret 1), (19, o_astore 5 2), (21, o_push 1 (.int 2)), (22, o_ret 1), (23, o_astore 5 2), (25, o_push 1 (.int 3)), (26, o_ret 1), (27, o_push 1 (.int 0)), (28, o_ret 1)]])
abbrev cX0_imageRead : ByteArray := method_19_code
def yX0_imageRead : MethodName := ⟨RX0, "imageRead", "(LTollRoad;IIII[J)I"⟩
def I141 : Mi := ("TollRoadLaw", (cX0_imageRead, (7, ([(0, 14, 17, 27), (0, 14, 21, 18), (0, 14, 25, 13)], ((Option.some Jvm.ClassFile.FieldType.int), false)))))
def K141 : Mt := (([0, 1, 1, 1, 1, 0], 7), lk2 [[(0, o_aload 5 2), (2, o_push 1 (.int 0)), (3, o_aload 0 1), (4, o_iload 1 1), (5, o_iload 2 1), (6, o_iload 3 1), (7, o_iload 4 2), (9, o_cv [(0, 196)] 4 3 false (some [(31, 17), (32, 21), (33, 25)])), (12, o_i2l), (13, o_wrJ), (14, o_goto 29), (17, o_astore 6 2), (19, o_push 1 (.int 1)), (20, o_ret 1), (21, o_astore 6 2), (23, o_push 1 (.int 2)), (24, o_ret 1), (25, o_astore 6 2), (27, o_push 1 (.int 3)), (28, o_ret 1), (29, o_push 1 (.int 0)), (30, o_ret 1)]])
abbrev cX0_read : ByteArray := method_20_code
def yX0_read : MethodName := ⟨RX0, "read", "(LTollRoad;II[J)I"⟩
def I142 : Mi := ("TollRoadLaw", (cX0_read, (5, ([(0, 10, 13, 27), (0, 10, 17, 18)], ((Option.some Jvm.ClassFile.FieldType.int), false)))))
def K142 : Mt := (([0, 1, 1, 0], 5), lk2 [[(0, o_aload 3 1), (1, o_push 1 (.int 0)), (2, o_aload 0 1), (3, o_iload 1 1), (4, o_iload 2 1), (5, o_cv [(0, 197)] 2 3 false (some [(31, 13), (32, 17)])), (8, o_i2l), (9, o_wrJ), (10, o_goto 21), (13, o_astore 4 2), (15, o_push 1 (.int 1)), (16, o_ret 1), (17, o_astore 4 2), (19, o_push 1 (.int 2)), (20, o_ret 1), (21, o_push 1 (.int 0)), (22, o_ret 1)]])
abbrev cX0_review : ByteArray := method_21_code
def yX0_review : MethodName := ⟨RX0, "review", "(LTollRoad;I[J)I"⟩
def I143 : Mi := ("TollRoadLaw", (cX0_review, (4, ([(0, 9, 12, 27)], ((Option.some Jvm.ClassFile.FieldType.int), false)))))
def K143 : Mt := (([0, 1, 0], 4), lk2 [[(0, o_aload 2 1), (1, o_push 1 (.int 0)), (2, o_aload 0 1), (3, o_iload 1 1), (4, o_cv [(0, 199)] 1 3 false (some [(31, 12)])), (7, o_i2l), (8, o_wrJ), (9, o_goto 15), (12, o_astore 3 1), (13, o_push 1 (.int 1)), (14, o_ret 1), (15, o_push 1 (.int 0)), (16, o_ret 1)]])
abbrev cX0_decide : ByteArray := method_22_code
def yX0_decide : MethodName := ⟨RX0, "decide", "(LTollRoad;I[J)I"⟩
def I144 : Mi := ("TollRoadLaw", (cX0_decide, (4, ([(0, 9, 12, 27), (0, 9, 15, 13)], ((Option.some Jvm.ClassFile.FieldType.int), false)))))
def K144 : Mt := (([0, 1, 0], 4), lk2 [[(0, o_aload 2 1), (1, o_push 1 (.int 0)), (2, o_aload 0 1), (3, o_iload 1 1), (4, o_cv [(0, 201)] 1 3 false (some [(31, 12), (33, 15)])), (7, o_i2l), (8, o_wrJ), (9, o_goto 18), (12, o_astore 3 1), (13, o_push 1 (.int 1)), (14, o_ret 1), (15, o_astore 3 1), (16, o_push 1 (.int 2)), (17, o_ret 1), (18, o_push 1 (.int 0)), (19, o_ret 1)]])
abbrev cX0_correct : ByteArray := method_23_code
def yX0_correct : MethodName := ⟨RX0, "correct", "(LTollRoad;II[J)I"⟩
def I145 : Mi := ("TollRoadLaw", (cX0_correct, (5, ([(0, 10, 13, 27), (0, 10, 17, 13)], ((Option.some Jvm.ClassFile.FieldType.int), false)))))
def K145 : Mt := (([0, 1, 1, 0], 5), lk2 [[(0, o_aload 3 1), (1, o_push 1 (.int 0)), (2, o_aload 0 1), (3, o_iload 1 1), (4, o_iload 2 1), (5, o_cv [(0, 202)] 2 3 false (some [(31, 13), (33, 17)])), (8, o_i2l), (9, o_wrJ), (10, o_goto 21), (13, o_astore 4 2), (15, o_push 1 (.int 1)), (16, o_ret 1), (17, o_astore 4 2), (19, o_push 1 (.int 2)), (20, o_ret 1), (21, o_push 1 (.int 0)), (22, o_ret 1)]])
abbrev cX0_trips : ByteArray := method_24_code
def yX0_trips : MethodName := ⟨RX0, "trips", "(LTollRoad;I[J)I"⟩
def I146 : Mi := ("TollRoadLaw", (cX0_trips, (4, ([(0, 9, 12, 27)], ((Option.some Jvm.ClassFile.FieldType.int), false)))))
def K146 : Mt := (([0, 1, 0], 4), lk2 [[(0, o_aload 2 1), (1, o_push 1 (.int 0)), (2, o_aload 0 1), (3, o_iload 1 1), (4, o_cv [(0, 203)] 1 3 false (some [(31, 12)])), (7, o_i2l), (8, o_wrJ), (9, o_goto 15), (12, o_astore 3 1), (13, o_push 1 (.int 1)), (14, o_ret 1), (15, o_push 1 (.int 0)), (16, o_ret 1)]])
abbrev cX0_trip : ByteArray := method_25_code
def yX0_trip : MethodName := ⟨RX0, "trip", "(LTollRoad;III[J)I"⟩
def I147 : Mi := ("TollRoadLaw", (cX0_trip, (6, ([(0, 12, 15, 27), (0, 12, 19, 18)], ((Option.some Jvm.ClassFile.FieldType.int), false)))))
def K147 : Mt := (([0, 1, 1, 1, 0], 6), lk2 [[(0, o_aload 4 2), (2, o_push 1 (.int 0)), (3, o_aload 0 1), (4, o_iload 1 1), (5, o_iload 2 1), (6, o_iload 3 1), (7, o_cv [(0, 204)] 3 3 false (some [(31, 15), (32, 19)])), (10, o_i2l), (11, o_wrJ), (12, o_goto 23), (15, o_astore 5 2), (17, o_push 1 (.int 1)), (18, o_ret 1), (19, o_astore 5 2), (21, o_push 1 (.int 2)), (22, o_ret 1), (23, o_push 1 (.int 0)), (24, o_ret 1)]])
abbrev cX0_tripGantry : ByteArray := method_26_code
def yX0_tripGantry : MethodName := ⟨RX0, "tripGantry", "(LTollRoad;III[J)I"⟩
def I148 : Mi := ("TollRoadLaw", (cX0_tripGantry, (6, ([(0, 12, 15, 27)], ((Option.some Jvm.ClassFile.FieldType.int), false)))))
def K148 : Mt := (([0, 1, 1, 1, 0], 6), lk2 [[(0, o_aload 4 2), (2, o_push 1 (.int 0)), (3, o_aload 0 1), (4, o_iload 1 1), (5, o_iload 2 1), (6, o_iload 3 1), (7, o_cv [(0, 206)] 3 3 false (some [(31, 15)])), (10, o_i2l), (11, o_wrJ), (12, o_goto 19), (15, o_astore 5 2), (17, o_push 1 (.int 1)), (18, o_ret 1), (19, o_push 1 (.int 0)), (20, o_ret 1)]])
abbrev cX0_bill : ByteArray := method_27_code
def yX0_bill : MethodName := ⟨RX0, "bill", "(LTollRoad;II[J)I"⟩
def I149 : Mi := ("TollRoadLaw", (cX0_bill, (5, ([(0, 10, 13, 27), (0, 10, 17, 18)], ((Option.some Jvm.ClassFile.FieldType.int), false)))))
def K149 : Mt := (([0, 1, 1, 0], 5), lk2 [[(0, o_aload 3 1), (1, o_push 1 (.int 0)), (2, o_aload 0 1), (3, o_iload 1 1), (4, o_iload 2 1), (5, o_cv [(0, 207)] 2 3 false (some [(31, 13), (32, 17)])), (8, o_i2l), (9, o_wrJ), (10, o_goto 21), (13, o_astore 4 2), (15, o_push 1 (.int 1)), (16, o_ret 1), (17, o_astore 4 2), (19, o_push 1 (.int 2)), (20, o_ret 1), (21, o_push 1 (.int 0)), (22, o_ret 1)]])
abbrev cX0_billAll : ByteArray := method_28_code
def yX0_billAll : MethodName := ⟨RX0, "billAll", "(LTollRoad;I[J)I"⟩
def I150 : Mi := ("TollRoadLaw", (cX0_billAll, (4, ([(0, 9, 12, 18)], ((Option.some Jvm.ClassFile.FieldType.int), false)))))
def K150 : Mt := (([0, 1, 0], 4), lk2 [[(0, o_aload 2 1), (1, o_push 1 (.int 0)), (2, o_aload 0 1), (3, o_iload 1 1), (4, o_cv [(0, 209)] 1 3 false (some [(32, 12)])), (7, o_i2l), (8, o_wrJ), (9, o_goto 15), (12, o_astore 3 1), (13, o_push 1 (.int 1)), (14, o_ret 1), (15, o_push 1 (.int 0)), (16, o_ret 1)]])
abbrev cX0_due : ByteArray := method_29_code
def yX0_due : MethodName := ⟨RX0, "due", "(LTollRoad;II[J)I"⟩
def I151 : Mi := ("TollRoadLaw", (cX0_due, (5, ([(0, 10, 13, 27), (0, 10, 17, 18)], ((Option.some Jvm.ClassFile.FieldType.int), false)))))
def K151 : Mt := (([0, 1, 1, 0], 5), lk2 [[(0, o_aload 3 1), (1, o_push 1 (.int 0)), (2, o_aload 0 1), (3, o_iload 1 1), (4, o_iload 2 1), (5, o_cv [(0, 210)] 2 3 false (some [(31, 13), (32, 17)])), (8, o_i2l), (9, o_wrJ), (10, o_goto 21), (13, o_astore 4 2), (15, o_push 1 (.int 1)), (16, o_ret 1), (17, o_astore 4 2), (19, o_push 1 (.int 2)), (20, o_ret 1), (21, o_push 1 (.int 0)), (22, o_ret 1)]])
abbrev cX0_billed : ByteArray := method_30_code
def yX0_billed : MethodName := ⟨RX0, "billed", "(LTollRoad;II[J)I"⟩
def I152 : Mi := ("TollRoadLaw", (cX0_billed, (5, ([(0, 10, 13, 27), (0, 10, 17, 18)], ((Option.some Jvm.ClassFile.FieldType.int), false)))))
def K152 : Mt := (([0, 1, 1, 0], 5), lk2 [[(0, o_aload 3 1), (1, o_push 1 (.int 0)), (2, o_aload 0 1), (3, o_iload 1 1), (4, o_iload 2 1), (5, o_cv [(0, 211)] 2 3 false (some [(31, 13), (32, 17)])), (8, o_i2l), (9, o_wrJ), (10, o_goto 21), (13, o_astore 4 2), (15, o_push 1 (.int 1)), (16, o_ret 1), (17, o_astore 4 2), (19, o_push 1 (.int 2)), (20, o_ret 1), (21, o_push 1 (.int 0)), (22, o_ret 1)]])
abbrev cX0_billedGantry : ByteArray := method_31_code
def yX0_billedGantry : MethodName := ⟨RX0, "billedGantry", "(LTollRoad;II[J)I"⟩
def I153 : Mi := ("TollRoadLaw", (cX0_billedGantry, (5, ([(0, 10, 13, 27)], ((Option.some Jvm.ClassFile.FieldType.int), false)))))
def K153 : Mt := (([0, 1, 1, 0], 5), lk2 [[(0, o_aload 3 1), (1, o_push 1 (.int 0)), (2, o_aload 0 1), (3, o_iload 1 1), (4, o_iload 2 1), (5, o_cv [(0, 213)] 2 3 false (some [(31, 13)])), (8, o_i2l), (9, o_wrJ), (10, o_goto 17), (13, o_astore 4 2), (15, o_push 1 (.int 1)), (16, o_ret 1), (17, o_push 1 (.int 0)), (18, o_ret 1)]])
abbrev cX0_dispute : ByteArray := method_32_code
def yX0_dispute : MethodName := ⟨RX0, "dispute", "(LTollRoad;II[J)I"⟩
def I154 : Mi := ("TollRoadLaw", (cX0_dispute, (5, ([(0, 10, 13, 27), (0, 10, 17, 18), (0, 10, 21, 13)], ((Option.some Jvm.ClassFile.FieldType.int), false)))))
def K154 : Mt := (([0, 1, 1, 0], 5), lk2 [[(0, o_aload 3 1), (1, o_push 1 (.int 0)), (2, o_aload 0 1), (3, o_iload 1 1), (4, o_iload 2 1), (5, o_cv [(0, 214)] 2 3 false (some [(31, 13), (32, 17), (33, 21)])), (8, o_i2l), (9, o_wrJ), (10, o_goto 25), (13, o_astore 4 2), (15, o_push 1 (.int 1)), (16, o_ret 1), (17, o_astore 4 2), (19, o_push 1 (.int 2)), (20, o_ret 1), (21, o_astore 4 2), (23, o_push 1 (.int 3)), (24, o_ret 1), (25, o_push 1 (.int 0)), (26, o_ret 1)]])
abbrev cX0_disputable : ByteArray := method_33_code
def yX0_disputable : MethodName := ⟨RX0, "disputable", "(LTollRoad;I[J)I"⟩
def I155 : Mi := ("TollRoadLaw", (cX0_disputable, (4, ([(0, 9, 12, 18)], ((Option.some Jvm.ClassFile.FieldType.int), false)))))
def K155 : Mt := (([0, 1, 0], 4), lk2 [[(0, o_aload 2 1), (1, o_push 1 (.int 0)), (2, o_aload 0 1), (3, o_iload 1 1), (4, o_cv [(0, 215)] 1 3 false (some [(32, 12)])), (7, o_i2l), (8, o_wrJ), (9, o_goto 15), (12, o_astore 3 1), (13, o_push 1 (.int 1)), (14, o_ret 1), (15, o_push 1 (.int 0)), (16, o_ret 1)]])
abbrev cX0_gantry : ByteArray := method_34_code
def yX0_gantry : MethodName := ⟨RX0, "gantry", "(LTollRoad;II[J)I"⟩
def I156 : Mi := ("TollRoadLaw", (cX0_gantry, (5, ([(0, 10, 13, 27), (0, 10, 17, 18)], ((Option.some Jvm.ClassFile.FieldType.int), false)))))
def K156 : Mt := (([0, 1, 1, 0], 5), lk2 [[(0, o_aload 3 1), (1, o_push 1 (.int 0)), (2, o_aload 0 1), (3, o_iload 1 1), (4, o_iload 2 1), (5, o_cv [(0, 216)] 2 3 false (some [(31, 13), (32, 17)])), (8, o_i2l), (9, o_wrJ), (10, o_goto 21), (13, o_astore 4 2), (15, o_push 1 (.int 1)), (16, o_ret 1), (17, o_astore 4 2), (19, o_push 1 (.int 2)), (20, o_ret 1), (21, o_push 1 (.int 0)), (22, o_ret 1)]])
abbrev cX0_missRate : ByteArray := method_35_code
def yX0_missRate : MethodName := ⟨RX0, "missRate", "(LTollRoad;I[D)I"⟩
def I157 : Mi := ("TollRoadLaw", (cX0_missRate, (4, ([(0, 9, 12, 27)], ((Option.some Jvm.ClassFile.FieldType.int), false)))))
def K157 : Mt := (([0, 1, 0], 4), lk2 [[(0, o_aload 2 1), (1, o_push 1 (.int 0)), (2, o_aload 0 1), (3, o_iload 1 1), (4, o_cv [(0, 219)] 1 3 false (some [(31, 12)])), (7, o_f2d), (8, o_wrD), (9, o_goto 15), (12, o_astore 3 1), (13, o_push 1 (.int 1)), (14, o_ret 1), (15, o_push 1 (.int 0)), (16, o_ret 1)]])
abbrev cX0_save : ByteArray := method_36_code
def yX0_save : MethodName := ⟨RX0, "save", "(LTollRoad;I)I"⟩
def I158 : Mi := ("TollRoadLaw", (cX0_save, (3, ([(0, 5, 8, 18)], ((Option.some Jvm.ClassFile.FieldType.int), false)))))
def K158 : Mt := (([0, 1], 3), lk2 [[(0, o_aload 0 1), (1, o_iload 1 1), (2, o_cv [(0, 220)] 1 3 true (some [(32, 8)])), (5, o_goto 11), (8, o_astore 2 1), (9, o_push 1 (.int 1)), (10, o_ret 1), (11, o_push 1 (.int 0)), (12, o_ret 1)]])
abbrev cX0_restore : ByteArray := method_37_code
def yX0_restore : MethodName := ⟨RX0, "restore", "(LTollRoad;I)I"⟩
def I159 : Mi := ("TollRoadLaw", (cX0_restore, (3, ([(0, 5, 8, 18), (0, 5, 11, 13)], ((Option.some Jvm.ClassFile.FieldType.int), false)))))
def K159 : Mt := (([0, 1], 3), lk2 [[(0, o_aload 0 1), (1, o_iload 1 1), (2, o_cv [(0, 221)] 1 3 true (some [(32, 8), (33, 11)])), (5, o_goto 14), (8, o_astore 2 1), (9, o_push 1 (.int 1)), (10, o_ret 1), (11, o_astore 2 1), (12, o_push 1 (.int 2)), (13, o_ret 1), (14, o_push 1 (.int 0)), (15, o_ret 1)]])
abbrev cX1_init : ByteArray := prog_1_method_5_code
def yX1_init : MethodName := ⟨RX1, "<init>", "()V"⟩
def I160 : Mi := ("TollRoad", (cX1_init, (1, ([], ((Option.none : Option Jvm.ClassFile.FieldType), true)))))
def K160 : Mt := (([0], 1), lk2 [[(0, o_aload 0 1), (1, o_oi), (4, o_aload 0 1), (5, o_new 1 8 dv1), (8, o_dup), (9, o_ci 256 0), (12, o_put 0 0), (15, o_aload 0 1), (16, o_push 1 (.int 2)), (17, o_newa 8 3), (20, o_put 1 0), (23, o_aload 0 1), (24, o_push 3 (.int 700)), (27, o_newa 1 2), (29, o_put 2 0), (32, o_aload 0 1), (33, o_push 1 (.int (-1))), (34, o_put 5 1), (37, o_vret)]])
abbrev cX1_revenue : ByteArray := prog_1_method_48_code
def yX1_revenue : MethodName := ⟨RX1, "revenue", "()J"⟩
def I161 : Mi := ("TollRoad", (cX1_revenue, (5, ([], ((Option.some Jvm.ClassFile.FieldType.long), false)))))
def K161 : Mt := (([0], 5), lk2 [[(0, o_push 1 (.long 0)), (1, o_lstore 1 1), (2, o_aload 0 1), (3, o_get 0), (6, o_get 12), (9, o_cv [(3, 40)] 0 3 false none), (12, o_astore 3 1), (13, o_aload 3 1), (14, o_cv [(7, 50), (24, 86), (25, 92)] 0 5 false none), (19, o_if (fun x => decide (x = 0)) 51), (22, o_aload 3 1), (23, o_cv [(7, 51), (24, 89), (25, 95)] 0 5 false none), (28, o_cast [27]), (31, o_astore 4 2), (33, o_lload 1 1), (34, o_aload 4 2), (36, o_get 135), (39, o_aload 4 2), (41, o_get 142), (44, o_iop (fun x y => x - y)), (45, o_i2l), (46, o_lop (fun x y => x + y)), (47, o_lstore 1 1), (48, o_goto 13), (51, o_lload 1 1), (52, o_ret 2)]])
abbrev cX1_worstGantry : ByteArray := prog_1_method_53_code
def yX1_worstGantry : MethodName := ⟨RX1, "worstGantry", "()I"⟩
def I162 : Mi := ("TollRoad", (cX1_worstGantry, (5, ([], ((Option.some Jvm.ClassFile.FieldType.int), false)))))
def K162 : Mt := (([0], 5), lk2 [[(0, o_push 1 (.int (-1))), (1, o_istore 1 1), (2, o_push 1 (.int 0)), (3, o_istore 2 1), (4, o_push 1 (.int 0)), (5, o_istore 3 1), (6, o_iload 3 1), (7, o_aload 0 1), (8, o_get 0), (11, o_get 6), (14, o_get 15), (17, o_icmp (fun x y => decide (y ≤ x)) 56), (20, o_aload 0 1), (21, o_get 0), (24, o_iload 3 1), (25, o_push 1 (.int 1)), (26, o_cv [(1, 257)] 2 3 false none), (29, o_istore 4 2), (31, o_iload 4 2), (33, o_iload 2 1), (34, o_icmp (fun x y => decide (x ≤ y)) 41), (37, o_iload 3 1), (38, o_goto 42), (41, o_iload 1 1), (42, o_istore 1 1), (43, o_iload 2 1), (44, o_iload 4 2), (46, o_cs 6 2 false none), (49, o_istore 2 1), (50, o_iinc 3 1), (53, o_goto 6), (56, o_iload 1 1), (57, o_ret 1)]])
abbrev cX1_meanAmount : ByteArray := prog_1_method_54_code
def yX1_meanAmount : MethodName := ⟨RX1, "meanAmount", "()D"⟩
def I163 : Mi := ("TollRoad", (cX1_meanAmount, (5, ([], ((Option.some Jvm.ClassFile.FieldType.double), false)))))
def K163 : Mt := (([0], 5), lk2 [[(0, o_push 1 (.long 0)), (1, o_lstore 1 1), (2, o_aload 0 1), (3, o_get 0), (6, o_get 12), (9, o_cv [(3, 40)] 0 3 false none), (12, o_astore 3 1), (13, o_aload 3 1), (14, o_cv [(7, 50), (24, 86), (25, 92)] 0 5 false none), (19, o_if (fun x => decide (x = 0)) 45), (22, o_aload 3 1), (23, o_cv [(7, 51), (24, 89), (25, 95)] 0 5 false none), (28, o_cast [27]), (31, o_astore 4 2), (33, o_lload 1 1), (34, o_aload 4 2), (36, o_get 135), (39, o_i2l), (40, o_lop (fun x y => x + y)), (41, o_lstore 1 1), (42, o_goto 13), (45, o_aload 0 1), (46, o_get 0), (49, o_get 12), (52, o_cv [(3, 41)] 0 3 false none), (55, o_if (fun x => decide (x = 0)) 64), (58, o_push 3 (.double 13830554455654793216)), (61, o_goto 78)],
  [(64, o_lload 1 1), (65, o_l2d), (66, o_aload 0 1), (67, o_get 0), (70, o_get 12), (73, o_cv [(3, 42)] 0 3 false none), (76, o_i2d), (77, o_ddiv), (78, o_ret 4)]])
abbrev cX1_load : ByteArray := prog_1_method_58_code
def yX1_load : MethodName := ⟨RX1, "load", "()I"⟩
def I164 : Mi := ("TollRoad", (cX1_load, (3, ([(28, 42, 43, 462)], ((Option.some Jvm.ClassFile.FieldType.int), false)))))
def K164 : Mt := (([0], 3), lk2 [[(0, o_new 9 9 dv9), (3, o_dup), (4, o_aload 0 1), (5, o_aload 0 1), (6, o_get 3), (9, o_ci 407 2), (12, o_astore 1 1), (13, o_aload 0 1), (14, o_push 1 (.int 0)), (15, o_put 3 1), (18, o_aload 0 1), (19, o_push 1 (.int 0)), (20, o_put 4 1), (23, o_aload 0 1), (24, o_push 1 (.int (-1))), (25, o_put 5 1), (28, o_aload 1 1), (29, o_cv [(9, 410)] 0 3 false (some [(10, 43)])), (32, o_istore 2 1), (33, o_aload 0 1), (34, o_aload 1 1), (35, o_get 44), (38, o_put 0 0), (41, o_iload 2 1), (42, o_ret 1), (43, o_astore 2 1), (44, o_aload 0 1), (45, o_aload 2 1), (46, o_get 58), (49, o_put 4 1), (52, o_aload 0 1), (53, o_aload 2 1), (54, o_get 59), (57, o_put 5 1), (60, o_push 1 (.int (-1))), (61, o_ret 1)]])
abbrev cX1_isBetween : ByteArray := prog_1_method_1_code
def yX1_isBetween : MethodName := ⟨RX1, "isBetween", "(JJJ)Z"⟩
def I165 : Mi := ("TollRoad", (cX1_isBetween, (6, ([], ((Option.some Jvm.ClassFile.FieldType.boolean), false)))))
def K165 : Mt := (([2, 2, 2], 6), lk2 [[(0, o_lload 0 1), (1, o_lload 2 1), (2, o_lcmp), (3, o_if (fun x => decide (x < 0)) 17), (6, o_lload 0 1), (7, o_lload 4 2), (9, o_lcmp), (10, o_if (fun x => decide (0 < x)) 17), (13, o_push 1 (.int 1)), (14, o_goto 18), (17, o_push 1 (.int 0)), (18, o_ret 5)]])
abbrev cX1_wordOf : ByteArray := prog_1_method_55_code
def yX1_wordOf : MethodName := ⟨RX1, "wordOf", "(Ljava/lang/CharSequence;)I"⟩
def I166 : Mi := ("TollRoad", (cX1_wordOf, (3, ([], ((Option.some Jvm.ClassFile.FieldType.int), false)))))
def K166 : Mt := (([0], 3), lk2 [[(0, o_aload 0 1), (1, o_cv [(4, 112)] 0 5 false none), (6, o_astore 1 1), (7, o_push 1 (.int (-1))), (8, o_istore 2 1), (9, o_aload 1 1), (10, o_cvs [(5, 119)] 0 3 false), (13, o_sw (lsw [((-1253191065), 64), ((-1177318867), 94), (113762, 124), (3505952, 79), (342069036, 109)] 136))],
  [(64, o_aload 1 1), (65, o_pushA 3 2), (68, o_cvs [(5, 121)] 1 3 false), (71, o_if (fun x => decide (x = 0)) 136), (74, o_push 1 (.int 0)), (75, o_istore 2 1), (76, o_goto 136), (79, o_aload 1 1), (80, o_pushA 3 3), (83, o_cvs [(5, 121)] 1 3 false), (86, o_if (fun x => decide (x = 0)) 136), (89, o_push 1 (.int 1)), (90, o_istore 2 1), (91, o_goto 136), (94, o_aload 1 1), (95, o_pushA 3 4), (98, o_cvs [(5, 121)] 1 3 false), (101, o_if (fun x => decide (x = 0)) 136), (104, o_push 1 (.int 2)), (105, o_istore 2 1), (106, o_goto 136), (109, o_aload 1 1), (110, o_pushA 3 5), (113, o_cvs [(5, 121)] 1 3 false), (116, o_if (fun x => decide (x = 0)) 136), (119, o_push 1 (.int 3)), (120, o_istore 2 1), (121, o_goto 136), (124, o_aload 1 1), (125, o_pushA 3 6)],
  [(128, o_cvs [(5, 121)] 1 3 false), (131, o_if (fun x => decide (x = 0)) 136), (134, o_push 1 (.int 4)), (135, o_istore 2 1), (136, o_iload 2 1), (137, o_sw (swt 0 [172, 176, 180, 184, 188] 192)), (172, o_push 1 (.int 0)), (173, o_goto 193), (176, o_push 1 (.int 1)), (177, o_goto 193), (180, o_push 1 (.int 2)), (181, o_goto 193), (184, o_push 1 (.int 3)), (185, o_goto 193), (188, o_push 1 (.int 4)), (189, o_goto 193)],
  [(192, o_push 1 (.int (-1))), (193, o_ret 1)]])
abbrev cX1_errorCode : ByteArray := prog_1_method_59_code
def yX1_errorCode : MethodName := ⟨RX1, "errorCode", "()I"⟩
def I167 : Mi := ("TollRoad", (cX1_errorCode, (1, ([], ((Option.some Jvm.ClassFile.FieldType.int), false)))))
def K167 : Mt := (([0], 1), lk2 [[(0, o_aload 0 1), (1, o_get 4), (4, o_ret 1)]])
abbrev cX1_errorPosition : ByteArray := prog_1_method_60_code
def yX1_errorPosition : MethodName := ⟨RX1, "errorPosition", "()I"⟩
def I168 : Mi := ("TollRoad", (cX1_errorPosition, (1, ([], ((Option.some Jvm.ClassFile.FieldType.int), false)))))
def K168 : Mt := (([0], 1), lk2 [[(0, o_aload 0 1), (1, o_get 5), (4, o_ret 1)]])
abbrev cX1_appendText : ByteArray := prog_1_method_56_code
def yX1_appendText : MethodName := ⟨RX1, "appendText", "(I)I"⟩
def I169 : Mi := ("TollRoad", (cX1_appendText, (3, ([], ((Option.some Jvm.ClassFile.FieldType.int), false)))))
def K169 : Mt := (([0, 1], 3), lk2 [[(0, o_aload 0 1), (1, o_get 3), (4, o_push 1 (.int 4)), (5, o_iop (fun x y => x + y)), (6, o_push 3 (.int 700)), (9, o_icmp (fun x y => decide (y < x)) 16), (12, o_push 1 (.int 1)), (13, o_goto 17), (16, o_push 1 (.int 0)), (17, o_cs 170 1 true none), (20, o_push 2 (.int 24)), (22, o_istore 2 1), (23, o_iload 2 1), (24, o_if (fun x => decide (x < 0)) 56), (27, o_aload 0 1), (28, o_get 2), (31, o_aload 0 1), (32, o_get 3), (35, o_iload 1 1), (36, o_iload 2 1), (37, o_iop (fun x y => x >>> (y &&& 31))), (38, o_ii (fun x => x.toInt8.toInt32)), (39, o_wrI 1), (40, o_aload 0 1), (41, o_dup), (42, o_get 3), (45, o_push 1 (.int 1)), (46, o_iop (fun x y => x + y)), (47, o_put 3 1), (50, o_iinc 2 (-8)), (53, o_goto 23), (56, o_aload 0 1), (57, o_get 3), (60, o_ret 1)]])
abbrev cX1_checkState : ByteArray := prog_1_method_4_code
def yX1_checkState : MethodName := ⟨RX1, "checkState", "(Z)V"⟩
def I170 : Mi := ("TollRoad", (cX1_checkState, (1, ([], ((Option.none : Option Jvm.ClassFile.FieldType), false)))))
def K170 : Mt := (([1], 1), lk2 [[(0, o_iload 0 1), (1, o_if (fun x => decide (¬ x = 0)) 12), (4, o_thr0 33), (7, o_dup), (12, o_vret)]])
abbrev cX1_truncateText : ByteArray := prog_1_method_57_code
def yX1_truncateText : MethodName := ⟨RX1, "truncateText", "(I)I"⟩
def I171 : Mi := ("TollRoad", (cX1_truncateText, (2, ([], ((Option.some Jvm.ClassFile.FieldType.int), false)))))
def K171 : Mt := (([0, 1], 2), lk2 [[(0, o_iload 1 1), (1, o_i2l), (2, o_push 1 (.long 0)), (3, o_aload 0 1), (4, o_get 3), (7, o_i2l), (8, o_cs 165 3 false none), (11, o_cs 172 1 true none), (14, o_aload 0 1), (15, o_iload 1 1), (16, o_put 3 1), (19, o_iload 1 1), (20, o_ret 1)]])
abbrev cX1_checkArgument : ByteArray := prog_1_method_3_code
def yX1_checkArgument : MethodName := ⟨RX1, "checkArgument", "(Z)V"⟩
def I172 : Mi := ("TollRoad", (cX1_checkArgument, (1, ([], ((Option.none : Option Jvm.ClassFile.FieldType), false)))))
def K172 : Mt := (([1], 1), lk2 [[(0, o_iload 0 1), (1, o_if (fun x => decide (¬ x = 0)) 12), (4, o_thr0 32), (7, o_dup), (12, o_vret)]])
abbrev cX1_addGantry : ByteArray := prog_1_method_9_code
def yX1_addGantry : MethodName := ⟨RX1, "addGantry", "(I)I"⟩
def I173 : Mi := ("TollRoad", (cX1_addGantry, (2, ([], ((Option.some Jvm.ClassFile.FieldType.int), false)))))
def K173 : Mt := (([0, 1], 2), lk2 [[(0, o_iload 1 1), (1, o_i2l), (2, o_push 1 (.long 0)), (3, o_push 3 (.long 99)), (6, o_cs 165 3 false none), (9, o_cs 172 1 true none), (12, o_aload 0 1), (13, o_get 0), (16, o_get 6), (19, o_get 15), (22, o_push 2 (.int 12)), (24, o_icmp (fun x y => decide (y ≤ x)) 31), (27, o_push 1 (.int 1)), (28, o_goto 32), (31, o_push 1 (.int 0)), (32, o_cs 170 1 true none), (35, o_aload 0 1), (36, o_get 0), (39, o_get 6), (42, o_iload 1 1), (43, o_cv [(2, 283)] 1 3 false none), (46, o_ret 1)]])
abbrev cX1_addRoad : ByteArray := prog_1_method_10_code
def yX1_addRoad : MethodName := ⟨RX1, "addRoad", "(IIII)I"⟩
def I174 : Mi := ("TollRoad", (cX1_addRoad, (5, ([], ((Option.some Jvm.ClassFile.FieldType.int), false)))))
def K174 : Mt := (([0, 1, 1, 1, 1], 5), lk2 [[(0, o_aload 0 1), (1, o_iload 1 1), (2, o_cv [(0, 175)] 1 3 true none), (5, o_aload 0 1), (6, o_iload 2 1), (7, o_cv [(0, 175)] 1 3 true none), (10, o_iload 1 1), (11, o_iload 2 1), (12, o_icmp (fun x y => decide (x = y)) 44), (15, o_iload 3 1), (16, o_i2l), (17, o_push 1 (.long 1)), (18, o_push 3 (.long 60)), (21, o_cs 165 3 false none), (24, o_if (fun x => decide (x = 0)) 44), (27, o_iload 4 2), (29, o_i2l), (30, o_push 1 (.long 0)), (31, o_push 3 (.long 999)), (34, o_cs 165 3 false none), (37, o_if (fun x => decide (x = 0)) 44), (40, o_push 1 (.int 1)), (41, o_goto 45), (44, o_push 1 (.int 0)), (45, o_cs 172 1 true none), (48, o_aload 0 1), (49, o_get 0), (52, o_get 6), (55, o_iload 1 1), (56, o_iload 2 1), (57, o_cv [(2, 284)] 2 3 false none), (60, o_ifnonnull 82), (63, o_aload 0 1)],
  [(64, o_get 0), (67, o_get 6), (70, o_get 17), (73, o_push 2 (.int 40)), (75, o_icmp (fun x y => decide (y ≤ x)) 82), (78, o_push 1 (.int 1)), (79, o_goto 83), (82, o_push 1 (.int 0)), (83, o_cs 170 1 true none), (86, o_aload 0 1), (87, o_get 0), (90, o_get 6), (93, o_iload 1 1), (94, o_iload 2 1), (95, o_iload 3 1), (96, o_iload 4 2), (98, o_cv [(2, 285)] 4 3 false none), (101, o_ret 1)]])
abbrev cX1_checkGantry : ByteArray := prog_1_method_6_code
def yX1_checkGantry : MethodName := ⟨RX1, "checkGantry", "(I)V"⟩
def I175 : Mi := ("TollRoad", (cX1_checkGantry, (2, ([], ((Option.none : Option Jvm.ClassFile.FieldType), false)))))
def K175 : Mt := (([0, 1], 2), lk2 [[(0, o_iload 1 1), (1, o_i2l), (2, o_push 1 (.long 0)), (3, o_aload 0 1), (4, o_get 0), (7, o_get 6), (10, o_get 15), (13, o_push 1 (.int 1)), (14, o_iop (fun x y => x - y)), (15, o_i2l), (16, o_cs 165 3 false none), (19, o_cs 176 1 true none), (22, o_vret)]])
abbrev cX1_checkIndex : ByteArray := prog_1_method_2_code
def yX1_checkIndex : MethodName := ⟨RX1, "checkIndex", "(Z)V"⟩
def I176 : Mi := ("TollRoad", (cX1_checkIndex, (1, ([], ((Option.none : Option Jvm.ClassFile.FieldType), false)))))
def K176 : Mt := (([1], 1), lk2 [[(0, o_iload 0 1), (1, o_if (fun x => decide (¬ x = 0)) 12), (4, o_thr0 31), (7, o_dup), (12, o_vret)]])
abbrev cX1_addAccount : ByteArray := prog_1_method_11_code
def yX1_addAccount : MethodName := ⟨RX1, "addAccount", "(III)I"⟩
def I177 : Mi := ("TollRoad", (cX1_addAccount, (4, ([], ((Option.some Jvm.ClassFile.FieldType.int), false)))))
def K177 : Mt := (([0, 1, 1, 1], 4), lk2 [[(0, o_iload 1 1), (1, o_i2l), (2, o_push 1 (.long 0)), (3, o_push 3 (.long 100000)), (6, o_cs 165 3 false none), (9, o_if (fun x => decide (x = 0)) 40), (12, o_iload 2 1), (13, o_i2l), (14, o_push 1 (.long 0)), (15, o_push 3 (.long 50)), (18, o_cs 165 3 false none), (21, o_if (fun x => decide (x = 0)) 40), (24, o_iload 3 1), (25, o_i2l), (26, o_push 1 (.long 0)), (27, o_push 3 (.long 50)), (30, o_cs 165 3 false none), (33, o_if (fun x => decide (x = 0)) 40), (36, o_push 1 (.int 1)), (37, o_goto 41), (40, o_push 1 (.int 0)), (41, o_cs 172 1 true none), (44, o_aload 0 1), (45, o_get 0), (48, o_get 9), (51, o_push 2 (.int 8)), (53, o_icmp (fun x y => decide (y ≤ x)) 60), (56, o_push 1 (.int 1)), (57, o_goto 61), (60, o_push 1 (.int 0)), (61, o_cs 170 1 true none)],
  [(64, o_aload 0 1), (65, o_get 0), (68, o_iload 1 1), (69, o_iload 2 1), (70, o_iload 3 1), (71, o_cv [(1, 258)] 3 3 false none), (74, o_ret 1)]])
abbrev cX1_addVehicle : ByteArray := prog_1_method_13_code
def yX1_addVehicle : MethodName := ⟨RX1, "addVehicle", "(II)I"⟩
def I178 : Mi := ("TollRoad", (cX1_addVehicle, (3, ([], ((Option.some Jvm.ClassFile.FieldType.int), false)))))
def K178 : Mt := (([0, 1, 1], 3), lk2 [[(0, o_aload 0 1), (1, o_iload 2 1), (2, o_cv [(0, 179)] 1 3 true none), (5, o_iload 1 1), (6, o_i2l), (7, o_push 1 (.long 1)), (8, o_push 3 (.long 4)), (11, o_cs 165 3 false none), (14, o_cs 172 1 true none), (17, o_aload 0 1), (18, o_get 0), (21, o_get 10), (24, o_cv [(3, 42)] 0 3 false none), (27, o_push 2 (.int 15)), (29, o_icmp (fun x y => decide (y ≤ x)) 36), (32, o_push 1 (.int 1)), (33, o_goto 37), (36, o_push 1 (.int 0)), (37, o_cs 170 1 true none), (40, o_aload 0 1), (41, o_get 0), (44, o_iload 1 1), (45, o_iload 2 1), (46, o_cv [(1, 259)] 2 3 false none), (49, o_ret 1)]])
abbrev cX1_checkAccount : ByteArray := prog_1_method_12_code
def yX1_checkAccount : MethodName := ⟨RX1, "checkAccount", "(I)V"⟩
def I179 : Mi := ("TollRoad", (cX1_checkAccount, (2, ([], ((Option.none : Option Jvm.ClassFile.FieldType), false)))))
def K179 : Mt := (([0, 1], 2), lk2 [[(0, o_iload 1 1), (1, o_i2l), (2, o_push 3 (.long (-1))), (5, o_aload 0 1), (6, o_get 0), (9, o_get 9), (12, o_push 1 (.int 1)), (13, o_iop (fun x y => x - y)), (14, o_i2l), (15, o_cs 165 3 false none), (18, o_cs 176 1 true none), (21, o_vret)]])
abbrev cX1_set : ByteArray := prog_1_method_14_code
def yX1_set : MethodName := ⟨RX1, "set", "(II)I"⟩
def I180 : Mi := ("TollRoad", (cX1_set, (5, ([], ((Option.some Jvm.ClassFile.FieldType.int), false)))))
def K180 : Mt := (([0, 1, 1], 5), lk2 [[(0, o_iload 1 1), (1, o_i2l), (2, o_push 1 (.long 0)), (3, o_push 3 (.long 7)), (6, o_cs 165 3 false none), (9, o_cs 172 1 true none), (12, o_iload 1 1), (13, o_cs 222 1 false none), (16, o_astore 3 1), (17, o_aload 3 1), (18, o_iload 2 1), (19, o_cv [(14, 223)] 1 5 false none), (24, o_cs 172 1 true none), (27, o_aload 0 1), (28, o_get 0), (31, o_get 7), (34, o_iload 1 1), (35, o_rdI 0), (36, o_istore 4 2), (38, o_aload 0 1), (39, o_get 0), (42, o_get 7), (45, o_iload 1 1), (46, o_iload 2 1), (47, o_wrI 0), (48, o_iload 4 2), (50, o_ret 1)]])
abbrev cX1_count : ByteArray := prog_1_method_17_code
def yX1_count : MethodName := ⟨RX1, "count", "(I)I"⟩
def I181 : Mi := ("TollRoad", (cX1_count, (2, ([], ((Option.some Jvm.ClassFile.FieldType.int), false)))))
def K181 : Mt := (([0, 1], 2), lk2 [[(0, o_iload 1 1), (1, o_i2l), (2, o_push 1 (.long 0)), (3, o_push 3 (.long 16)), (6, o_cs 165 3 false none), (9, o_cs 172 1 true none), (12, o_iload 1 1), (13, o_push 2 (.int 8)), (15, o_iop (fun x y => x - y)), (16, o_sw (swt 0 [68, 79, 90, 98, 109, 120, 131, 136, 142] 148))],
  [(68, o_aload 0 1), (69, o_get 0), (72, o_get 6), (75, o_get 15), (78, o_ret 1), (79, o_aload 0 1), (80, o_get 0), (83, o_get 6), (86, o_get 17), (89, o_ret 1), (90, o_aload 0 1), (91, o_get 0), (94, o_get 9), (97, o_ret 1), (98, o_aload 0 1), (99, o_get 0), (102, o_get 10), (105, o_cv [(3, 42)] 0 3 false none), (108, o_ret 1), (109, o_aload 0 1), (110, o_get 0), (113, o_get 11), (116, o_cv [(3, 42)] 0 3 false none), (119, o_ret 1), (120, o_aload 0 1), (121, o_get 0), (124, o_get 12), (127, o_cv [(3, 42)] 0 3 false none)],
  [(130, o_ret 1), (131, o_aload 0 1), (132, o_cv [(0, 182)] 0 3 false none), (135, o_ret 1), (136, o_aload 0 1), (137, o_push 1 (.int 0)), (138, o_cv [(0, 183)] 1 3 false none), (141, o_ret 1), (142, o_aload 0 1), (143, o_push 1 (.int 1)), (144, o_cv [(0, 183)] 1 3 false none), (147, o_ret 1), (148, o_aload 0 1), (149, o_get 0), (152, o_get 7), (155, o_iload 1 1), (156, o_rdI 0), (157, o_ret 1)]])
abbrev cX1_waiting : ByteArray := prog_1_method_15_code
def yX1_waiting : MethodName := ⟨RX1, "waiting", "()I"⟩
def I182 : Mi := ("TollRoad", (cX1_waiting, (4, ([], ((Option.some Jvm.ClassFile.FieldType.int), false)))))
def K182 : Mt := (([0], 4), lk2 [[(0, o_push 1 (.int 0)), (1, o_istore 1 1), (2, o_aload 0 1), (3, o_get 0), (6, o_get 11), (9, o_cv [(3, 40)] 0 3 false none), (12, o_astore 2 1), (13, o_aload 2 1), (14, o_cv [(7, 50), (24, 86), (25, 92)] 0 5 false none), (19, o_if (fun x => decide (x = 0)) 50), (22, o_aload 2 1), (23, o_cv [(7, 51), (24, 89), (25, 95)] 0 5 false none), (28, o_cast [17]), (31, o_astore 3 1), (32, o_iload 1 1), (33, o_aload 3 1), (34, o_get 95), (37, o_if (fun x => decide (¬ x = 0)) 44), (40, o_push 1 (.int 1)), (41, o_goto 45), (44, o_push 1 (.int 0)), (45, o_iop (fun x y => x + y)), (46, o_istore 1 1), (47, o_goto 13), (50, o_iload 1 1), (51, o_ret 1)]])
abbrev cX1_disputes : ByteArray := prog_1_method_16_code
def yX1_disputes : MethodName := ⟨RX1, "disputes", "(Z)I"⟩
def I183 : Mi := ("TollRoad", (cX1_disputes, (5, ([], ((Option.some Jvm.ClassFile.FieldType.int), false)))))
def K183 : Mt := (([0, 1], 5), lk2 [[(0, o_push 1 (.int 0)), (1, o_istore 2 1), (2, o_aload 0 1), (3, o_get 0), (6, o_get 12), (9, o_cv [(3, 40)] 0 3 false none), (12, o_astore 3 1), (13, o_aload 3 1), (14, o_cv [(7, 50), (24, 86), (25, 92)] 0 5 false none), (19, o_if (fun x => decide (x = 0)) 66), (22, o_aload 3 1), (23, o_cv [(7, 51), (24, 89), (25, 95)] 0 5 false none), (28, o_cast [27]), (31, o_astore 4 2), (33, o_iload 2 1), (34, o_aload 4 2), (36, o_get 141), (39, o_push 1 (.int 1)), (40, o_icmp (fun x y => decide (x = y)) 56), (43, o_iload 1 1), (44, o_if (fun x => decide (¬ x = 0)) 60), (47, o_aload 4 2), (49, o_get 141), (52, o_push 1 (.int 2)), (53, o_icmp (fun x y => decide (¬ x = y)) 60), (56, o_push 1 (.int 1)), (57, o_goto 61), (60, o_push 1 (.int 0)), (61, o_iop (fun x y => x + y)), (62, o_istore 2 1), (63, o_goto 13)],
  [(66, o_iload 2 1), (67, o_ret 1)]])
abbrev cX1_account : ByteArray := prog_1_method_18_code
def yX1_account : MethodName := ⟨RX1, "account", "(II)I"⟩
def I184 : Mi := ("TollRoad", (cX1_account, (4, ([], ((Option.some Jvm.ClassFile.FieldType.int), false)))))
def K184 : Mt := (([0, 1, 1], 4), lk2 [[(0, o_aload 0 1), (1, o_iload 1 1), (2, o_cv [(0, 185)] 1 3 false none), (5, o_astore 3 1), (6, o_iload 2 1), (7, o_i2l), (8, o_push 1 (.long 0)), (9, o_push 3 (.long 5)), (12, o_cs 165 3 false none), (15, o_cs 172 1 true none), (18, o_iload 2 1), (19, o_sw (swt 0 [52, 57, 62, 67, 72] 77)), (52, o_aload 3 1), (53, o_get 63), (56, o_ret 1), (57, o_aload 3 1), (58, o_get 64), (61, o_ret 1), (62, o_aload 3 1), (63, o_get 65)],
  [(66, o_ret 1), (67, o_aload 3 1), (68, o_get 66), (71, o_ret 1), (72, o_aload 3 1), (73, o_get 67), (76, o_ret 1), (77, o_aload 3 1), (78, o_get 68), (81, o_ret 1)]])
abbrev cX1_accountAt : ByteArray := prog_1_method_8_code
def yX1_accountAt : MethodName := ⟨RX1, "accountAt", "(I)LTollRoad$Account;"⟩
def I185 : Mi := ("TollRoad", (cX1_accountAt, (2, ([], ((Option.some (Jvm.ClassFile.FieldType.object "TollRoad$Account")), false)))))
def K185 : Mt := (([0, 1], 2), lk2 [[(0, o_iload 1 1), (1, o_i2l), (2, o_push 1 (.long 0)), (3, o_aload 0 1), (4, o_get 0), (7, o_get 9), (10, o_push 1 (.int 1)), (11, o_iop (fun x y => x - y)), (12, o_i2l), (13, o_cs 165 3 false none), (16, o_cs 176 1 true none), (19, o_aload 0 1), (20, o_get 0), (23, o_get 8), (26, o_iload 1 1), (27, o_rdQ), (28, o_ret 0)]])
abbrev cX1_pay : ByteArray := prog_1_method_19_code
def yX1_pay : MethodName := ⟨RX1, "pay", "(II)I"⟩
def I186 : Mi := ("TollRoad", (cX1_pay, (4, ([], ((Option.some Jvm.ClassFile.FieldType.int), false)))))
def K186 : Mt := (([0, 1, 1], 4), lk2 [[(0, o_aload 0 1), (1, o_iload 1 1), (2, o_cv [(0, 185)] 1 3 false none), (5, o_astore 3 1), (6, o_iload 2 1), (7, o_i2l), (8, o_push 1 (.long 1)), (9, o_push 3 (.long 100000)), (12, o_cs 165 3 false none), (15, o_cs 172 1 true none), (18, o_aload 3 1), (19, o_dup), (20, o_get 63), (23, o_iload 2 1), (24, o_iop (fun x y => x + y)), (25, o_put 63 1), (28, o_aload 3 1), (29, o_get 63), (32, o_ret 1)]])
abbrev cX1_vehicle : ByteArray := prog_1_method_20_code
def yX1_vehicle : MethodName := ⟨RX1, "vehicle", "(II)I"⟩
def I187 : Mi := ("TollRoad", (cX1_vehicle, (4, ([], ((Option.some Jvm.ClassFile.FieldType.int), false)))))
def K187 : Mt := (([0, 1, 1], 4), lk2 [[(0, o_aload 0 1), (1, o_iload 1 1), (2, o_cv [(0, 188)] 1 3 false none), (5, o_astore 3 1), (6, o_iload 2 1), (7, o_i2l), (8, o_push 1 (.long 0)), (9, o_push 3 (.long 6)), (12, o_cs 165 3 false none), (15, o_cs 172 1 true none), (18, o_iload 2 1), (19, o_sw (swt 0 [56, 61, 66, 71, 81, 86] 91)), (56, o_aload 3 1), (57, o_get 69), (60, o_ret 1), (61, o_aload 3 1), (62, o_get 70)],
  [(65, o_ret 1), (66, o_aload 3 1), (67, o_get 71), (70, o_ret 1), (71, o_aload 0 1), (72, o_get 0), (75, o_iload 1 1), (76, o_push 1 (.int 1)), (77, o_cv [(1, 260)] 2 3 false none), (80, o_ret 1), (81, o_aload 3 1), (82, o_get 72), (85, o_ret 1), (86, o_aload 3 1), (87, o_get 73), (90, o_ret 1), (91, o_aload 3 1), (92, o_get 74), (95, o_ret 1)]])
abbrev cX1_vehicleAt : ByteArray := prog_1_method_7_code
def yX1_vehicleAt : MethodName := ⟨RX1, "vehicleAt", "(I)LTollRoad$Vehicle;"⟩
def I188 : Mi := ("TollRoad", (cX1_vehicleAt, (2, ([], ((Option.some (Jvm.ClassFile.FieldType.object "TollRoad$Vehicle")), false)))))
def K188 : Mt := (([0, 1], 2), lk2 [[(0, o_iload 1 1), (1, o_i2l), (2, o_push 1 (.long 0)), (3, o_aload 0 1), (4, o_get 0), (7, o_get 10), (10, o_cv [(3, 42)] 0 3 false none), (13, o_push 1 (.int 1)), (14, o_iop (fun x y => x - y)), (15, o_i2l), (16, o_cs 165 3 false none), (19, o_cs 176 1 true none), (22, o_aload 0 1), (23, o_get 0), (26, o_get 10), (29, o_iload 1 1), (30, o_cv [(3, 47)] 1 3 false none), (33, o_cast [13]), (36, o_ret 0)]])
abbrev cX1_setAccount : ByteArray := prog_1_method_21_code
def yX1_setAccount : MethodName := ⟨RX1, "setAccount", "(II)I"⟩
def I189 : Mi := ("TollRoad", (cX1_setAccount, (5, ([], ((Option.some Jvm.ClassFile.FieldType.int), false)))))
def K189 : Mt := (([0, 1, 1], 5), lk2 [[(0, o_aload 0 1), (1, o_iload 1 1), (2, o_cv [(0, 188)] 1 3 false none), (5, o_astore 3 1), (6, o_aload 0 1), (7, o_iload 2 1), (8, o_cv [(0, 179)] 1 3 true none), (11, o_aload 3 1), (12, o_get 70), (15, o_istore 4 2), (17, o_aload 3 1), (18, o_iload 2 1), (19, o_put 70 1), (22, o_iload 4 2), (24, o_ret 1)]])
abbrev cX1_route : ByteArray := prog_1_method_24_code
def yX1_route : MethodName := ⟨RX1, "route", "(IIII)I"⟩
def I190 : Mi := ("TollRoad", (cX1_route, (6, ([], ((Option.some Jvm.ClassFile.FieldType.int), false)))))
def K190 : Mt := (([0, 1, 1, 1, 1], 6), lk2 [[(0, o_aload 0 1), (1, o_iload 1 1), (2, o_iload 2 1), (3, o_cv [(0, 191)] 2 3 true none), (6, o_iload 1 1), (7, o_iload 2 1), (8, o_icmp (fun x y => decide (x = y)) 40), (11, o_iload 3 1), (12, o_i2l), (13, o_push 1 (.long 0)), (14, o_push 3 (.long 600)), (17, o_cs 165 3 false none), (20, o_if (fun x => decide (x = 0)) 40), (23, o_iload 4 2), (25, o_i2l), (26, o_push 1 (.long 0)), (27, o_push 3 (.long 3)), (30, o_cs 165 3 false none), (33, o_if (fun x => decide (x = 0)) 40), (36, o_push 1 (.int 1)), (37, o_goto 41), (40, o_push 1 (.int 0)), (41, o_cs 172 1 true none), (44, o_aload 0 1), (45, o_iload 1 1), (46, o_iload 2 1), (47, o_iload 3 1), (48, o_cv [(0, 192)] 3 3 false none), (51, o_astore 5 2), (53, o_aload 5 2), (55, o_ifnonnull 60), (58, o_push 1 (.int (-1))), (59, o_ret 1), (60, o_iload 4 2), (62, o_if (fun x => decide (¬ x = 0)) 73)],
  [(65, o_aload 5 2), (67, o_get 85), (70, o_goto 106), (73, o_iload 4 2), (75, o_push 1 (.int 1)), (76, o_icmp (fun x y => decide (¬ x = y)) 87), (79, o_aload 5 2), (81, o_get 81), (84, o_goto 106), (87, o_iload 4 2), (89, o_push 1 (.int 2)), (90, o_icmp (fun x y => decide (¬ x = y)) 101), (93, o_aload 5 2), (95, o_get 87), (98, o_goto 106), (101, o_aload 5 2), (103, o_get 86), (106, o_ret 1)]])
abbrev cX1_checkEnds : ByteArray := prog_1_method_23_code
def yX1_checkEnds : MethodName := ⟨RX1, "checkEnds", "(II)V"⟩
def I191 : Mi := ("TollRoad", (cX1_checkEnds, (3, ([], ((Option.none : Option Jvm.ClassFile.FieldType), false)))))
def K191 : Mt := (([0, 1, 1], 3), lk2 [[(0, o_aload 0 1), (1, o_iload 1 1), (2, o_cv [(0, 175)] 1 3 true none), (5, o_aload 0 1), (6, o_iload 2 1), (7, o_cv [(0, 175)] 1 3 true none), (10, o_vret)]])
abbrev cX1_routeOf : ByteArray := prog_1_method_22_code
def yX1_routeOf : MethodName := ⟨RX1, "routeOf", "(III)LTollRoad$Route;"⟩
def I192 : Mi := ("TollRoad", (cX1_routeOf, (5, ([], ((Option.some (Jvm.ClassFile.FieldType.object "TollRoad$Route")), false)))))
def K192 : Mt := (([0, 1, 1, 1], 5), lk2 [[(0, o_new 15 11 dv15), (3, o_dup), (4, o_aload 0 1), (5, o_get 0), (8, o_get 6), (11, o_aload 0 1), (12, o_get 0), (15, o_get 7), (18, o_iload 1 1), (19, o_iload 2 1), (20, o_iload 3 1), (21, o_ci 231 5), (24, o_astore 4 2), (26, o_aload 4 2), (28, o_cv [(15, 228)] 0 3 false none), (31, o_cv [(16, 230), (15, 230)] 0 3 false none), (34, o_if (fun x => decide (x = 0)) 42), (37, o_aload 4 2), (39, o_goto 43), (42, o_push 1 .null), (43, o_ret 0)]])
abbrev cX1_routeGantry : ByteArray := prog_1_method_25_code
def yX1_routeGantry : MethodName := ⟨RX1, "routeGantry", "(IIII)I"⟩
def I193 : Mi := ("TollRoad", (cX1_routeGantry, (6, ([], ((Option.some Jvm.ClassFile.FieldType.int), false)))))
def K193 : Mt := (([0, 1, 1, 1, 1], 6), lk2 [[(0, o_aload 0 1), (1, o_iload 1 1), (2, o_iload 2 1), (3, o_cv [(0, 191)] 2 3 true none), (6, o_iload 1 1), (7, o_iload 2 1), (8, o_icmp (fun x y => decide (x = y)) 32), (11, o_iload 3 1), (12, o_i2l), (13, o_push 1 (.long 0)), (14, o_push 3 (.long 600)), (17, o_cs 165 3 false none), (20, o_if (fun x => decide (x = 0)) 32), (23, o_iload 4 2), (25, o_if (fun x => decide (x < 0)) 32), (28, o_push 1 (.int 1)), (29, o_goto 33), (32, o_push 1 (.int 0)), (33, o_cs 172 1 true none), (36, o_aload 0 1), (37, o_iload 1 1), (38, o_iload 2 1), (39, o_iload 3 1), (40, o_cv [(0, 192)] 3 3 false none), (43, o_astore 5 2), (45, o_aload 5 2), (47, o_ifnull 60), (50, o_iload 4 2), (52, o_aload 5 2), (54, o_get 81), (57, o_icmp (fun x y => decide (x ≤ y)) 64), (60, o_push 1 (.int (-1))), (61, o_goto 72)],
  [(64, o_aload 5 2), (66, o_get 80), (69, o_iload 4 2), (71, o_rdI 0), (72, o_ret 1)]])
abbrev cX1_leastToll : ByteArray := prog_1_method_26_code
def yX1_leastToll : MethodName := ⟨RX1, "leastToll", "(II)I"⟩
def I194 : Mi := ("TollRoad", (cX1_leastToll, (3, ([], ((Option.some Jvm.ClassFile.FieldType.int), false)))))
def K194 : Mt := (([0, 1, 1], 3), lk2 [[(0, o_aload 0 1), (1, o_iload 1 1), (2, o_iload 2 1), (3, o_cv [(0, 191)] 2 3 true none), (6, o_aload 0 1), (7, o_get 0), (10, o_iload 1 1), (11, o_iload 2 1), (12, o_cv [(1, 261)] 2 3 false none), (15, o_ret 1)]])
abbrev cX1_tagRead : ByteArray := prog_1_method_27_code
def yX1_tagRead : MethodName := ⟨RX1, "tagRead", "(III)I"⟩
def I195 : Mi := ("TollRoad", (cX1_tagRead, (5, ([], ((Option.some Jvm.ClassFile.FieldType.int), false)))))
def K195 : Mt := (([0, 1, 1, 1], 5), lk2 [[(0, o_aload 0 1), (1, o_iload 1 1), (2, o_cv [(0, 188)] 1 3 false none), (5, o_astore 4 2), (7, o_aload 0 1), (8, o_iload 2 1), (9, o_cv [(0, 175)] 1 3 true none), (12, o_iload 3 1), (13, o_i2l), (14, o_push 1 (.long 0)), (15, o_push 3 (.long 100000)), (18, o_cs 165 3 false none), (21, o_cs 172 1 true none), (24, o_aload 0 1), (25, o_get 0), (28, o_get 11), (31, o_cv [(3, 42)] 0 3 false none), (34, o_push 2 (.int 120)), (36, o_icmp (fun x y => decide (y ≤ x)) 43), (39, o_push 1 (.int 1)), (40, o_goto 44), (43, o_push 1 (.int 0)), (44, o_cs 170 1 true none), (47, o_aload 0 1), (48, o_get 0), (51, o_new 17 8 dv17), (54, o_dup), (55, o_aload 0 1), (56, o_get 0), (59, o_get 11), (62, o_cv [(3, 42)] 0 3 false none)],
  [(65, o_iload 2 1), (66, o_iload 3 1), (67, o_push 1 (.int 0)), (68, o_ci 235 4), (71, o_iload 1 1), (72, o_push 2 (.int 100)), (74, o_cv [(1, 262)] 3 3 false none), (77, o_ret 1)]])
abbrev cX1_imageRead : ByteArray := prog_1_method_28_code
def yX1_imageRead : MethodName := ⟨RX1, "imageRead", "(IIII)I"⟩
def I196 : Mi := ("TollRoad", (cX1_imageRead, (6, ([], ((Option.some Jvm.ClassFile.FieldType.int), false)))))
def K196 : Mt := (([0, 1, 1, 1, 1], 6), lk2 [[(0, o_aload 0 1), (1, o_iload 1 1), (2, o_cv [(0, 188)] 1 3 false none), (5, o_astore 5 2), (7, o_aload 0 1), (8, o_iload 2 1), (9, o_cv [(0, 175)] 1 3 true none), (12, o_iload 3 1), (13, o_i2l), (14, o_push 1 (.long 0)), (15, o_push 3 (.long 100000)), (18, o_cs 165 3 false none), (21, o_if (fun x => decide (x = 0)) 41), (24, o_iload 4 2), (26, o_i2l), (27, o_push 1 (.long 0)), (28, o_push 3 (.long 100)), (31, o_cs 165 3 false none), (34, o_if (fun x => decide (x = 0)) 41), (37, o_push 1 (.int 1)), (38, o_goto 42), (41, o_push 1 (.int 0)), (42, o_cs 172 1 true none), (45, o_aload 0 1), (46, o_get 0), (49, o_get 11), (52, o_cv [(3, 42)] 0 3 false none), (55, o_push 2 (.int 120)), (57, o_icmp (fun x y => decide (y ≤ x)) 64), (60, o_push 1 (.int 1)), (61, o_goto 65)],
  [(64, o_push 1 (.int 0)), (65, o_cs 170 1 true none), (68, o_aload 0 1), (69, o_get 0), (72, o_new 17 8 dv17), (75, o_dup), (76, o_aload 0 1), (77, o_get 0), (80, o_get 11), (83, o_cv [(3, 42)] 0 3 false none), (86, o_iload 2 1), (87, o_iload 3 1), (88, o_push 1 (.int 1)), (89, o_ci 235 4), (92, o_iload 1 1), (93, o_iload 4 2), (95, o_cv [(1, 262)] 3 3 false none), (98, o_ret 1)]])
abbrev cX1_read : ByteArray := prog_1_method_30_code
def yX1_read : MethodName := ⟨RX1, "read", "(II)I"⟩
def I197 : Mi := ("TollRoad", (cX1_read, (4, ([], ((Option.some Jvm.ClassFile.FieldType.int), false)))))
def K197 : Mt := (([0, 1, 1], 4), lk2 [[(0, o_aload 0 1), (1, o_iload 1 1), (2, o_cv [(0, 198)] 1 3 false none), (5, o_astore 3 1), (6, o_iload 2 1), (7, o_i2l), (8, o_push 1 (.long 0)), (9, o_push 3 (.long 6)), (12, o_cs 165 3 false none), (15, o_cs 172 1 true none), (18, o_aload 3 1), (19, o_iload 2 1), (20, o_cv [(17, 236)] 1 3 false none), (23, o_ret 1)]])
abbrev cX1_readAt : ByteArray := prog_1_method_29_code
def yX1_readAt : MethodName := ⟨RX1, "readAt", "(I)LTollRoad$Read;"⟩
def I198 : Mi := ("TollRoad", (cX1_readAt, (2, ([], ((Option.some (Jvm.ClassFile.FieldType.object "TollRoad$Read")), false)))))
def K198 : Mt := (([0, 1], 2), lk2 [[(0, o_iload 1 1), (1, o_i2l), (2, o_push 1 (.long 0)), (3, o_aload 0 1), (4, o_get 0), (7, o_get 11), (10, o_cv [(3, 42)] 0 3 false none), (13, o_push 1 (.int 1)), (14, o_iop (fun x y => x - y)), (15, o_i2l), (16, o_cs 165 3 false none), (19, o_cs 176 1 true none), (22, o_aload 0 1), (23, o_get 0), (26, o_get 11), (29, o_iload 1 1), (30, o_cv [(3, 47)] 1 3 false none), (33, o_cast [17]), (36, o_ret 0)]])
abbrev cX1_review : ByteArray := prog_1_method_32_code
def yX1_review : MethodName := ⟨RX1, "review", "(I)I"⟩
def I199 : Mi := ("TollRoad", (cX1_review, (5, ([], ((Option.some Jvm.ClassFile.FieldType.int), false)))))
def K199 : Mt := (([0, 1], 5), lk2 [[(0, o_iload 1 1), (1, o_if (fun x => decide (x < 0)) 8), (4, o_push 1 (.int 1)), (5, o_goto 9), (8, o_push 1 (.int 0)), (9, o_cs 176 1 true none), (12, o_aload 0 1), (13, o_cv [(0, 200)] 0 3 false none), (16, o_astore 2 1), (17, o_iload 1 1), (18, o_aload 2 1), (19, o_cv [(18, 79)] 0 3 false none), (22, o_icmp (fun x y => decide (x < y)) 27), (25, o_push 1 (.int (-1))), (26, o_ret 1), (27, o_aload 2 1), (28, o_cv [(18, 80)] 0 3 false none), (31, o_cast [17]), (34, o_astore 3 1), (35, o_push 1 (.int 0)), (36, o_istore 4 2), (38, o_iload 4 2), (40, o_iload 1 1), (41, o_icmp (fun x y => decide (y ≤ x)) 58), (44, o_aload 2 1), (45, o_cv [(18, 80)] 0 3 false none), (48, o_cast [17]), (51, o_astore 3 1), (52, o_iinc 4 1), (55, o_goto 38), (58, o_aload 3 1), (59, o_get 89), (62, o_ret 1)]])
abbrev cX1_reviews : ByteArray := prog_1_method_31_code
def yX1_reviews : MethodName := ⟨RX1, "reviews", "()Ljava/util/PriorityQueue;"⟩
def I200 : Mi := ("TollRoad", (cX1_reviews, (4, ([], ((Option.some (Jvm.ClassFile.FieldType.object "java/util/PriorityQueue")), false)))))
def K200 : Mt := (([0], 4), lk2 [[(0, o_new 18 4 dv18), (3, o_dup), (4, o_push 2 (.int 11)), (6, o_new 19 1 dv19), (9, o_dup), (10, o_aload 0 1), (11, o_get 0), (14, o_ci 238 1), (17, o_ci 73 2), (20, o_astore 1 1), (21, o_aload 0 1), (22, o_get 0), (25, o_get 11), (28, o_cv [(3, 40)] 0 3 false none), (31, o_astore 2 1), (32, o_aload 2 1), (33, o_cv [(7, 50), (24, 86), (25, 92)] 0 5 false none), (38, o_if (fun x => decide (x = 0)) 67), (41, o_aload 2 1), (42, o_cv [(7, 51), (24, 89), (25, 95)] 0 5 false none), (47, o_cast [17]), (50, o_astore 3 1), (51, o_aload 3 1), (52, o_get 95), (55, o_if (fun x => decide (¬ x = 0)) 64), (58, o_aload 1 1), (59, o_aload 3 1), (60, o_cv [(18, 74)] 1 3 false none), (63, o_pop)],
  [(64, o_goto 32), (67, o_aload 1 1), (68, o_ret 0)]])
abbrev cX1_decide : ByteArray := prog_1_method_33_code
def yX1_decide : MethodName := ⟨RX1, "decide", "(I)I"⟩
def I201 : Mi := ("TollRoad", (cX1_decide, (3, ([], ((Option.some Jvm.ClassFile.FieldType.int), false)))))
def K201 : Mt := (([0, 1], 3), lk2 [[(0, o_iload 1 1), (1, o_i2l), (2, o_push 3 (.long (-1))), (5, o_aload 0 1), (6, o_get 0), (9, o_get 10), (12, o_cv [(3, 42)] 0 3 false none), (15, o_push 1 (.int 1)), (16, o_iop (fun x y => x - y)), (17, o_i2l), (18, o_cs 165 3 false none), (21, o_cs 176 1 true none), (24, o_aload 0 1), (25, o_cv [(0, 200)] 0 3 false none), (28, o_cv [(18, 80)] 0 3 false none), (31, o_cast [17]), (34, o_astore 2 1), (35, o_aload 2 1), (36, o_ifnull 43), (39, o_push 1 (.int 1)), (40, o_goto 44), (43, o_push 1 (.int 0)), (44, o_cs 170 1 true none), (47, o_iload 1 1), (48, o_push 1 (.int (-1))), (49, o_icmp (fun x y => decide (¬ x = y)) 60), (52, o_aload 2 1), (53, o_push 1 (.int 2)), (54, o_put 95 1), (57, o_goto 75), (60, o_aload 2 1), (61, o_push 2 (.int 100)), (63, o_put 94 1)],
  [(66, o_aload 0 1), (67, o_get 0), (70, o_aload 2 1), (71, o_iload 1 1), (72, o_cv [(1, 263)] 2 3 true none), (75, o_aload 2 1), (76, o_get 89), (79, o_ret 1)]])
abbrev cX1_correct : ByteArray := prog_1_method_34_code
def yX1_correct : MethodName := ⟨RX1, "correct", "(II)I"⟩
def I202 : Mi := ("TollRoad", (cX1_correct, (5, ([], ((Option.some Jvm.ClassFile.FieldType.int), false)))))
def K202 : Mt := (([0, 1, 1], 5), lk2 [[(0, o_aload 0 1), (1, o_iload 1 1), (2, o_cv [(0, 198)] 1 3 false none), (5, o_astore 3 1), (6, o_aload 0 1), (7, o_iload 2 1), (8, o_cv [(0, 188)] 1 3 false none), (11, o_astore 4 2), (13, o_aload 3 1), (14, o_get 95), (17, o_push 1 (.int 1)), (18, o_icmp (fun x y => decide (x = y)) 29), (21, o_aload 3 1), (22, o_get 95), (25, o_push 1 (.int 4)), (26, o_icmp (fun x y => decide (¬ x = y)) 33), (29, o_push 1 (.int 1)), (30, o_goto 34), (33, o_push 1 (.int 0)), (34, o_cs 170 1 true none), (37, o_aload 0 1), (38, o_get 0), (41, o_aload 3 1), (42, o_iload 2 1), (43, o_cv [(1, 263)] 2 3 true none), (46, o_aload 3 1), (47, o_get 95), (50, o_ret 1)]])
abbrev cX1_trips : ByteArray := prog_1_method_35_code
def yX1_trips : MethodName := ⟨RX1, "trips", "(I)I"⟩
def I203 : Mi := ("TollRoad", (cX1_trips, (3, ([], ((Option.some Jvm.ClassFile.FieldType.int), false)))))
def K203 : Mt := (([0, 1], 3), lk2 [[(0, o_aload 0 1), (1, o_iload 1 1), (2, o_cv [(0, 188)] 1 3 false none), (5, o_astore 2 1), (6, o_aload 0 1), (7, o_get 0), (10, o_iload 1 1), (11, o_cv [(1, 264)] 1 3 false none), (14, o_cv [(3, 42)] 0 3 false none), (17, o_ret 1)]])
abbrev cX1_trip : ByteArray := prog_1_method_37_code
def yX1_trip : MethodName := ⟨RX1, "trip", "(III)I"⟩
def I204 : Mi := ("TollRoad", (cX1_trip, (5, ([], ((Option.some Jvm.ClassFile.FieldType.int), false)))))
def K204 : Mt := (([0, 1, 1, 1], 5), lk2 [[(0, o_aload 0 1), (1, o_iload 1 1), (2, o_iload 2 1), (3, o_cv [(0, 205)] 2 3 false none), (6, o_astore 4 2), (8, o_iload 3 1), (9, o_i2l), (10, o_push 1 (.long 0)), (11, o_push 3 (.long 7)), (14, o_cs 165 3 false none), (17, o_cs 172 1 true none), (20, o_iload 3 1), (21, o_sw (swt 0 [64, 70, 76, 85, 94, 100, 106] 112))],
  [(64, o_aload 4 2), (66, o_cv [(26, 244)] 0 3 false none), (69, o_ret 1), (70, o_aload 4 2), (72, o_cv [(26, 245)] 0 3 false none), (75, o_ret 1), (76, o_aload 4 2), (78, o_get 127), (81, o_cv [(3, 42)] 0 3 false none), (84, o_ret 1), (85, o_aload 4 2), (87, o_get 128), (90, o_cv [(3, 42)] 0 3 false none), (93, o_ret 1), (94, o_aload 4 2), (96, o_get 130), (99, o_ret 1), (100, o_aload 4 2), (102, o_cv [(26, 246)] 0 3 false none), (105, o_ret 1), (106, o_aload 4 2), (108, o_get 132), (111, o_ret 1), (112, o_aload 4 2), (114, o_cv [(26, 247)] 0 3 false none), (117, o_ret 1)]])
abbrev cX1_tripAt : ByteArray := prog_1_method_36_code
def yX1_tripAt : MethodName := ⟨RX1, "tripAt", "(II)LTollRoad$Trip;"⟩
def I205 : Mi := ("TollRoad", (cX1_tripAt, (5, ([], ((Option.some (Jvm.ClassFile.FieldType.object "TollRoad$Trip")), false)))))
def K205 : Mt := (([0, 1, 1], 5), lk2 [[(0, o_aload 0 1), (1, o_iload 1 1), (2, o_cv [(0, 188)] 1 3 false none), (5, o_astore 3 1), (6, o_aload 0 1), (7, o_get 0), (10, o_iload 1 1), (11, o_cv [(1, 264)] 1 3 false none), (14, o_astore 4 2), (16, o_iload 2 1), (17, o_i2l), (18, o_push 1 (.long 0)), (19, o_aload 4 2), (21, o_cv [(3, 42)] 0 3 false none), (24, o_push 1 (.int 1)), (25, o_iop (fun x y => x - y)), (26, o_i2l), (27, o_cs 165 3 false none), (30, o_cs 176 1 true none), (33, o_aload 4 2), (35, o_iload 2 1), (36, o_cv [(3, 47)] 1 3 false none), (39, o_cast [26]), (42, o_ret 0)]])
abbrev cX1_tripGantry : ByteArray := prog_1_method_38_code
def yX1_tripGantry : MethodName := ⟨RX1, "tripGantry", "(III)I"⟩
def I206 : Mi := ("TollRoad", (cX1_tripGantry, (5, ([], ((Option.some Jvm.ClassFile.FieldType.int), false)))))
def K206 : Mt := (([0, 1, 1, 1], 5), lk2 [[(0, o_aload 0 1), (1, o_iload 1 1), (2, o_iload 2 1), (3, o_cv [(0, 205)] 2 3 false none), (6, o_astore 4 2), (8, o_iload 3 1), (9, o_i2l), (10, o_push 1 (.long 0)), (11, o_aload 4 2), (13, o_get 128), (16, o_cv [(3, 42)] 0 3 false none), (19, o_push 1 (.int 1)), (20, o_iop (fun x y => x - y)), (21, o_i2l), (22, o_cs 165 3 false none), (25, o_cs 176 1 true none), (28, o_aload 4 2), (30, o_get 128), (33, o_iload 3 1), (34, o_cv [(3, 47)] 1 3 false none), (37, o_cast [21]), (40, o_cvs [(21, 21)] 0 3 false), (43, o_ret 1)]])
abbrev cX1_bill : ByteArray := prog_1_method_40_code
def yX1_bill : MethodName := ⟨RX1, "bill", "(II)I"⟩
def I207 : Mi := ("TollRoad", (cX1_bill, (4, ([], ((Option.some Jvm.ClassFile.FieldType.int), false)))))
def K207 : Mt := (([0, 1, 1], 4), lk2 [[(0, o_aload 0 1), (1, o_iload 1 1), (2, o_cv [(0, 188)] 1 3 false none), (5, o_astore 3 1), (6, o_iload 2 1), (7, o_cs 208 1 false none), (10, o_cs 172 1 true none), (13, o_aload 0 1), (14, o_get 0), (17, o_iload 1 1), (18, o_iload 2 1), (19, o_cv [(1, 265)] 2 3 false none), (22, o_ret 1)]])
abbrev cX1_isUntil : ByteArray := prog_1_method_39_code
def yX1_isUntil : MethodName := ⟨RX1, "isUntil", "(I)Z"⟩
def I208 : Mi := ("TollRoad", (cX1_isUntil, (1, ([], ((Option.some Jvm.ClassFile.FieldType.boolean), false)))))
def K208 : Mt := (([1], 1), lk2 [[(0, o_iload 0 1), (1, o_i2l), (2, o_push 1 (.long 0)), (3, o_push 3 (.long 200000)), (6, o_cs 165 3 false none), (9, o_ret 5)]])
abbrev cX1_billAll : ByteArray := prog_1_method_41_code
def yX1_billAll : MethodName := ⟨RX1, "billAll", "(I)I"⟩
def I209 : Mi := ("TollRoad", (cX1_billAll, (4, ([], ((Option.some Jvm.ClassFile.FieldType.int), false)))))
def K209 : Mt := (([0, 1], 4), lk2 [[(0, o_iload 1 1), (1, o_cs 208 1 false none), (4, o_cs 172 1 true none), (7, o_push 1 (.int 0)), (8, o_istore 2 1), (9, o_push 1 (.int 0)), (10, o_istore 3 1), (11, o_iload 3 1), (12, o_aload 0 1), (13, o_get 0), (16, o_get 10), (19, o_cv [(3, 42)] 0 3 false none), (22, o_icmp (fun x y => decide (y ≤ x)) 43), (25, o_iload 2 1), (26, o_aload 0 1), (27, o_get 0), (30, o_iload 3 1), (31, o_iload 1 1), (32, o_cv [(1, 265)] 2 3 false none), (35, o_iop (fun x y => x + y)), (36, o_istore 2 1), (37, o_iinc 3 1), (40, o_goto 11), (43, o_iload 2 1), (44, o_ret 1)]])
abbrev cX1_due : ByteArray := prog_1_method_42_code
def yX1_due : MethodName := ⟨RX1, "due", "(II)I"⟩
def I210 : Mi := ("TollRoad", (cX1_due, (4, ([], ((Option.some Jvm.ClassFile.FieldType.int), false)))))
def K210 : Mt := (([0, 1, 1], 4), lk2 [[(0, o_aload 0 1), (1, o_iload 1 1), (2, o_cv [(0, 188)] 1 3 false none), (5, o_astore 3 1), (6, o_iload 2 1), (7, o_cs 208 1 false none), (10, o_cs 172 1 true none), (13, o_aload 0 1), (14, o_get 0), (17, o_iload 1 1), (18, o_iload 2 1), (19, o_cv [(1, 272)] 2 3 false none), (22, o_ret 1)]])
abbrev cX1_billed : ByteArray := prog_1_method_44_code
def yX1_billed : MethodName := ⟨RX1, "billed", "(II)I"⟩
def I211 : Mi := ("TollRoad", (cX1_billed, (4, ([], ((Option.some Jvm.ClassFile.FieldType.int), false)))))
def K211 : Mt := (([0, 1, 1], 4), lk2 [[(0, o_aload 0 1), (1, o_iload 1 1), (2, o_cv [(0, 212)] 1 3 false none), (5, o_astore 3 1), (6, o_iload 2 1), (7, o_i2l), (8, o_push 1 (.long 0)), (9, o_push 3 (.long 12)), (12, o_cs 165 3 false none), (15, o_cs 172 1 true none), (18, o_iload 2 1), (19, o_sw (swt 0 [80, 85, 90, 95, 100, 105, 110, 118, 126, 137, 145, 156] 161))],
  [(80, o_aload 3 1), (81, o_get 133), (84, o_ret 1), (85, o_aload 3 1), (86, o_get 134), (89, o_ret 1), (90, o_aload 3 1), (91, o_get 135), (94, o_ret 1), (95, o_aload 3 1), (96, o_get 136), (99, o_ret 1), (100, o_aload 3 1), (101, o_cv [(27, 250)] 0 3 false none), (104, o_ret 1), (105, o_aload 3 1), (106, o_get 138), (109, o_ret 1), (110, o_aload 3 1), (111, o_get 140), (114, o_cv [(26, 244)] 0 3 false none), (117, o_ret 1), (118, o_aload 3 1), (119, o_get 140), (122, o_cv [(26, 245)] 0 3 false none), (125, o_ret 1), (126, o_aload 3 1), (127, o_get 140)],
  [(130, o_get 128), (133, o_cv [(3, 42)] 0 3 false none), (136, o_ret 1), (137, o_aload 3 1), (138, o_get 140), (141, o_get 130), (144, o_ret 1), (145, o_aload 3 1), (146, o_get 140), (149, o_get 127), (152, o_cv [(3, 42)] 0 3 false none), (155, o_ret 1), (156, o_aload 3 1), (157, o_get 141), (160, o_ret 1), (161, o_aload 3 1), (162, o_get 142), (165, o_ret 1)]])
abbrev cX1_billAt : ByteArray := prog_1_method_43_code
def yX1_billAt : MethodName := ⟨RX1, "billAt", "(I)LTollRoad$Bill;"⟩
def I212 : Mi := ("TollRoad", (cX1_billAt, (2, ([], ((Option.some (Jvm.ClassFile.FieldType.object "TollRoad$Bill")), false)))))
def K212 : Mt := (([0, 1], 2), lk2 [[(0, o_iload 1 1), (1, o_i2l), (2, o_push 1 (.long 0)), (3, o_aload 0 1), (4, o_get 0), (7, o_get 12), (10, o_cv [(3, 42)] 0 3 false none), (13, o_push 1 (.int 1)), (14, o_iop (fun x y => x - y)), (15, o_i2l), (16, o_cs 165 3 false none), (19, o_cs 176 1 true none), (22, o_aload 0 1), (23, o_get 0), (26, o_get 12), (29, o_iload 1 1), (30, o_cv [(3, 47)] 1 3 false none), (33, o_cast [27]), (36, o_ret 0)]])
abbrev cX1_billedGantry : ByteArray := prog_1_method_45_code
def yX1_billedGantry : MethodName := ⟨RX1, "billedGantry", "(II)I"⟩
def I213 : Mi := ("TollRoad", (cX1_billedGantry, (4, ([], ((Option.some Jvm.ClassFile.FieldType.int), false)))))
def K213 : Mt := (([0, 1, 1], 4), lk2 [[(0, o_aload 0 1), (1, o_iload 1 1), (2, o_cv [(0, 212)] 1 3 false none), (5, o_astore 3 1), (6, o_iload 2 1), (7, o_i2l), (8, o_push 1 (.long 0)), (9, o_aload 3 1), (10, o_get 140), (13, o_get 128), (16, o_cv [(3, 42)] 0 3 false none), (19, o_push 1 (.int 1)), (20, o_iop (fun x y => x - y)), (21, o_i2l), (22, o_cs 165 3 false none), (25, o_cs 176 1 true none), (28, o_aload 3 1), (29, o_get 140), (32, o_get 128), (35, o_iload 2 1), (36, o_cv [(3, 47)] 1 3 false none), (39, o_cast [21]), (42, o_cvs [(21, 21)] 0 3 false), (45, o_ret 1)]])
abbrev cX1_dispute : ByteArray := prog_1_method_46_code
def yX1_dispute : MethodName := ⟨RX1, "dispute", "(II)I"⟩
def I214 : Mi := ("TollRoad", (cX1_dispute, (4, ([], ((Option.some Jvm.ClassFile.FieldType.int), false)))))
def K214 : Mt := (([0, 1, 1], 4), lk2 [[(0, o_aload 0 1), (1, o_iload 1 1), (2, o_cv [(0, 212)] 1 3 false none), (5, o_astore 3 1), (6, o_iload 2 1), (7, o_i2l), (8, o_push 1 (.long 0)), (9, o_push 3 (.long 2)), (12, o_cs 165 3 false none), (15, o_cs 172 1 true none), (18, o_aload 3 1), (19, o_get 141), (22, o_if (fun x => decide (¬ x = 0)) 29), (25, o_push 1 (.int 1)), (26, o_goto 30), (29, o_push 1 (.int 0)), (30, o_cs 170 1 true none), (33, o_aload 0 1), (34, o_get 0), (37, o_aload 3 1), (38, o_iload 2 1), (39, o_cv [(1, 273)] 2 3 false none), (42, o_ret 1)]])
abbrev cX1_disputable : ByteArray := prog_1_method_47_code
def yX1_disputable : MethodName := ⟨RX1, "disputable", "(I)I"⟩
def I215 : Mi := ("TollRoad", (cX1_disputable, (5, ([], ((Option.some Jvm.ClassFile.FieldType.int), false)))))
def K215 : Mt := (([0, 1], 5), lk2 [[(0, o_iload 1 1), (1, o_i2l), (2, o_push 1 (.long 0)), (3, o_push 3 (.long 2)), (6, o_cs 165 3 false none), (9, o_cs 172 1 true none), (12, o_push 1 (.int 0)), (13, o_istore 2 1), (14, o_aload 0 1), (15, o_get 0), (18, o_get 12), (21, o_cv [(3, 40)] 0 3 false none), (24, o_astore 3 1), (25, o_aload 3 1), (26, o_cv [(7, 50), (24, 86), (25, 92)] 0 5 false none), (31, o_if (fun x => decide (x = 0)) 77), (34, o_aload 3 1), (35, o_cv [(7, 51), (24, 89), (25, 95)] 0 5 false none), (40, o_cast [27]), (43, o_astore 4 2), (45, o_iload 2 1), (46, o_aload 4 2), (48, o_get 141), (51, o_if (fun x => decide (¬ x = 0)) 71), (54, o_aload 0 1), (55, o_get 0), (58, o_aload 4 2), (60, o_iload 1 1), (61, o_cv [(1, 274)] 2 3 false none)],
  [(64, o_if (fun x => decide (x ≤ 0)) 71), (67, o_push 1 (.int 1)), (68, o_goto 72), (71, o_push 1 (.int 0)), (72, o_iop (fun x y => x + y)), (73, o_istore 2 1), (74, o_goto 25), (77, o_iload 2 1), (78, o_ret 1)]])
abbrev cX1_gantry : ByteArray := prog_1_method_51_code
def yX1_gantry : MethodName := ⟨RX1, "gantry", "(II)I"⟩
def I216 : Mi := ("TollRoad", (cX1_gantry, (3, ([], ((Option.some Jvm.ClassFile.FieldType.int), false)))))
def K216 : Mt := (([0, 1, 1], 3), lk2 [[(0, o_aload 0 1), (1, o_iload 1 1), (2, o_cv [(0, 175)] 1 3 true none), (5, o_iload 2 1), (6, o_i2l), (7, o_push 1 (.long 0)), (8, o_push 3 (.long 3)), (11, o_cs 165 3 false none), (14, o_cs 172 1 true none), (17, o_iload 2 1), (18, o_sw (swt 0 [44, 57, 63] 69)), (44, o_aload 0 1), (45, o_get 0), (48, o_get 6), (51, o_get 14), (54, o_iload 1 1), (55, o_rdI 0), (56, o_ret 1), (57, o_aload 0 1), (58, o_iload 1 1), (59, o_cv [(0, 217)] 1 3 false none), (62, o_ret 1), (63, o_aload 0 1)],
  [(64, o_iload 1 1), (65, o_cv [(0, 218)] 1 3 false none), (68, o_ret 1), (69, o_aload 0 1), (70, o_get 0), (73, o_iload 1 1), (74, o_push 1 (.int 1)), (75, o_cv [(1, 257)] 2 3 false none), (78, o_ret 1)]])
abbrev cX1_readsAt : ByteArray := prog_1_method_49_code
def yX1_readsAt : MethodName := ⟨RX1, "readsAt", "(I)I"⟩
def I217 : Mi := ("TollRoad", (cX1_readsAt, (5, ([], ((Option.some Jvm.ClassFile.FieldType.int), false)))))
def K217 : Mt := (([0, 1], 5), lk2 [[(0, o_push 1 (.int 0)), (1, o_istore 2 1), (2, o_aload 0 1), (3, o_get 0), (6, o_get 11), (9, o_cv [(3, 40)] 0 3 false none), (12, o_astore 3 1), (13, o_aload 3 1), (14, o_cv [(7, 50), (24, 86), (25, 92)] 0 5 false none), (19, o_if (fun x => decide (x = 0)) 71), (22, o_aload 3 1), (23, o_cv [(7, 51), (24, 89), (25, 95)] 0 5 false none), (28, o_cast [17]), (31, o_astore 4 2), (33, o_iload 2 1), (34, o_aload 4 2), (36, o_get 90), (39, o_iload 1 1), (40, o_icmp (fun x y => decide (¬ x = y)) 65), (43, o_aload 4 2), (45, o_get 95), (48, o_push 1 (.int 1)), (49, o_icmp (fun x y => decide (x = y)) 61), (52, o_aload 4 2), (54, o_get 95), (57, o_push 1 (.int 3)), (58, o_icmp (fun x y => decide (¬ x = y)) 65), (61, o_push 1 (.int 1)), (62, o_goto 66)],
  [(65, o_push 1 (.int 0)), (66, o_iop (fun x y => x + y)), (67, o_istore 2 1), (68, o_goto 13), (71, o_iload 2 1), (72, o_ret 1)]])
abbrev cX1_visits : ByteArray := prog_1_method_50_code
def yX1_visits : MethodName := ⟨RX1, "visits", "(I)I"⟩
def I218 : Mi := ("TollRoad", (cX1_visits, (2, ([], ((Option.some Jvm.ClassFile.FieldType.int), false)))))
def K218 : Mt := (([0, 1], 2), lk2 [[(0, o_aload 0 1), (1, o_get 0), (4, o_iload 1 1), (5, o_push 1 (.int 1)), (6, o_cv [(1, 257)] 2 3 false none), (9, o_aload 0 1), (10, o_get 0), (13, o_iload 1 1), (14, o_push 1 (.int 0)), (15, o_cv [(1, 257)] 2 3 false none), (18, o_iop (fun x y => x + y)), (19, o_ret 1)]])
abbrev cX1_missRate : ByteArray := prog_1_method_52_code
def yX1_missRate : MethodName := ⟨RX1, "missRate", "(I)F"⟩
def I219 : Mi := ("TollRoad", (cX1_missRate, (3, ([], ((Option.some Jvm.ClassFile.FieldType.float), false)))))
def K219 : Mt := (([0, 1], 3), lk2 [[(0, o_aload 0 1), (1, o_iload 1 1), (2, o_cv [(0, 175)] 1 3 true none), (5, o_aload 0 1), (6, o_iload 1 1), (7, o_cv [(0, 218)] 1 3 false none), (10, o_istore 2 1), (11, o_iload 2 1), (12, o_if (fun x => decide (¬ x = 0)) 21), (15, o_push 3 (.float 3212836864)), (18, o_goto 34), (21, o_aload 0 1), (22, o_get 0), (25, o_iload 1 1), (26, o_push 1 (.int 1)), (27, o_cv [(1, 257)] 2 3 false none), (30, o_i2f), (31, o_iload 2 1), (32, o_i2f), (33, o_fdiv), (34, o_ret 3)]])
abbrev cX1_save : ByteArray := prog_1_method_61_code
def yX1_save : MethodName := ⟨RX1, "save", "(I)V"⟩
def I220 : Mi := ("TollRoad", (cX1_save, (2, ([], ((Option.none : Option Jvm.ClassFile.FieldType), false)))))
def K220 : Mt := (([0, 1], 2), lk2 [[(0, o_iload 1 1), (1, o_i2l), (2, o_push 1 (.long 0)), (3, o_push 1 (.long 1)), (4, o_cs 165 3 false none), (7, o_cs 172 1 true none), (10, o_aload 0 1), (11, o_get 1), (14, o_iload 1 1), (15, o_aload 0 1), (16, o_get 0), (19, o_cv [(1, 278)] 0 3 false none), (22, o_wrQ 8 [1]), (23, o_vret)]])
abbrev cX1_restore : ByteArray := prog_1_method_62_code
def yX1_restore : MethodName := ⟨RX1, "restore", "(I)V"⟩
def I221 : Mi := ("TollRoad", (cX1_restore, (2, ([], ((Option.none : Option Jvm.ClassFile.FieldType), false)))))
def K221 : Mt := (([0, 1], 2), lk2 [[(0, o_iload 1 1), (1, o_i2l), (2, o_push 1 (.long 0)), (3, o_push 1 (.long 1)), (4, o_cs 165 3 false none), (7, o_cs 172 1 true none), (10, o_aload 0 1), (11, o_get 1), (14, o_iload 1 1), (15, o_rdQ), (16, o_ifnull 23), (19, o_push 1 (.int 1)), (20, o_goto 24), (23, o_push 1 (.int 0)), (24, o_cs 170 1 true none), (27, o_aload 0 1), (28, o_aload 0 1), (29, o_get 1), (32, o_iload 1 1), (33, o_rdQ), (34, o_cv [(1, 278)] 0 3 false none), (37, o_put 0 0), (40, o_vret)]])
abbrev cX10_of : ByteArray := prog_4_method_4_code
def yX10_of : MethodName := ⟨RX10, "of", "(I)LTollRoad$Bounds;"⟩
def I222 : Mi := ("TollRoad$Bounds", (cX10_of, (5, ([], ((Option.some (Jvm.ClassFile.FieldType.object "TollRoad$Bounds")), false)))))
def K222 : Mt := (([1], 5), lk2 [[(0, o_push 2 (.int 8)), (2, o_newa 0 2), (4, o_dup), (5, o_push 1 (.int 0)), (6, o_push 1 (.int 1)), (7, o_wrI 0), (8, o_dup), (9, o_push 1 (.int 1)), (10, o_push 1 (.int 0)), (11, o_wrI 0), (12, o_dup), (13, o_push 1 (.int 2)), (14, o_push 1 (.int 0)), (15, o_wrI 0), (16, o_dup), (17, o_push 1 (.int 3)), (18, o_push 2 (.int 50)), (20, o_wrI 0), (21, o_dup), (22, o_push 1 (.int 4)), (23, o_push 1 (.int 0)), (24, o_wrI 0), (25, o_dup), (26, o_push 1 (.int 5)), (27, o_push 1 (.int 0)), (28, o_wrI 0), (29, o_dup), (30, o_push 2 (.int 6)), (32, o_push 1 (.int 0)), (33, o_wrI 0), (34, o_dup), (35, o_push 2 (.int 7)), (37, o_push 1 (.int 0)), (38, o_wrI 0), (39, o_astore 1 1), (40, o_push 2 (.int 8)), (42, o_newa 0 2), (44, o_dup), (45, o_push 1 (.int 0)), (46, o_push 3 (.int 600)), (49, o_wrI 0), (50, o_dup), (51, o_push 1 (.int 1)), (52, o_push 2 (.int 60)), (54, o_wrI 0), (55, o_dup), (56, o_push 1 (.int 2)), (57, o_push 2 (.int 20)), (59, o_wrI 0), (60, o_dup), (61, o_push 1 (.int 3)), (62, o_push 2 (.int 100))],
  [(64, o_wrI 0), (65, o_dup), (66, o_push 1 (.int 4)), (67, o_push 2 (.int 100)), (69, o_wrI 0), (70, o_dup), (71, o_push 1 (.int 5)), (72, o_push 2 (.int 100)), (74, o_wrI 0), (75, o_dup), (76, o_push 2 (.int 6)), (78, o_push 3 (.int 999)), (81, o_wrI 0), (82, o_dup), (83, o_push 2 (.int 7)), (85, o_push 3 (.int 999)), (88, o_wrI 0), (89, o_astore 2 1), (90, o_aload 1 1), (91, o_iload 0 1), (92, o_rdI 0), (93, o_istore 3 1), (94, o_aload 2 1), (95, o_iload 0 1), (96, o_rdI 0), (97, o_istore 4 2), (99, o_new 14 2 dv14), (102, o_dup), (103, o_iload 3 1), (104, o_iload 4 2), (106, o_ci 224 2), (109, o_ret 0)]])
abbrev cX10_has : ByteArray := prog_4_method_3_code
def yX10_has : MethodName := ⟨RX10, "has", "(I)Z"⟩
def I223 : Mi := ("TollRoad$Bounds", (cX10_has, (2, ([], ((Option.some Jvm.ClassFile.FieldType.boolean), false)))))
def K223 : Mt := (([0, 1], 2), lk2 [[(0, o_iload 1 1), (1, o_i2l), (2, o_aload 0 1), (3, o_cv [(14, 225)] 0 5 false none), (8, o_i2l), (9, o_aload 0 1), (10, o_cv [(14, 226)] 0 5 false none), (15, o_i2l), (16, o_cs 165 3 false none), (19, o_ret 5)]])
abbrev cX11_init : ByteArray := prog_5_method_1_code
def yX11_init : MethodName := ⟨RX11, "<init>", "(II)V"⟩
def I224 : Mi := ("TollRoad$Bounds$1", (cX11_init, (3, ([], ((Option.none : Option Jvm.ClassFile.FieldType), true)))))
def K224 : Mt := (([0, 1, 1], 3), lk2 [[(0, o_aload 0 1), (1, o_iload 1 1), (2, o_put 75 1), (5, o_aload 0 1), (6, o_iload 2 1), (7, o_put 76 1), (10, o_aload 0 1), (11, o_oi), (14, o_vret)]])
abbrev cX11_low : ByteArray := prog_5_method_2_code
def yX11_low : MethodName := ⟨RX11, "low", "()I"⟩
def I225 : Mi := ("TollRoad$Bounds$1", (cX11_low, (1, ([], ((Option.some Jvm.ClassFile.FieldType.int), false)))))
def K225 : Mt := (([0], 1), lk2 [[(0, o_aload 0 1), (1, o_get 75), (4, o_ret 1)]])
abbrev cX11_high : ByteArray := prog_5_method_3_code
def yX11_high : MethodName := ⟨RX11, "high", "()I"⟩
def I226 : Mi := ("TollRoad$Bounds$1", (cX11_high, (1, ([], ((Option.some Jvm.ClassFile.FieldType.int), false)))))
def K226 : Mt := (([0], 1), lk2 [[(0, o_aload 0 1), (1, o_get 76), (4, o_ret 1)]])
abbrev cX12_init : ByteArray := prog_15_method_1_code
def yX12_init : MethodName := ⟨RX12, "<init>", "(LTollRoad$Network;II)V"⟩
def I227 : Mi := ("TollRoad$Search", (cX12_init, (4, ([], ((Option.none : Option Jvm.ClassFile.FieldType), true)))))
def K227 : Mt := (([0, 0, 1, 1], 4), lk2 [[(0, o_aload 0 1), (1, o_oi), (4, o_aload 0 1), (5, o_push 2 (.int 7)), (7, o_newa 0 2), (9, o_put 79 0), (12, o_aload 0 1), (13, o_push 2 (.int 7)), (15, o_newa 0 2), (17, o_put 80 0), (20, o_aload 0 1), (21, o_push 1 (.int (-1))), (22, o_put 81 1), (25, o_aload 0 1), (26, o_aload 1 1), (27, o_put 77 0), (30, o_aload 0 1), (31, o_iload 3 1), (32, o_put 78 1), (35, o_aload 0 1), (36, o_get 79), (39, o_push 1 (.int 0)), (40, o_iload 2 1), (41, o_wrI 0), (42, o_vret)]])
abbrev cX12_search : ByteArray := prog_15_method_5_code
def yX12_search : MethodName := ⟨RX12, "search", "()LTollRoad$Search;"⟩
def I228 : Mi := ("TollRoad$Search", (cX12_search, (1, ([], ((Option.some (Jvm.ClassFile.FieldType.object "TollRoad$Search")), false)))))
def K228 : Mt := (([0], 1), lk2 [[(0, o_aload 0 1), (1, o_push 1 (.int 0)), (2, o_push 1 (.int 1)), (3, o_aload 0 1), (4, o_get 79), (7, o_push 1 (.int 0)), (8, o_rdI 0), (9, o_iop (fun x y => x <<< (y &&& 31))), (10, o_push 1 (.int 0)), (11, o_push 1 (.int 0)), (12, o_push 1 (.int 0)), (13, o_cv [(16, 229), (15, 229)] 5 3 true none), (16, o_aload 0 1), (17, o_ret 0)]])
abbrev cX12_go : ByteArray := prog_15_method_3_code
def yX12_go : MethodName := ⟨RX12, "go", "(IIIII)V"⟩
def I229 : Mi := ("TollRoad$Search", (cX12_go, (10, ([], ((Option.none : Option Jvm.ClassFile.FieldType), false)))))
def K229 : Mt := (([0, 1, 1, 1, 1, 1], 10), lk2 [[(0, o_aload 0 1), (1, o_get 79), (4, o_iload 1 1), (5, o_rdI 0), (6, o_istore 6 2), (8, o_iload 6 2), (10, o_aload 0 1), (11, o_get 78), (14, o_icmp (fun x y => decide (¬ x = y)) 52), (17, o_aload 0 1), (18, o_iload 1 1), (19, o_iload 3 1), (20, o_iload 4 2), (22, o_iload 5 2), (24, o_cv [(16, 233), (15, 232)] 4 3 false none), (27, o_if (fun x => decide (x = 0)) 51), (30, o_aload 0 1), (31, o_iload 1 1), (32, o_put 81 1), (35, o_aload 0 1), (36, o_get 79), (39, o_push 1 (.int 0)), (40, o_aload 0 1), (41, o_get 80), (44, o_push 1 (.int 0)), (45, o_iload 1 1), (46, o_push 1 (.int 1)), (47, o_iop (fun x y => x + y)), (48, o_cpI 0), (51, o_vret), (52, o_iload 1 1), (53, o_if (fun x => decide (¬ x = 0)) 60), (56, o_push 1 (.int 0)), (57, o_goto 70), (60, o_aload 0 1), (61, o_get 77)],
  [(64, o_get 14), (67, o_iload 6 2), (69, o_rdI 0), (70, o_istore 7 2), (72, o_push 1 (.int 0)), (73, o_istore 8 2), (75, o_iload 8 2), (77, o_aload 0 1), (78, o_get 77), (81, o_get 15), (84, o_icmp (fun x y => decide (y ≤ x)) 169), (87, o_iload 1 1), (88, o_push 2 (.int 6)), (90, o_icmp (fun x y => decide (y ≤ x)) 169), (93, o_aload 0 1), (94, o_get 77), (97, o_iload 6 2), (99, o_iload 8 2), (101, o_cv [(2, 284)] 2 3 false none), (104, o_astore 9 2), (106, o_aload 9 2), (108, o_ifnull 163), (111, o_iload 2 1), (112, o_iload 8 2), (114, o_iop (fun x y => x >>> (y &&& 31))), (115, o_push 1 (.int 1)), (116, o_iop (fun x y => x &&& y)), (117, o_if (fun x => decide (¬ x = 0)) 163), (120, o_aload 0 1), (121, o_get 79), (124, o_iload 1 1), (125, o_push 1 (.int 1)), (126, o_iop (fun x y => x + y)), (127, o_iload 8 2)],
  [(129, o_wrI 0), (130, o_aload 0 1), (131, o_iload 1 1), (132, o_push 1 (.int 1)), (133, o_iop (fun x y => x + y)), (134, o_iload 2 1), (135, o_push 1 (.int 1)), (136, o_iload 8 2), (138, o_iop (fun x y => x <<< (y &&& 31))), (139, o_iop (fun x y => x ||| y)), (140, o_iload 3 1), (141, o_aload 9 2), (143, o_get 61), (146, o_iop (fun x y => x + y)), (147, o_iload 4 2), (149, o_aload 9 2), (151, o_get 62), (154, o_iop (fun x y => x + y)), (155, o_iload 5 2), (157, o_iload 7 2), (159, o_iop (fun x y => x + y)), (160, o_cv [(16, 229), (15, 229)] 5 3 true none), (163, o_iinc 8 1), (166, o_goto 75), (169, o_vret)]])
abbrev cX12_isFound : ByteArray := prog_15_method_4_code
def yX12_isFound : MethodName := ⟨RX12, "isFound", "()Z"⟩
def I230 : Mi := ("TollRoad$Search", (cX12_isFound, (1, ([], ((Option.some Jvm.ClassFile.FieldType.boolean), false)))))
def K230 : Mt := (([0], 1), lk2 [[(0, o_aload 0 1), (1, o_get 81), (4, o_push 1 (.int (-1))), (5, o_icmp (fun x y => decide (x = y)) 12), (8, o_push 1 (.int 1)), (9, o_goto 13), (12, o_push 1 (.int 0)), (13, o_ret 5)]])
abbrev cX13_init : ByteArray := prog_14_method_1_code
def yX13_init : MethodName := ⟨RX13, "<init>", "(LTollRoad$Network;[IIII)V"⟩
def I231 : Mi := ("TollRoad$Route", (cX13_init, (6, ([], ((Option.none : Option Jvm.ClassFile.FieldType), true)))))
def K231 : Mt := (([0, 0, 0, 1, 1, 1], 6), lk2 [[(0, o_aload 0 1), (1, o_aload 1 1), (2, o_iload 3 1), (3, o_iload 4 2), (5, o_ci 227 3), (8, o_aload 0 1), (9, o_iload 5 2), (11, o_put 82 1), (14, o_aload 0 1), (15, o_aload 2 1), (16, o_push 1 (.int 2)), (17, o_rdI 0), (18, o_put 83 1), (21, o_aload 0 1), (22, o_aload 2 1), (23, o_push 1 (.int 3)), (24, o_rdI 0), (25, o_put 84 1), (28, o_vret)]])
abbrev cX13_takes : ByteArray := prog_14_method_2_code
def yX13_takes : MethodName := ⟨RX13, "takes", "(IIII)Z"⟩
def I232 : Mi := ("TollRoad$Route", (cX13_takes, (7, ([], ((Option.some Jvm.ClassFile.FieldType.boolean), false)))))
def K232 : Mt := (([0, 1, 1, 1, 1], 7), lk2 [[(0, o_iload 4 2), (2, o_aload 0 1), (3, o_get 83), (6, o_aload 0 1), (7, o_get 82), (10, o_iload 2 1), (11, o_iop (fun x y => x - y)), (12, o_cs 8 1 false none), (15, o_iop (fun x y => x * y)), (16, o_iop (fun x y => x + y)), (17, o_istore 5 2), (19, o_iload 2 1), (20, o_aload 0 1), (21, o_get 84), (24, o_iop (fun x y => x * y)), (25, o_aload 0 1), (26, o_get 82), (29, o_push 2 (.int 100)), (31, o_iop (fun x y => x * y)), (32, o_icmp (fun x y => decide (y < x)) 39), (35, o_push 1 (.int 1)), (36, o_goto 40), (39, o_push 1 (.int 0)), (40, o_istore 6 2), (42, o_iload 6 2), (44, o_if (fun x => decide (x = 0)) 80), (47, o_aload 0 1), (48, o_cv [(15, 230)] 0 3 false none), (51, o_if (fun x => decide (x = 0)) 82), (54, o_iload 5 2), (56, o_aload 0 1), (57, o_get 85), (60, o_icmp (fun x y => decide (y < x)) 80), (63, o_iload 5 2)],
  [(65, o_aload 0 1), (66, o_get 85), (69, o_icmp (fun x y => decide (¬ x = y)) 82), (72, o_iload 1 1), (73, o_aload 0 1), (74, o_get 81), (77, o_icmp (fun x y => decide (x < y)) 82), (80, o_push 1 (.int 0)), (81, o_ret 5), (82, o_aload 0 1), (83, o_iload 5 2), (85, o_put 85 1), (88, o_aload 0 1), (89, o_iload 2 1), (90, o_put 86 1), (93, o_aload 0 1), (94, o_iload 3 1), (95, o_put 87 1), (98, o_push 1 (.int 1)), (99, o_ret 5)]])
abbrev cX14_takes : ByteArray := prog_6_method_2_code
def yX14_takes : MethodName := ⟨RX14, "takes", "(IIII)Z"⟩
def I233 : Mi := ("TollRoad$Cheapest", (cX14_takes, (5, ([], ((Option.some Jvm.ClassFile.FieldType.boolean), false)))))
def K233 : Mt := (([0, 1, 1, 1, 1], 5), lk2 [[(0, o_aload 0 1), (1, o_cv [(16, 230)] 0 3 false none), (4, o_if (fun x => decide (x = 0)) 17), (7, o_iload 3 1), (8, o_aload 0 1), (9, o_get 88), (12, o_icmp (fun x y => decide (x < y)) 17), (15, o_push 1 (.int 0)), (16, o_ret 5), (17, o_aload 0 1), (18, o_iload 3 1), (19, o_put 88 1), (22, o_push 1 (.int 1)), (23, o_ret 5)]])
abbrev cX14_init : ByteArray := prog_6_method_1_code
def yX14_init : MethodName := ⟨RX14, "<init>", "(LTollRoad$Network;II)V"⟩
def I234 : Mi := ("TollRoad$Cheapest", (cX14_init, (4, ([], ((Option.none : Option Jvm.ClassFile.FieldType), true)))))
def K234 : Mt := (([0, 0, 1, 1], 4), lk2 [[(0, o_aload 0 1), (1, o_aload 1 1), (2, o_iload 2 1), (3, o_iload 3 1), (4, o_ci 227 3), (7, o_aload 0 1), (8, o_push 1 (.int (-1))), (9, o_put 88 1), (12, o_vret)]])
abbrev cX15_init : ByteArray := prog_12_method_1_code
def yX15_init : MethodName := ⟨RX15, "<init>", "(IIIZ)V"⟩
def I235 : Mi := ("TollRoad$Read", (cX15_init, (5, ([], ((Option.none : Option Jvm.ClassFile.FieldType), true)))))
def K235 : Mt := (([0, 1, 1, 1, 1], 5), lk2 [[(0, o_aload 0 1), (1, o_oi), (4, o_aload 0 1), (5, o_push 1 (.int (-1))), (6, o_put 96 1), (9, o_aload 0 1), (10, o_iload 1 1), (11, o_put 89 1), (14, o_aload 0 1), (15, o_iload 2 1), (16, o_put 90 1), (19, o_aload 0 1), (20, o_iload 3 1), (21, o_put 91 1), (24, o_aload 0 1), (25, o_iload 4 2), (27, o_put 92 5), (30, o_vret)]])
abbrev cX15_of : ByteArray := prog_12_method_3_code
def yX15_of : MethodName := ⟨RX15, "of", "(I)I"⟩
def I236 : Mi := ("TollRoad$Read", (cX15_of, (2, ([], ((Option.some Jvm.ClassFile.FieldType.int), false)))))
def K236 : Mt := (([0, 1], 2), lk2 [[(0, o_iload 1 1), (1, o_sw (swt 0 [40, 45, 50, 55, 68, 73] 78)), (40, o_aload 0 1), (41, o_get 93), (44, o_ret 1), (45, o_aload 0 1), (46, o_get 90), (49, o_ret 1), (50, o_aload 0 1), (51, o_get 91), (54, o_ret 1), (55, o_aload 0 1), (56, o_get 92), (59, o_if (fun x => decide (x = 0)) 66), (62, o_push 1 (.int 1)), (63, o_goto 67)],
  [(66, o_push 1 (.int 0)), (67, o_ret 1), (68, o_aload 0 1), (69, o_get 94), (72, o_ret 1), (73, o_aload 0 1), (74, o_get 95), (77, o_ret 1), (78, o_aload 0 1), (79, o_get 96), (82, o_ret 1)]])
abbrev cX15_copy : ByteArray := prog_12_method_2_code
def yX15_copy : MethodName := ⟨RX15, "copy", "()LTollRoad$Read;"⟩
def I237 : Mi := ("TollRoad$Read", (cX15_copy, (2, ([], ((Option.some (Jvm.ClassFile.FieldType.object "TollRoad$Read")), false)))))
def K237 : Mt := (([0], 2), lk2 [[(0, o_new 17 8 dv17), (3, o_dup), (4, o_aload 0 1), (5, o_get 89), (8, o_aload 0 1), (9, o_get 90), (12, o_aload 0 1), (13, o_get 91), (16, o_aload 0 1), (17, o_get 92), (20, o_ci 235 4), (23, o_astore 1 1), (24, o_aload 1 1), (25, o_aload 0 1), (26, o_get 93), (29, o_put 93 1), (32, o_aload 1 1), (33, o_aload 0 1), (34, o_get 94), (37, o_put 94 1), (40, o_aload 1 1), (41, o_aload 0 1), (42, o_get 95), (45, o_put 95 1), (48, o_aload 1 1), (49, o_aload 0 1), (50, o_get 96), (53, o_put 96 1), (56, o_aload 1 1), (57, o_ret 0)]])
abbrev cX16_init : ByteArray := prog_9_method_1_code
def yX16_init : MethodName := ⟨RX16, "<init>", "(LTollRoad$World;)V"⟩
def I238 : Mi := ("TollRoad$Order", (cX16_init, (2, ([], ((Option.none : Option Jvm.ClassFile.FieldType), true)))))
def K238 : Mt := (([0, 0], 2), lk2 [[(0, o_aload 0 1), (1, o_oi), (4, o_aload 0 1), (5, o_aload 1 1), (6, o_put 101 0), (9, o_vret)]])
abbrev cX16_compare : ByteArray := prog_9_method_4_code
def yX16_compare : MethodName := ⟨RX16, "compare", "(Ljava/lang/Object;Ljava/lang/Object;)I"⟩
def I239 : Mi := ("TollRoad$Order", (cX16_compare, (3, ([], ((Option.some Jvm.ClassFile.FieldType.int), false)))))
def K239 : Mt := (([0, 0, 0], 3), lk2 [[(0, o_aload 0 1), (1, o_aload 1 1), (2, o_cast [17]), (5, o_aload 2 1), (6, o_cast [17]), (9, o_cv [(19, 240)] 2 3 false none), (12, o_ret 1)]])
abbrev cX16_compare_2 : ByteArray := prog_9_method_3_code
def yX16_compare_2 : MethodName := ⟨RX16, "compare", "(LTollRoad$Read;LTollRoad$Read;)I"⟩
def I240 : Mi := ("TollRoad$Order", (cX16_compare_2, (3, ([], ((Option.some Jvm.ClassFile.FieldType.int), false)))))
def K240 : Mt := (([0, 0, 0], 3), lk2 [[(0, o_aload 0 1), (1, o_aload 1 1), (2, o_cv [(19, 241)] 1 3 false none), (5, o_aload 0 1), (6, o_aload 2 1), (7, o_cv [(19, 241)] 1 3 false none), (10, o_icmp (fun x y => decide (x = y)) 25), (13, o_aload 0 1), (14, o_aload 2 1), (15, o_cv [(19, 241)] 1 3 false none), (18, o_aload 0 1), (19, o_aload 1 1), (20, o_cv [(19, 241)] 1 3 false none), (23, o_iop (fun x y => x - y)), (24, o_ret 1), (25, o_aload 1 1), (26, o_get 94), (29, o_aload 2 1), (30, o_get 94), (33, o_icmp (fun x y => decide (x = y)) 46), (36, o_aload 1 1), (37, o_get 94), (40, o_aload 2 1), (41, o_get 94), (44, o_iop (fun x y => x - y)), (45, o_ret 1), (46, o_aload 1 1), (47, o_get 91), (50, o_aload 2 1), (51, o_get 91), (54, o_icmp (fun x y => decide (x = y)) 69), (57, o_aload 1 1), (58, o_get 91), (61, o_aload 2 1), (62, o_get 91)],
  [(65, o_iop (fun x y => x - y)), (66, o_goto 78), (69, o_aload 1 1), (70, o_get 89), (73, o_aload 2 1), (74, o_get 89), (77, o_iop (fun x y => x - y)), (78, o_ret 1)]])
abbrev cX16_size : ByteArray := prog_9_method_2_code
def yX16_size : MethodName := ⟨RX16, "size", "(LTollRoad$Read;)I"⟩
def I241 : Mi := ("TollRoad$Order", (cX16_size, (2, ([], ((Option.some Jvm.ClassFile.FieldType.int), false)))))
def K241 : Mt := (([0, 0], 2), lk2 [[(0, o_aload 0 1), (1, o_get 101), (4, o_get 10), (7, o_aload 1 1), (8, o_get 93), (11, o_cv [(3, 47)] 1 3 false none), (14, o_cast [13]), (17, o_get 69), (20, o_ret 1)]])
abbrev cX17_takes : ByteArray := prog_17_method_2_code
def yX17_takes : MethodName := ⟨RX17, "takes", "(LTollRoad$Read;LTollRoad$Network;[I)Z"⟩
def I242 : Mi := ("TollRoad$Trip", (cX17_takes, (9, ([], ((Option.some Jvm.ClassFile.FieldType.boolean), false)))))
def K242 : Mt := (([0, 0, 0, 0], 9), lk2 [[(0, o_aload 1 1), (1, o_get 91), (4, o_aload 0 1), (5, o_get 129), (8, o_get 91), (11, o_iop (fun x y => x - y)), (12, o_istore 4 2), (14, o_aload 1 1), (15, o_get 90), (18, o_aload 0 1), (19, o_get 129), (22, o_get 90), (25, o_icmp (fun x y => decide (¬ x = y)) 60), (28, o_iload 4 2), (30, o_aload 3 1), (31, o_push 1 (.int 1)), (32, o_rdI 0), (33, o_icmp (fun x y => decide (y < x)) 40), (36, o_push 1 (.int 1)), (37, o_goto 41), (40, o_push 1 (.int 0)), (41, o_istore 5 2), (43, o_iload 5 2), (45, o_if (fun x => decide (x = 0)) 57), (48, o_aload 0 1), (49, o_get 127), (52, o_aload 1 1), (53, o_cv [(3, 43)] 1 3 false none), (56, o_pop), (57, o_iload 5 2), (59, o_ret 5), (60, o_iload 4 2), (62, o_aload 3 1), (63, o_push 1 (.int 0))],
  [(64, o_rdI 0), (65, o_icmp (fun x y => decide (x ≤ y)) 70), (68, o_push 1 (.int 0)), (69, o_ret 5), (70, o_new 15 11 dv15), (73, o_dup), (74, o_aload 2 1), (75, o_aload 3 1), (76, o_aload 0 1), (77, o_get 129), (80, o_get 90), (83, o_aload 1 1), (84, o_get 90), (87, o_iload 4 2), (89, o_ci 231 5), (92, o_astore 5 2), (94, o_aload 5 2), (96, o_cv [(15, 228)] 0 3 false none), (99, o_cv [(16, 230), (15, 230)] 0 3 false none), (102, o_if (fun x => decide (¬ x = 0)) 107), (105, o_push 1 (.int 0)), (106, o_ret 5), (107, o_aload 5 2), (109, o_get 80), (112, o_astore 6 2), (114, o_aload 5 2), (116, o_get 81), (119, o_istore 7 2), (121, o_push 1 (.int 1)), (122, o_istore 8 2), (124, o_iload 8 2), (126, o_iload 7 2)],
  [(128, o_icmp (fun x y => decide (y < x)) 153), (131, o_aload 0 1), (132, o_get 128), (135, o_aload 6 2), (137, o_iload 8 2), (139, o_rdI 0), (140, o_cs 25 1 false none), (143, o_cv [(3, 43)] 1 3 false none), (146, o_pop), (147, o_iinc 8 1), (150, o_goto 124), (153, o_aload 0 1), (154, o_dup), (155, o_get 130), (158, o_iload 7 2), (160, o_push 1 (.int 1)), (161, o_iop (fun x y => x - y)), (162, o_iop (fun x y => x + y)), (163, o_put 130 1), (166, o_aload 0 1), (167, o_dup), (168, o_get 131), (171, o_aload 5 2), (173, o_get 87), (176, o_iop (fun x y => x + y)), (177, o_put 131 1), (180, o_aload 0 1), (181, o_dup), (182, o_get 132), (185, o_aload 5 2), (187, o_get 85), (190, o_iop (fun x y => x + y)), (191, o_put 132 1)],
  [(194, o_aload 0 1), (195, o_get 127), (198, o_aload 1 1), (199, o_cv [(3, 43)] 1 3 false none), (202, o_pop), (203, o_aload 0 1), (204, o_aload 1 1), (205, o_put 129 0), (208, o_push 1 (.int 1)), (209, o_ret 5)]])
abbrev cX17_init : ByteArray := prog_17_method_1_code
def yX17_init : MethodName := ⟨RX17, "<init>", "(LTollRoad$Read;I)V"⟩
def I243 : Mi := ("TollRoad$Trip", (cX17_init, (3, ([], ((Option.none : Option Jvm.ClassFile.FieldType), true)))))
def K243 : Mt := (([0, 0, 1], 3), lk2 [[(0, o_aload 0 1), (1, o_oi), (4, o_aload 0 1), (5, o_new 3 3 dv3), (8, o_dup), (9, o_push 1 (.int 4)), (10, o_ci 39 1), (13, o_put 127 0), (16, o_aload 0 1), (17, o_new 3 3 dv3), (20, o_dup), (21, o_push 1 (.int 4)), (22, o_ci 39 1), (25, o_put 128 0), (28, o_aload 0 1), (29, o_iload 2 1), (30, o_put 126 1), (33, o_aload 0 1), (34, o_get 127), (37, o_aload 1 1), (38, o_cv [(3, 43)] 1 3 false none), (41, o_pop), (42, o_aload 0 1), (43, o_get 128), (46, o_aload 1 1), (47, o_get 90), (50, o_cs 25 1 false none), (53, o_cv [(3, 43)] 1 3 false none), (56, o_pop), (57, o_aload 0 1), (58, o_aload 1 1), (59, o_put 129 0), (62, o_vret)]])
abbrev cX17_from : ByteArray := prog_17_method_3_code
def yX17_from : MethodName := ⟨RX17, "from", "()I"⟩
def I244 : Mi := ("TollRoad$Trip", (cX17_from, (1, ([], ((Option.some Jvm.ClassFile.FieldType.int), false)))))
def K244 : Mt := (([0], 1), lk2 [[(0, o_aload 0 1), (1, o_get 127), (4, o_push 1 (.int 0)), (5, o_cv [(3, 47)] 1 3 false none), (8, o_cast [17]), (11, o_get 91), (14, o_ret 1)]])
abbrev cX17_to : ByteArray := prog_17_method_4_code
def yX17_to : MethodName := ⟨RX17, "to", "()I"⟩
def I245 : Mi := ("TollRoad$Trip", (cX17_to, (1, ([], ((Option.some Jvm.ClassFile.FieldType.int), false)))))
def K245 : Mt := (([0], 1), lk2 [[(0, o_aload 0 1), (1, o_get 127), (4, o_aload 0 1), (5, o_get 127), (8, o_cv [(3, 42)] 0 3 false none), (11, o_push 1 (.int 1)), (12, o_iop (fun x y => x - y)), (13, o_cv [(3, 47)] 1 3 false none), (16, o_cast [17]), (19, o_get 91), (22, o_ret 1)]])
abbrev cX17_toll : ByteArray := prog_17_method_5_code
def yX17_toll : MethodName := ⟨RX17, "toll", "()I"⟩
def I246 : Mi := ("TollRoad$Trip", (cX17_toll, (1, ([], ((Option.some Jvm.ClassFile.FieldType.int), false)))))
def K246 : Mt := (([0], 1), lk2 [[(0, o_aload 0 1), (1, o_get 131), (4, o_aload 0 1), (5, o_get 126), (8, o_iop (fun x y => x * y)), (9, o_ret 1)]])
abbrev cX17_imageCount : ByteArray := prog_17_method_6_code
def yX17_imageCount : MethodName := ⟨RX17, "imageCount", "()I"⟩
def I247 : Mi := ("TollRoad$Trip", (cX17_imageCount, (3, ([], ((Option.some Jvm.ClassFile.FieldType.int), false)))))
def K247 : Mt := (([0], 3), lk2 [[(0, o_push 1 (.int 0)), (1, o_istore 1 1), (2, o_push 1 (.int 0)), (3, o_istore 2 1), (4, o_iload 2 1), (5, o_aload 0 1), (6, o_get 127), (9, o_cv [(3, 42)] 0 3 false none), (12, o_icmp (fun x y => decide (y ≤ x)) 46), (15, o_iload 1 1), (16, o_aload 0 1), (17, o_get 127), (20, o_iload 2 1), (21, o_cv [(3, 47)] 1 3 false none), (24, o_cast [17]), (27, o_get 92), (30, o_if (fun x => decide (x = 0)) 37), (33, o_push 1 (.int 1)), (34, o_goto 38), (37, o_push 1 (.int 0)), (38, o_iop (fun x y => x + y)), (39, o_istore 1 1), (40, o_iinc 2 1), (43, o_goto 4), (46, o_iload 1 1), (47, o_ret 1)]])
abbrev cX17_marks : ByteArray := prog_17_method_7_code
def yX17_marks : MethodName := ⟨RX17, "marks", "()[Z"⟩
def I248 : Mi := ("TollRoad$Trip", (cX17_marks, (6, ([], ((Option.some (Jvm.ClassFile.FieldType.array Jvm.ClassFile.FieldType.boolean)), false)))))
def K248 : Mt := (([0], 6), lk2 [[(0, o_aload 0 1), (1, o_get 128), (4, o_cv [(3, 42)] 0 3 false none), (7, o_newa 2 2), (9, o_astore 1 1), (10, o_aload 1 1), (11, o_push 1 (.int 0)), (12, o_push 1 (.int 1)), (13, o_wrI 2), (14, o_push 1 (.int 0)), (15, o_istore 2 1), (16, o_aload 0 1), (17, o_get 127), (20, o_push 1 (.int 0)), (21, o_cv [(3, 47)] 1 3 false none), (24, o_cast [17]), (27, o_astore 3 1), (28, o_push 1 (.int 1)), (29, o_istore 4 2), (31, o_iload 4 2), (33, o_aload 0 1), (34, o_get 127), (37, o_cv [(3, 42)] 0 3 false none), (40, o_icmp (fun x y => decide (y ≤ x)) 116), (43, o_aload 0 1), (44, o_get 127), (47, o_iload 4 2), (49, o_cv [(3, 47)] 1 3 false none), (52, o_cast [17]), (55, o_astore 5 2), (57, o_aload 5 2), (59, o_get 90), (62, o_aload 3 1), (63, o_get 90)],
  [(66, o_icmp (fun x y => decide (¬ x = y)) 72), (69, o_goto 110), (72, o_iinc 2 1), (75, o_aload 0 1), (76, o_get 128), (79, o_iload 2 1), (80, o_cv [(3, 47)] 1 3 false none), (83, o_cast [21]), (86, o_cvs [(21, 21)] 0 3 false), (89, o_aload 5 2), (91, o_get 90), (94, o_icmp (fun x y => decide (x = y)) 103), (97, o_iinc 2 1), (100, o_goto 75), (103, o_aload 1 1), (104, o_iload 2 1), (105, o_push 1 (.int 1)), (106, o_wrI 2), (107, o_aload 5 2), (109, o_astore 3 1), (110, o_iinc 4 1), (113, o_goto 31), (116, o_aload 1 1), (117, o_ret 0)]])
abbrev cX18_init : ByteArray := prog_3_method_1_code
def yX18_init : MethodName := ⟨RX18, "<init>", "(IILTollRoad$Trip;III)V"⟩
def I249 : Mi := ("TollRoad$Bill", (cX18_init, (7, ([], ((Option.none : Option Jvm.ClassFile.FieldType), true)))))
def K249 : Mt := (([0, 1, 1, 0, 1, 1, 1], 7), lk2 [[(0, o_aload 0 1), (1, o_oi), (4, o_aload 0 1), (5, o_iload 1 1), (6, o_put 133 1), (9, o_aload 0 1), (10, o_iload 2 1), (11, o_put 134 1), (14, o_aload 0 1), (15, o_aload 3 1), (16, o_put 140 0), (19, o_aload 0 1), (20, o_iload 4 2), (22, o_put 137 1), (25, o_aload 0 1), (26, o_iload 5 2), (28, o_put 138 1), (31, o_aload 0 1), (32, o_iload 6 2), (34, o_put 139 1), (37, o_aload 0 1), (38, o_aload 3 1), (39, o_cv [(26, 246)] 0 3 false none), (42, o_put 136 1), (45, o_aload 0 1), (46, o_aload 3 1), (47, o_iload 4 2), (49, o_iload 5 2), (51, o_iload 6 2), (53, o_cs 254 4 false none), (56, o_put 135 1), (59, o_vret)]])
abbrev cX18_discount : ByteArray := prog_3_method_3_code
def yX18_discount : MethodName := ⟨RX18, "discount", "()I"⟩
def I250 : Mi := ("TollRoad$Bill", (cX18_discount, (2, ([], ((Option.some Jvm.ClassFile.FieldType.int), false)))))
def K250 : Mt := (([0], 2), lk2 [[(0, o_aload 0 1), (1, o_get 140), (4, o_astore 1 1), (5, o_aload 1 1), (6, o_aload 0 1), (7, o_get 137), (10, o_cv [(26, 255)] 1 5 false none), (15, o_ret 1)]])
abbrev cX18_imageReads : ByteArray := prog_3_method_5_code
def yX18_imageReads : MethodName := ⟨RX18, "imageReads", "()I"⟩
def I251 : Mi := ("TollRoad$Bill", (cX18_imageReads, (1, ([], ((Option.some Jvm.ClassFile.FieldType.int), false)))))
def K251 : Mt := (([0], 1), lk2 [[(0, o_aload 0 1), (1, o_get 140), (4, o_cv [(26, 247)] 0 3 false none), (7, o_ret 1)]])
abbrev cX18_amountWith : ByteArray := prog_3_method_4_code
def yX18_amountWith : MethodName := ⟨RX18, "amountWith", "(I)I"⟩
def I252 : Mi := ("TollRoad$Bill", (cX18_amountWith, (2, ([], ((Option.some Jvm.ClassFile.FieldType.int), false)))))
def K252 : Mt := (([0, 1], 2), lk2 [[(0, o_iload 1 1), (1, o_iload 1 1), (2, o_aload 0 1), (3, o_get 137), (6, o_iop (fun x y => x * y)), (7, o_push 2 (.int 100)), (9, o_iopz (fun x y => x / y)), (10, o_iop (fun x y => x - y)), (11, o_aload 0 1), (12, o_get 138), (15, o_iop (fun x y => x + y)), (16, o_aload 0 1), (17, o_get 139), (20, o_iop (fun x y => x + y)), (21, o_ret 1)]])
abbrev cX18_copy : ByteArray := prog_3_method_2_code
def yX18_copy : MethodName := ⟨RX18, "copy", "()LTollRoad$Bill;"⟩
def I253 : Mi := ("TollRoad$Bill", (cX18_copy, (2, ([], ((Option.some (Jvm.ClassFile.FieldType.object "TollRoad$Bill")), false)))))
def K253 : Mt := (([0], 2), lk2 [[(0, o_new 27 10 dv27), (3, o_dup), (4, o_aload 0 1), (5, o_get 133), (8, o_aload 0 1), (9, o_get 134), (12, o_aload 0 1), (13, o_get 140), (16, o_aload 0 1), (17, o_get 137), (20, o_aload 0 1), (21, o_get 138), (24, o_aload 0 1), (25, o_get 139), (28, o_ci 249 6), (31, o_astore 1 1), (32, o_aload 1 1), (33, o_aload 0 1), (34, o_get 141), (37, o_put 141 1), (40, o_aload 1 1), (41, o_aload 0 1), (42, o_get 142), (45, o_put 142 1), (48, o_aload 1 1), (49, o_ret 0)]])
abbrev cX19_amount : ByteArray := prog_11_method_4_code
def yX19_amount : MethodName := ⟨RX19, "amount", "(LTollRoad$Priced;III)I"⟩
def I254 : Mi := ("TollRoad$Priced", (cX19_amount, (4, ([], ((Option.some Jvm.ClassFile.FieldType.int), false)))))
def K254 : Mt := (([0, 1, 1, 1], 4), lk2 [[(0, o_aload 0 1), (1, o_cv [(26, 246)] 0 5 false none), (6, o_aload 0 1), (7, o_iload 1 1), (8, o_cv [(26, 255)] 1 5 false none), (13, o_iop (fun x y => x - y)), (14, o_iload 2 1), (15, o_iop (fun x y => x + y)), (16, o_iload 3 1), (17, o_iop (fun x y => x + y)), (18, o_ret 1)]])
abbrev cX19_discount : ByteArray := prog_11_method_3_code
def yX19_discount : MethodName := ⟨RX19, "discount", "(I)I"⟩
def I255 : Mi := ("TollRoad$Priced", (cX19_discount, (2, ([], ((Option.some Jvm.ClassFile.FieldType.int), false)))))
def K255 : Mt := (([0, 1], 2), lk2 [[(0, o_aload 0 1), (1, o_cv [(26, 246)] 0 5 false none), (6, o_iload 1 1), (7, o_iop (fun x y => x * y)), (8, o_push 2 (.int 100)), (10, o_iopz (fun x y => x / y)), (11, o_ret 1)]])
abbrev cX2_init : ByteArray := prog_19_method_1_code
def yX2_init : MethodName := ⟨RX2, "<init>", "()V"⟩
def I256 : Mi := ("TollRoad$World", (cX2_init, (1, ([], ((Option.none : Option Jvm.ClassFile.FieldType), true)))))
def K256 : Mt := (([0], 1), lk2 [[(0, o_aload 0 1), (1, o_oi), (4, o_aload 0 1), (5, o_new 2 4 dv2), (8, o_dup), (9, o_ci 282 0), (12, o_put 6 0), (15, o_aload 0 1), (16, o_push 2 (.int 8)), (18, o_newa 0 2), (20, o_dup), (21, o_push 1 (.int 0)), (22, o_push 2 (.int 120)), (24, o_wrI 0), (25, o_dup), (26, o_push 1 (.int 1)), (27, o_push 1 (.int 5)), (28, o_wrI 0), (29, o_dup), (30, o_push 1 (.int 2)), (31, o_push 1 (.int 2)), (32, o_wrI 0), (33, o_dup), (34, o_push 1 (.int 3)), (35, o_push 2 (.int 80)), (37, o_wrI 0), (38, o_dup), (39, o_push 1 (.int 4)), (40, o_push 2 (.int 70)), (42, o_wrI 0), (43, o_dup), (44, o_push 1 (.int 5)), (45, o_push 2 (.int 90)), (47, o_wrI 0), (48, o_dup), (49, o_push 2 (.int 6)), (51, o_push 2 (.int 25)), (53, o_wrI 0), (54, o_dup), (55, o_push 2 (.int 7)), (57, o_push 3 (.int 150)), (60, o_wrI 0), (61, o_put 7 0)],
  [(64, o_aload 0 1), (65, o_push 2 (.int 8)), (67, o_newa 7 3), (70, o_put 8 0), (73, o_aload 0 1), (74, o_new 3 3 dv3), (77, o_dup), (78, o_push 1 (.int 4)), (79, o_ci 39 1), (82, o_put 10 0), (85, o_aload 0 1), (86, o_new 3 3 dv3), (89, o_dup), (90, o_push 1 (.int 4)), (91, o_ci 39 1), (94, o_put 11 0), (97, o_aload 0 1), (98, o_new 3 3 dv3), (101, o_dup), (102, o_push 1 (.int 4)), (103, o_ci 39 1), (106, o_put 12 0), (109, o_aload 0 1), (110, o_new 6 8 dv6), (113, o_dup), (114, o_ci 28 0), (117, o_put 13 0), (120, o_vret)]])
abbrev cX2_marked : ByteArray := prog_19_method_14_code
def yX2_marked : MethodName := ⟨RX2, "marked", "(IZ)I"⟩
def I257 : Mi := ("TollRoad$World", (cX2_marked, (4, ([], ((Option.some Jvm.ClassFile.FieldType.int), false)))))
def K257 : Mt := (([0, 1, 1], 4), lk2 [[(0, o_aload 0 1), (1, o_get 13), (4, o_new 8 2 dv8), (7, o_dup), (8, o_iload 1 1), (9, o_iload 2 1), (10, o_ci 279 2), (13, o_cv [(6, 29)] 1 3 false none), (16, o_cast [21]), (19, o_astore 3 1), (20, o_aload 3 1), (21, o_ifnonnull 28), (24, o_push 1 (.int 0)), (25, o_goto 32), (28, o_aload 3 1), (29, o_cvs [(21, 21)] 0 3 false), (32, o_ret 1)]])
abbrev cX2_addAccount : ByteArray := prog_19_method_3_code
def yX2_addAccount : MethodName := ⟨RX2, "addAccount", "(III)I"⟩
def I258 : Mi := ("TollRoad$World", (cX2_addAccount, (4, ([], ((Option.some Jvm.ClassFile.FieldType.int), false)))))
def K258 : Mt := (([0, 1, 1, 1], 4), lk2 [[(0, o_aload 0 1), (1, o_get 8), (4, o_aload 0 1), (5, o_get 9), (8, o_new 12 6 dv12), (11, o_dup), (12, o_iload 1 1), (13, o_iload 2 1), (14, o_iload 3 1), (15, o_ci 419 3), (18, o_wrQ 7 [12]), (19, o_aload 0 1), (20, o_dup), (21, o_get 9), (24, o_push 1 (.int 1)), (25, o_iop (fun x y => x + y)), (26, o_put 9 1), (29, o_aload 0 1), (30, o_get 9), (33, o_push 1 (.int 1)), (34, o_iop (fun x y => x - y)), (35, o_ret 1)]])
abbrev cX2_addVehicle : ByteArray := prog_19_method_4_code
def yX2_addVehicle : MethodName := ⟨RX2, "addVehicle", "(II)I"⟩
def I259 : Mi := ("TollRoad$World", (cX2_addVehicle, (3, ([], ((Option.some Jvm.ClassFile.FieldType.int), false)))))
def K259 : Mt := (([0, 1, 1], 3), lk2 [[(0, o_aload 0 1), (1, o_get 10), (4, o_new 13 6 dv13), (7, o_dup), (8, o_iload 1 1), (9, o_iload 2 1), (10, o_ci 424 2), (13, o_cv [(3, 43)] 1 3 false none), (16, o_pop), (17, o_aload 0 1), (18, o_get 10), (21, o_cv [(3, 42)] 0 3 false none), (24, o_push 1 (.int 1)), (25, o_iop (fun x y => x - y)), (26, o_ret 1)]])
abbrev cX2_readsWith : ByteArray := prog_19_method_9_code
def yX2_readsWith : MethodName := ⟨RX2, "readsWith", "(II)I"⟩
def I260 : Mi := ("TollRoad$World", (cX2_readsWith, (6, ([], ((Option.some Jvm.ClassFile.FieldType.int), false)))))
def K260 : Mt := (([0, 1, 1], 6), lk2 [[(0, o_push 1 (.int 0)), (1, o_istore 3 1), (2, o_aload 0 1), (3, o_get 11), (6, o_cv [(3, 40)] 0 3 false none), (9, o_astore 4 2), (11, o_aload 4 2), (13, o_cv [(7, 50), (24, 86), (25, 92)] 0 5 false none), (18, o_if (fun x => decide (x = 0)) 62), (21, o_aload 4 2), (23, o_cv [(7, 51), (24, 89), (25, 95)] 0 5 false none), (28, o_cast [17]), (31, o_astore 5 2), (33, o_iload 3 1), (34, o_aload 5 2), (36, o_get 93), (39, o_iload 1 1), (40, o_icmp (fun x y => decide (¬ x = y)) 56), (43, o_aload 5 2), (45, o_get 95), (48, o_iload 2 1), (49, o_icmp (fun x y => decide (¬ x = y)) 56), (52, o_push 1 (.int 1)), (53, o_goto 57), (56, o_push 1 (.int 0)), (57, o_iop (fun x y => x + y)), (58, o_istore 3 1), (59, o_goto 11), (62, o_iload 3 1), (63, o_ret 1)]])
abbrev cX2_leastToll : ByteArray := prog_19_method_19_code
def yX2_leastToll : MethodName := ⟨RX2, "leastToll", "(II)I"⟩
def I261 : Mi := ("TollRoad$World", (cX2_leastToll, (4, ([], ((Option.some Jvm.ClassFile.FieldType.int), false)))))
def K261 : Mt := (([0, 1, 1], 4), lk2 [[(0, o_iload 1 1), (1, o_iload 2 1), (2, o_icmp (fun x y => decide (¬ x = y)) 7), (5, o_push 1 (.int 0)), (6, o_ret 1), (7, o_new 16 6 dv16), (10, o_dup), (11, o_aload 0 1), (12, o_get 6), (15, o_iload 1 1), (16, o_iload 2 1), (17, o_ci 234 3), (20, o_astore 3 1), (21, o_aload 3 1), (22, o_cv [(16, 228)] 0 3 false none), (25, o_cv [(16, 230), (15, 230)] 0 3 false none), (28, o_if (fun x => decide (x = 0)) 38), (31, o_aload 3 1), (32, o_get 88), (35, o_goto 39), (38, o_push 1 (.int (-1))), (39, o_ret 1)]])
abbrev cX2_add : ByteArray := prog_19_method_8_code
def yX2_add : MethodName := ⟨RX2, "add", "(LTollRoad$Read;II)I"⟩
def I262 : Mi := ("TollRoad$World", (cX2_add, (4, ([], ((Option.some Jvm.ClassFile.FieldType.int), false)))))
def K262 : Mt := (([0, 0, 1, 1], 4), lk2 [[(0, o_aload 1 1), (1, o_iload 3 1), (2, o_put 94 1), (5, o_aload 1 1), (6, o_get 92), (9, o_if (fun x => decide (x = 0)) 35), (12, o_iload 3 1), (13, o_aload 0 1), (14, o_get 7), (17, o_push 1 (.int 4)), (18, o_rdI 0), (19, o_icmp (fun x y => decide (y ≤ x)) 35), (22, o_aload 1 1), (23, o_iload 2 1), (24, o_put 93 1), (27, o_aload 1 1), (28, o_push 1 (.int 0)), (29, o_put 95 1), (32, o_goto 41), (35, o_aload 0 1), (36, o_aload 1 1), (37, o_iload 2 1), (38, o_cv [(1, 263)] 2 3 true none), (41, o_aload 0 1), (42, o_get 11), (45, o_aload 1 1), (46, o_cv [(3, 43)] 1 3 false none), (49, o_pop), (50, o_aload 1 1), (51, o_get 89), (54, o_ret 1)]])
abbrev cX2_count : ByteArray := prog_19_method_7_code
def yX2_count : MethodName := ⟨RX2, "count", "(LTollRoad$Read;I)V"⟩
def I263 : Mi := ("TollRoad$World", (cX2_count, (3, ([], ((Option.none : Option Jvm.ClassFile.FieldType), false)))))
def K263 : Mt := (([0, 0, 1], 3), lk2 [[(0, o_aload 1 1), (1, o_iload 2 1), (2, o_put 93 1), (5, o_aload 1 1), (6, o_aload 0 1), (7, o_get 10), (10, o_iload 2 1), (11, o_cv [(3, 47)] 1 3 false none), (14, o_cast [13]), (17, o_get 73), (20, o_aload 1 1), (21, o_get 91), (24, o_icmp (fun x y => decide (x < y)) 31), (27, o_push 1 (.int 4)), (28, o_goto 32), (31, o_push 1 (.int 1)), (32, o_put 95 1), (35, o_vret)]])
abbrev cX2_trips : ByteArray := prog_19_method_10_code
def yX2_trips : MethodName := ⟨RX2, "trips", "(I)Ljava/util/ArrayList;"⟩
def I264 : Mi := ("TollRoad$World", (cX2_trips, (7, ([], ((Option.some (Jvm.ClassFile.FieldType.object "java/util/ArrayList")), false)))))
def K264 : Mt := (([0, 1], 7), lk2 [[(0, o_new 20 9 dv20), (3, o_dup), (4, o_ci 54 0), (7, o_astore 2 1), (8, o_aload 0 1), (9, o_get 11), (12, o_cv [(3, 40)] 0 3 false none), (15, o_astore 3 1), (16, o_aload 3 1), (17, o_cv [(7, 50), (24, 86), (25, 92)] 0 5 false none), (22, o_if (fun x => decide (x = 0)) 81), (25, o_aload 3 1), (26, o_cv [(7, 51), (24, 89), (25, 95)] 0 5 false none), (31, o_cast [17]), (34, o_astore 4 2), (36, o_aload 4 2), (38, o_get 93), (41, o_iload 1 1), (42, o_icmp (fun x y => decide (¬ x = y)) 78), (45, o_aload 4 2), (47, o_get 95), (50, o_push 1 (.int 1)), (51, o_icmp (fun x y => decide (¬ x = y)) 78), (54, o_aload 2 1), (55, o_push 2 (.int 120)), (57, o_aload 4 2), (59, o_get 91), (62, o_iop (fun x y => x * y)), (63, o_aload 4 2)],
  [(65, o_get 89), (68, o_iop (fun x y => x + y)), (69, o_cs 25 1 false none), (72, o_aload 4 2), (74, o_cv [(20, 55)] 2 3 false none), (77, o_pop), (78, o_goto 16), (81, o_new 3 3 dv3), (84, o_dup), (85, o_push 1 (.int 4)), (86, o_ci 39 1), (89, o_astore 3 1), (90, o_push 1 .null), (91, o_astore 4 2), (93, o_aload 2 1), (94, o_cv [(20, 68)] 0 3 false none), (97, o_cv [(23, 85)] 0 5 false none), (102, o_astore 5 2), (104, o_aload 5 2), (106, o_cv [(7, 50), (24, 86), (25, 92)] 0 5 false none), (111, o_if (fun x => decide (x = 0)) 184), (114, o_aload 5 2), (116, o_cv [(7, 51), (24, 89), (25, 95)] 0 5 false none), (121, o_cast [17]), (124, o_astore 6 2), (126, o_aload 4 2)],
  [(128, o_ifnull 149), (131, o_aload 4 2), (133, o_aload 6 2), (135, o_aload 0 1), (136, o_get 6), (139, o_aload 0 1), (140, o_get 7), (143, o_cv [(26, 242)] 3 3 false none), (146, o_if (fun x => decide (¬ x = 0)) 181), (149, o_new 26 7 dv26), (152, o_dup), (153, o_aload 6 2), (155, o_aload 0 1), (156, o_get 10), (159, o_iload 1 1), (160, o_cv [(3, 47)] 1 3 false none), (163, o_cast [13]), (166, o_get 69), (169, o_ci 243 2), (172, o_astore 4 2), (174, o_aload 3 1), (175, o_aload 4 2), (177, o_cv [(3, 43)] 1 3 false none), (180, o_pop), (181, o_goto 104), (184, o_aload 3 1), (185, o_ret 0)]])
abbrev cX2_bill : ByteArray := prog_19_method_16_code
def yX2_bill : MethodName := ⟨RX2, "bill", "(II)I"⟩
def I265 : Mi := ("TollRoad$World", (cX2_bill, (5, ([], ((Option.some Jvm.ClassFile.FieldType.int), false)))))
def K265 : Mt := (([0, 1, 1], 5), lk2 [[(0, o_aload 0 1), (1, o_iload 1 1), (2, o_cv [(1, 264)] 1 3 false none), (5, o_astore 3 1), (6, o_push 1 (.int 0)), (7, o_istore 4 2), (9, o_iload 4 2), (11, o_aload 3 1), (12, o_cv [(3, 42)] 0 3 false none), (15, o_icmp (fun x y => decide (y ≤ x)) 72), (18, o_aload 0 1), (19, o_get 12), (22, o_cv [(3, 42)] 0 3 false none), (25, o_push 2 (.int 60)), (27, o_icmp (fun x y => decide (y ≤ x)) 72), (30, o_aload 0 1), (31, o_aload 3 1), (32, o_iload 4 2), (34, o_cv [(3, 47)] 1 3 false none), (37, o_cast [26]), (40, o_iload 2 1), (41, o_cv [(1, 266)] 2 3 false none), (44, o_if (fun x => decide (x = 0)) 72), (47, o_aload 0 1), (48, o_aload 0 1), (49, o_iload 1 1), (50, o_aload 3 1), (51, o_iload 4 2), (53, o_cv [(3, 47)] 1 3 false none), (56, o_cast [26]), (59, o_push 1 (.int 0)), (60, o_cv [(1, 267)] 3 3 false none), (63, o_cv [(1, 270)] 1 3 true none)],
  [(66, o_iinc 4 1), (69, o_goto 9), (72, o_iload 4 2), (74, o_ret 1)]])
abbrev cX2_isEarly : ByteArray := prog_19_method_11_code
def yX2_isEarly : MethodName := ⟨RX2, "isEarly", "(LTollRoad$Trip;I)Z"⟩
def I266 : Mi := ("TollRoad$World", (cX2_isEarly, (3, ([], ((Option.some Jvm.ClassFile.FieldType.boolean), false)))))
def K266 : Mt := (([0, 0, 1], 3), lk2 [[(0, o_aload 1 1), (1, o_cv [(26, 245)] 0 3 false none), (4, o_aload 0 1), (5, o_get 7), (8, o_push 1 (.int 0)), (9, o_rdI 0), (10, o_iop (fun x y => x + y)), (11, o_iload 2 1), (12, o_icmp (fun x y => decide (y ≤ x)) 19), (15, o_push 1 (.int 1)), (16, o_goto 20), (19, o_push 1 (.int 0)), (20, o_ret 5)]])
abbrev cX2_bill_2 : ByteArray := prog_19_method_12_code
def yX2_bill_2 : MethodName := ⟨RX2, "bill", "(ILTollRoad$Trip;I)LTollRoad$Bill;"⟩
def I267 : Mi := ("TollRoad$World", (cX2_bill_2, (7, ([], ((Option.some (Jvm.ClassFile.FieldType.object "TollRoad$Bill")), false)))))
def K267 : Mt := (([0, 1, 0, 1], 7), lk2 [[(0, o_aload 0 1), (1, o_get 10), (4, o_iload 1 1), (5, o_cv [(3, 47)] 1 3 false none), (8, o_cast [13]), (11, o_get 70), (14, o_istore 4 2), (16, o_aload 0 1), (17, o_get 7), (20, o_push 2 (.int 6)), (22, o_rdI 0), (23, o_aload 2 1), (24, o_cv [(26, 247)] 0 3 false none), (27, o_iop (fun x y => x * y)), (28, o_istore 5 2), (30, o_aload 0 1), (31, o_aload 0 1), (32, o_iload 4 2), (34, o_cv [(1, 268)] 1 3 false none), (37, o_iload 3 1), (38, o_cv [(1, 269)] 2 3 false none), (41, o_istore 6 2), (43, o_new 27 10 dv27), (46, o_dup), (47, o_iload 1 1), (48, o_iload 4 2), (50, o_aload 2 1), (51, o_iload 6 2), (53, o_iload 5 2), (55, o_iload 4 2), (57, o_push 1 (.int (-1))), (58, o_icmp (fun x y => decide (¬ x = y)) 71), (61, o_aload 0 1), (62, o_get 7)],
  [(65, o_push 2 (.int 7)), (67, o_rdI 0), (68, o_goto 72), (71, o_push 1 (.int 0)), (72, o_ci 249 6), (75, o_ret 0)]])
abbrev cX2_accountOf : ByteArray := prog_19_method_5_code
def yX2_accountOf : MethodName := ⟨RX2, "accountOf", "(I)LTollRoad$Account;"⟩
def I268 : Mi := ("TollRoad$World", (cX2_accountOf, (2, ([], ((Option.some (Jvm.ClassFile.FieldType.object "TollRoad$Account")), false)))))
def K268 : Mt := (([0, 1], 2), lk2 [[(0, o_iload 1 1), (1, o_push 1 (.int (-1))), (2, o_icmp (fun x y => decide (¬ x = y)) 9), (5, o_push 1 .null), (6, o_goto 15), (9, o_aload 0 1), (10, o_get 8), (13, o_iload 1 1), (14, o_rdQ), (15, o_ret 0)]])
abbrev cX2_reductionOf : ByteArray := prog_19_method_6_code
def yX2_reductionOf : MethodName := ⟨RX2, "reductionOf", "(LTollRoad$Account;I)I"⟩
def I269 : Mi := ("TollRoad$World", (cX2_reductionOf, (4, ([(0, 5, 6, 136)], ((Option.some Jvm.ClassFile.FieldType.int), false)))))
def K269 : Mt := (([0, 0, 1], 4), lk2 [[(0, o_aload 1 1), (1, o_iload 2 1), (2, o_cvN [(12, 420)] 1 false 34 8 6), (5, o_ret 1), (6, o_astore 3 1), (7, o_push 1 (.int 0)), (8, o_ret 1)]])
abbrev cX2_close : ByteArray := prog_19_method_15_code
def yX2_close : MethodName := ⟨RX2, "close", "(LTollRoad$Bill;)V"⟩
def I270 : Mi := ("TollRoad$World", (cX2_close, (7, ([(24, 32, 35, 136)], ((Option.none : Option Jvm.ClassFile.FieldType), false)))))
def K270 : Mt := (([0, 0], 7), lk2 [[(0, o_aload 0 1), (1, o_get 10), (4, o_aload 1 1), (5, o_get 133), (8, o_cv [(3, 47)] 1 3 false none), (11, o_cast [13]), (14, o_astore 2 1), (15, o_aload 0 1), (16, o_aload 1 1), (17, o_get 134), (20, o_cv [(1, 268)] 1 3 false none), (23, o_astore 3 1), (24, o_aload 3 1), (25, o_aload 1 1), (26, o_get 135), (29, o_cvN [(12, 421)] 1 true 34 8 35), (32, o_goto 50), (35, o_astore 4 2), (37, o_aload 2 1), (38, o_dup), (39, o_get 71), (42, o_aload 1 1), (43, o_get 135), (46, o_iop (fun x y => x + y)), (47, o_put 71 1), (50, o_aload 1 1), (51, o_get 140), (54, o_astore 4 2), (56, o_push 1 (.int 0)), (57, o_istore 5 2), (59, o_iload 5 2), (61, o_aload 4 2), (63, o_get 127)],
  [(66, o_cv [(3, 42)] 0 3 false none), (69, o_icmp (fun x y => decide (y ≤ x)) 137), (72, o_aload 4 2), (74, o_get 127), (77, o_iload 5 2), (79, o_cv [(3, 47)] 1 3 false none), (82, o_cast [17]), (85, o_astore 6 2), (87, o_aload 6 2), (89, o_push 1 (.int 3)), (90, o_put 95 1), (93, o_aload 6 2), (95, o_aload 0 1), (96, o_get 12), (99, o_cv [(3, 42)] 0 3 false none), (102, o_put 96 1), (105, o_aload 2 1), (106, o_aload 2 1), (107, o_get 73), (110, o_aload 6 2), (112, o_get 91), (115, o_cs 6 2 false none), (118, o_put 73 1), (121, o_aload 2 1), (122, o_dup), (123, o_get 72), (126, o_push 1 (.int 1)), (127, o_iop (fun x y => x + y))],
  [(128, o_put 72 1), (131, o_iinc 5 1), (134, o_goto 59), (137, o_aload 4 2), (139, o_cv [(26, 248)] 0 3 false none), (142, o_astore 5 2), (144, o_push 1 (.int 0)), (145, o_istore 6 2), (147, o_iload 6 2), (149, o_aload 5 2), (151, o_alen), (152, o_icmp (fun x y => decide (y ≤ x)) 194), (155, o_aload 0 1), (156, o_aload 4 2), (158, o_get 128), (161, o_iload 6 2), (163, o_cv [(3, 47)] 1 3 false none), (166, o_cast [21]), (169, o_cvs [(21, 21)] 0 3 false), (172, o_aload 5 2), (174, o_iload 6 2), (176, o_rdI 2), (177, o_if (fun x => decide (¬ x = 0)) 184), (180, o_push 1 (.int 1)), (181, o_goto 185), (184, o_push 1 (.int 0)), (185, o_cv [(1, 271)] 2 3 true none), (188, o_iinc 6 1), (191, o_goto 147)],
  [(194, o_aload 2 1), (195, o_dup), (196, o_get 74), (199, o_push 1 (.int 1)), (200, o_iop (fun x y => x + y)), (201, o_put 74 1), (204, o_aload 0 1), (205, o_get 12), (208, o_aload 1 1), (209, o_cv [(3, 43)] 1 3 false none), (212, o_pop), (213, o_vret)]])
abbrev cX2_mark : ByteArray := prog_19_method_13_code
def yX2_mark : MethodName := ⟨RX2, "mark", "(IZ)V"⟩
def I271 : Mi := ("TollRoad$World", (cX2_mark, (5, ([], ((Option.none : Option Jvm.ClassFile.FieldType), false)))))
def K271 : Mt := (([0, 1, 1], 5), lk2 [[(0, o_new 8 2 dv8), (3, o_dup), (4, o_iload 1 1), (5, o_iload 2 1), (6, o_ci 279 2), (9, o_astore 3 1), (10, o_aload 0 1), (11, o_get 13), (14, o_aload 3 1), (15, o_cv [(6, 29)] 1 3 false none), (18, o_cast [21]), (21, o_astore 4 2), (23, o_aload 0 1), (24, o_get 13), (27, o_aload 3 1), (28, o_aload 4 2), (30, o_ifnonnull 37), (33, o_push 1 (.int 1)), (34, o_goto 44), (37, o_aload 4 2), (39, o_cvs [(21, 21)] 0 3 false), (42, o_push 1 (.int 1)), (43, o_iop (fun x y => x + y)), (44, o_cs 25 1 false none), (47, o_cv [(6, 32)] 2 3 false none), (50, o_pop), (51, o_vret)]])
abbrev cX2_due : ByteArray := prog_19_method_17_code
def yX2_due : MethodName := ⟨RX2, "due", "(II)I"⟩
def I272 : Mi := ("TollRoad$World", (cX2_due, (6, ([], ((Option.some Jvm.ClassFile.FieldType.int), false)))))
def K272 : Mt := (([0, 1, 1], 6), lk2 [[(0, o_aload 0 1), (1, o_iload 1 1), (2, o_cv [(1, 264)] 1 3 false none), (5, o_astore 3 1), (6, o_push 1 (.int 0)), (7, o_istore 4 2), (9, o_push 1 (.int 0)), (10, o_istore 5 2), (12, o_iload 5 2), (14, o_aload 3 1), (15, o_cv [(3, 42)] 0 3 false none), (18, o_icmp (fun x y => decide (y ≤ x)) 83), (21, o_aload 0 1), (22, o_get 12), (25, o_cv [(3, 42)] 0 3 false none), (28, o_iload 5 2), (30, o_iop (fun x y => x + y)), (31, o_push 2 (.int 60)), (33, o_icmp (fun x y => decide (y ≤ x)) 83), (36, o_aload 0 1), (37, o_aload 3 1), (38, o_iload 5 2), (40, o_cv [(3, 47)] 1 3 false none), (43, o_cast [26]), (46, o_iload 2 1), (47, o_cv [(1, 266)] 2 3 false none), (50, o_if (fun x => decide (x = 0)) 83), (53, o_iload 4 2), (55, o_aload 0 1), (56, o_iload 1 1), (57, o_aload 3 1), (58, o_iload 5 2), (60, o_cv [(3, 47)] 1 3 false none), (63, o_cast [26])],
  [(66, o_iload 5 2), (68, o_cv [(1, 267)] 3 3 false none), (71, o_get 135), (74, o_iop (fun x y => x + y)), (75, o_istore 4 2), (77, o_iinc 5 1), (80, o_goto 12), (83, o_iload 4 2), (85, o_ret 1)]])
abbrev cX2_dispute : ByteArray := prog_19_method_23_code
def yX2_dispute : MethodName := ⟨RX2, "dispute", "(LTollRoad$Bill;I)I"⟩
def I273 : Mi := ("TollRoad$World", (cX2_dispute, (6, ([(41, 47, 50, 136)], ((Option.some Jvm.ClassFile.FieldType.int), false)))))
def K273 : Mt := (([0, 0, 1], 6), lk2 [[(0, o_aload 0 1), (1, o_aload 1 1), (2, o_iload 2 1), (3, o_cv [(1, 274)] 2 3 false none), (6, o_istore 3 1), (7, o_aload 1 1), (8, o_iload 3 1), (9, o_if (fun x => decide (x ≤ 0)) 16), (12, o_push 1 (.int 1)), (13, o_goto 17), (16, o_push 1 (.int 2)), (17, o_put 141 1), (20, o_aload 1 1), (21, o_iload 3 1), (22, o_put 142 1), (25, o_aload 0 1), (26, o_aload 1 1), (27, o_get 134), (30, o_cv [(1, 268)] 1 3 false none), (33, o_astore 4 2), (35, o_iload 3 1), (36, o_if (fun x => decide (¬ x = 0)) 41), (39, o_push 1 (.int 0)), (40, o_ret 1), (41, o_aload 4 2), (43, o_iload 3 1), (44, o_cvN [(12, 422)] 1 true 34 8 50), (47, o_goto 75), (50, o_astore 5 2), (52, o_aload 0 1), (53, o_get 10), (56, o_aload 1 1), (57, o_get 133), (60, o_cv [(3, 47)] 1 3 false none), (63, o_cast [13])],
  [(66, o_dup), (67, o_get 71), (70, o_iload 3 1), (71, o_iop (fun x y => x - y)), (72, o_put 71 1), (75, o_iload 3 1), (76, o_ret 1)]])
abbrev cX2_refund : ByteArray := prog_19_method_22_code
def yX2_refund : MethodName := ⟨RX2, "refund", "(LTollRoad$Bill;I)I"⟩
def I274 : Mi := ("TollRoad$World", (cX2_refund, (3, ([], ((Option.some Jvm.ClassFile.FieldType.int), false)))))
def K274 : Mt := (([0, 0, 1], 3), lk2 [[(0, o_iload 2 1), (1, o_if (fun x => decide (¬ x = 0)) 12), (4, o_aload 0 1), (5, o_aload 1 1), (6, o_cv [(1, 275)] 1 3 false none), (9, o_goto 30), (12, o_iload 2 1), (13, o_push 1 (.int 1)), (14, o_icmp (fun x y => decide (¬ x = y)) 25), (17, o_aload 0 1), (18, o_aload 1 1), (19, o_cv [(1, 276)] 1 3 false none), (22, o_goto 30), (25, o_aload 0 1), (26, o_aload 1 1), (27, o_cv [(1, 277)] 1 3 false none), (30, o_ret 1)]])
abbrev cX2_refundForOther : ByteArray := prog_19_method_18_code
def yX2_refundForOther : MethodName := ⟨RX2, "refundForOther", "(LTollRoad$Bill;)I"⟩
def I275 : Mi := ("TollRoad$World", (cX2_refundForOther, (4, ([], ((Option.some Jvm.ClassFile.FieldType.int), false)))))
def K275 : Mt := (([0, 0], 4), lk2 [[(0, o_push 2 (.int 101)), (2, o_istore 2 1), (3, o_push 1 (.int 0)), (4, o_istore 3 1), (5, o_iload 3 1), (6, o_aload 1 1), (7, o_get 140), (10, o_get 127), (13, o_cv [(3, 42)] 0 3 false none), (16, o_icmp (fun x y => decide (y ≤ x)) 47), (19, o_iload 2 1), (20, o_aload 1 1), (21, o_get 140), (24, o_get 127), (27, o_iload 3 1), (28, o_cv [(3, 47)] 1 3 false none), (31, o_cast [17]), (34, o_get 94), (37, o_cs 7 2 false none), (40, o_istore 2 1), (41, o_iinc 3 1), (44, o_goto 5), (47, o_aload 1 1), (48, o_cv [(27, 251)] 0 3 false none), (51, o_aload 1 1), (52, o_get 140), (55, o_get 127), (58, o_cv [(3, 42)] 0 3 false none), (61, o_icmp (fun x y => decide (¬ x = y)) 78)],
  [(64, o_iload 2 1), (65, o_aload 0 1), (66, o_get 7), (69, o_push 1 (.int 5)), (70, o_rdI 0), (71, o_icmp (fun x y => decide (y ≤ x)) 78), (74, o_push 1 (.int 1)), (75, o_goto 79), (78, o_push 1 (.int 0)), (79, o_istore 3 1), (80, o_iload 3 1), (81, o_if (fun x => decide (x = 0)) 91), (84, o_aload 1 1), (85, o_get 135), (88, o_goto 92), (91, o_push 1 (.int 0)), (92, o_ret 1)]])
abbrev cX2_refundForRoute : ByteArray := prog_19_method_20_code
def yX2_refundForRoute : MethodName := ⟨RX2, "refundForRoute", "(LTollRoad$Bill;)I"⟩
def I276 : Mi := ("TollRoad$World", (cX2_refundForRoute, (5, ([], ((Option.some Jvm.ClassFile.FieldType.int), false)))))
def K276 : Mt := (([0, 0], 5), lk2 [[(0, o_aload 1 1), (1, o_get 140), (4, o_astore 2 1), (5, o_aload 0 1), (6, o_aload 2 1), (7, o_get 128), (10, o_push 1 (.int 0)), (11, o_cv [(3, 47)] 1 3 false none), (14, o_cast [21]), (17, o_cvs [(21, 21)] 0 3 false), (20, o_aload 2 1), (21, o_get 128), (24, o_aload 2 1), (25, o_get 128), (28, o_cv [(3, 42)] 0 3 false none), (31, o_push 1 (.int 1)), (32, o_iop (fun x y => x - y)), (33, o_cv [(3, 47)] 1 3 false none), (36, o_cast [21]), (39, o_cvs [(21, 21)] 0 3 false), (42, o_cv [(1, 261)] 2 3 false none), (45, o_aload 2 1), (46, o_get 126), (49, o_iop (fun x y => x * y)), (50, o_istore 3 1), (51, o_aload 2 1), (52, o_get 130), (55, o_if (fun x => decide (x ≤ 0)) 74), (58, o_iload 3 1), (59, o_if (fun x => decide (x < 0)) 74), (62, o_iload 3 1), (63, o_aload 1 1)],
  [(64, o_get 136), (67, o_icmp (fun x y => decide (y ≤ x)) 74), (70, o_push 1 (.int 1)), (71, o_goto 75), (74, o_push 1 (.int 0)), (75, o_istore 4 2), (77, o_iload 4 2), (79, o_if (fun x => decide (x = 0)) 95), (82, o_aload 1 1), (83, o_get 135), (86, o_aload 1 1), (87, o_iload 3 1), (88, o_cv [(27, 252)] 1 3 false none), (91, o_iop (fun x y => x - y)), (92, o_goto 96), (95, o_push 1 (.int 0)), (96, o_ret 1)]])
abbrev cX2_refundForImages : ByteArray := prog_19_method_21_code
def yX2_refundForImages : MethodName := ⟨RX2, "refundForImages", "(LTollRoad$Bill;)I"⟩
def I277 : Mi := ("TollRoad$World", (cX2_refundForImages, (3, ([], ((Option.some Jvm.ClassFile.FieldType.int), false)))))
def K277 : Mt := (([0, 0], 3), lk2 [[(0, o_aload 1 1), (1, o_cv [(27, 251)] 0 3 false none), (4, o_istore 2 1), (5, o_iload 2 1), (6, o_if (fun x => decide (x ≤ 0)) 30), (9, o_iload 2 1), (10, o_aload 1 1), (11, o_get 140), (14, o_get 127), (17, o_cv [(3, 42)] 0 3 false none), (20, o_icmp (fun x y => decide (y ≤ x)) 30), (23, o_aload 1 1), (24, o_get 138), (27, o_goto 31), (30, o_push 1 (.int 0)), (31, o_ret 1)]])
abbrev cX2_copy : ByteArray := prog_19_method_2_code
def yX2_copy : MethodName := ⟨RX2, "copy", "()LTollRoad$World;"⟩
def I278 : Mi := ("TollRoad$World", (cX2_copy, (4, ([], ((Option.some (Jvm.ClassFile.FieldType.object "TollRoad$World")), false)))))
def K278 : Mt := (([0], 4), lk2 [[(0, o_new 1 8 dv1), (3, o_dup), (4, o_ci 256 0), (7, o_astore 1 1), (8, o_aload 1 1), (9, o_aload 0 1), (10, o_get 6), (13, o_cv [(2, 286)] 0 3 false none), (16, o_put 6 0), (19, o_aload 1 1), (20, o_aload 0 1), (21, o_get 7), (24, o_cln), (27, o_casta 0), (30, o_put 7 0), (33, o_push 1 (.int 0)), (34, o_istore 2 1), (35, o_iload 2 1), (36, o_aload 0 1), (37, o_get 9), (40, o_icmp (fun x y => decide (y ≤ x)) 64), (43, o_aload 1 1), (44, o_get 8), (47, o_iload 2 1), (48, o_aload 0 1), (49, o_get 8), (52, o_iload 2 1), (53, o_rdQ), (54, o_cv [(12, 423)] 0 3 false none), (57, o_wrQ 7 [12]), (58, o_iinc 2 1), (61, o_goto 35)],
  [(64, o_aload 1 1), (65, o_aload 0 1), (66, o_get 9), (69, o_put 9 1), (72, o_aload 0 1), (73, o_get 10), (76, o_cv [(3, 40)] 0 3 false none), (79, o_astore 2 1), (80, o_aload 2 1), (81, o_cv [(7, 50), (24, 86), (25, 92)] 0 5 false none), (86, o_if (fun x => decide (x = 0)) 114), (89, o_aload 2 1), (90, o_cv [(7, 51), (24, 89), (25, 95)] 0 5 false none), (95, o_cast [13]), (98, o_astore 3 1), (99, o_aload 1 1), (100, o_get 10), (103, o_aload 3 1), (104, o_cv [(13, 425)] 0 3 false none), (107, o_cv [(3, 43)] 1 3 false none), (110, o_pop), (111, o_goto 80), (114, o_aload 0 1), (115, o_get 11), (118, o_cv [(3, 40)] 0 3 false none), (121, o_astore 2 1), (122, o_aload 2 1), (123, o_cv [(7, 50), (24, 86), (25, 92)] 0 5 false none)],
  [(128, o_if (fun x => decide (x = 0)) 156), (131, o_aload 2 1), (132, o_cv [(7, 51), (24, 89), (25, 95)] 0 5 false none), (137, o_cast [17]), (140, o_astore 3 1), (141, o_aload 1 1), (142, o_get 11), (145, o_aload 3 1), (146, o_cv [(17, 237)] 0 3 false none), (149, o_cv [(3, 43)] 1 3 false none), (152, o_pop), (153, o_goto 122), (156, o_aload 0 1), (157, o_get 12), (160, o_cv [(3, 40)] 0 3 false none), (163, o_astore 2 1), (164, o_aload 2 1), (165, o_cv [(7, 50), (24, 86), (25, 92)] 0 5 false none), (170, o_if (fun x => decide (x = 0)) 198), (173, o_aload 2 1), (174, o_cv [(7, 51), (24, 89), (25, 95)] 0 5 false none), (179, o_cast [27]), (182, o_astore 3 1), (183, o_aload 1 1), (184, o_get 12), (187, o_aload 3 1), (188, o_cv [(27, 253)] 0 3 false none), (191, o_cv [(3, 43)] 1 3 false none)],
  [(194, o_pop), (195, o_goto 164), (198, o_aload 0 1), (199, o_get 13), (202, o_cv [(6, 38)] 0 3 false none), (205, o_cv [(29, 102)] 0 5 false none), (210, o_astore 2 1), (211, o_aload 2 1), (212, o_cv [(7, 50), (24, 86), (25, 92)] 0 5 false none), (217, o_if (fun x => decide (x = 0)) 259), (220, o_aload 2 1), (221, o_cv [(7, 51), (24, 89), (25, 95)] 0 5 false none), (226, o_cast [22, 28]), (229, o_astore 3 1), (230, o_aload 1 1), (231, o_get 13), (234, o_aload 3 1), (235, o_cv [(28, 98)] 0 5 false none), (240, o_cast [8]), (243, o_aload 3 1), (244, o_cv [(28, 99)] 0 5 false none), (249, o_cast [21]), (252, o_cv [(6, 32)] 2 3 false none), (255, o_pop)],
  [(256, o_goto 211), (259, o_aload 1 1), (260, o_ret 0)]])
abbrev cX20_init : ByteArray := prog_7_method_1_code
def yX20_init : MethodName := ⟨RX20, "<init>", "(IZ)V"⟩
def I279 : Mi := ("TollRoad$Mark", (cX20_init, (3, ([], ((Option.none : Option Jvm.ClassFile.FieldType), true)))))
def K279 : Mt := (([0, 1, 1], 3), lk2 [[(0, o_aload 0 1), (1, o_oi), (4, o_aload 0 1), (5, o_iload 1 1), (6, o_put 41 1), (9, o_aload 0 1), (10, o_iload 2 1), (11, o_put 42 5), (14, o_vret)]])
abbrev cX20_hashCode : ByteArray := prog_7_method_3_code
def yX20_hashCode : MethodName := ⟨RX20, "hashCode", "()I"⟩
def I280 : Mi := ("TollRoad$Mark", (cX20_hashCode, (1, ([], ((Option.some Jvm.ClassFile.FieldType.int), false)))))
def K280 : Mt := (([0], 1), lk2 [[(0, o_push 1 (.int 2)), (1, o_aload 0 1), (2, o_get 41), (5, o_iop (fun x y => x * y)), (6, o_aload 0 1), (7, o_get 42), (10, o_if (fun x => decide (x = 0)) 17), (13, o_push 1 (.int 1)), (14, o_goto 18), (17, o_push 1 (.int 0)), (18, o_iop (fun x y => x + y)), (19, o_ret 1)]])
abbrev cX20_equals : ByteArray := prog_7_method_2_code
def yX20_equals : MethodName := ⟨RX20, "equals", "(Ljava/lang/Object;)Z"⟩
def I281 : Mi := ("TollRoad$Mark", (cX20_equals, (2, ([], ((Option.some Jvm.ClassFile.FieldType.boolean), false)))))
def K281 : Mt := (([0, 0], 2), lk2 [[(0, o_aload 1 1), (1, o_inst [8] []), (4, o_if (fun x => decide (x = 0)) 39), (7, o_aload 1 1), (8, o_cast [8]), (11, o_get 41), (14, o_aload 0 1), (15, o_get 41), (18, o_icmp (fun x y => decide (¬ x = y)) 39), (21, o_aload 1 1), (22, o_cast [8]), (25, o_get 42), (28, o_aload 0 1), (29, o_get 42), (32, o_icmp (fun x y => decide (¬ x = y)) 39), (35, o_push 1 (.int 1)), (36, o_goto 40), (39, o_push 1 (.int 0)), (40, o_ret 5)]])
abbrev cX3_init : ByteArray := prog_8_method_1_code
def yX3_init : MethodName := ⟨RX3, "<init>", "()V"⟩
def I282 : Mi := ("TollRoad$Network", (cX3_init, (1, ([], ((Option.none : Option Jvm.ClassFile.FieldType), true)))))
def K282 : Mt := (([0], 1), lk2 [[(0, o_aload 0 1), (1, o_oi), (4, o_aload 0 1), (5, o_push 2 (.int 12)), (7, o_newa 0 2), (9, o_put 14 0), (12, o_aload 0 1), (13, o_push 3 (.int 144)), (16, o_newa 6 3), (19, o_put 16 0), (22, o_vret)]])
abbrev cX3_addGantry : ByteArray := prog_8_method_5_code
def yX3_addGantry : MethodName := ⟨RX3, "addGantry", "(I)I"⟩
def I283 : Mi := ("TollRoad$Network", (cX3_addGantry, (2, ([], ((Option.some Jvm.ClassFile.FieldType.int), false)))))
def K283 : Mt := (([0, 1], 2), lk2 [[(0, o_aload 0 1), (1, o_get 14), (4, o_aload 0 1), (5, o_get 15), (8, o_iload 1 1), (9, o_wrI 0), (10, o_aload 0 1), (11, o_dup), (12, o_get 15), (15, o_push 1 (.int 1)), (16, o_iop (fun x y => x + y)), (17, o_put 15 1), (20, o_aload 0 1), (21, o_get 15), (24, o_push 1 (.int 1)), (25, o_iop (fun x y => x - y)), (26, o_ret 1)]])
abbrev cX3_road : ByteArray := prog_8_method_3_code
def yX3_road : MethodName := ⟨RX3, "road", "(II)LTollRoad$Road;"⟩
def I284 : Mi := ("TollRoad$Network", (cX3_road, (3, ([], ((Option.some (Jvm.ClassFile.FieldType.object "TollRoad$Road")), false)))))
def K284 : Mt := (([0, 1, 1], 3), lk2 [[(0, o_aload 0 1), (1, o_get 16), (4, o_push 2 (.int 12)), (6, o_iload 1 1), (7, o_iop (fun x y => x * y)), (8, o_iload 2 1), (9, o_iop (fun x y => x + y)), (10, o_rdQ), (11, o_ret 0)]])
abbrev cX3_add : ByteArray := prog_8_method_4_code
def yX3_add : MethodName := ⟨RX3, "add", "(IIII)I"⟩
def I285 : Mi := ("TollRoad$Network", (cX3_add, (5, ([], ((Option.some Jvm.ClassFile.FieldType.int), false)))))
def K285 : Mt := (([0, 1, 1, 1, 1], 5), lk2 [[(0, o_aload 0 1), (1, o_get 16), (4, o_push 2 (.int 12)), (6, o_iload 1 1), (7, o_iop (fun x y => x * y)), (8, o_iload 2 1), (9, o_iop (fun x y => x + y)), (10, o_new 11 3 dv11), (13, o_dup), (14, o_iload 2 1), (15, o_iload 3 1), (16, o_iload 4 2), (18, o_ci 418 3), (21, o_wrQ 6 [11]), (22, o_aload 0 1), (23, o_dup), (24, o_get 17), (27, o_push 1 (.int 1)), (28, o_iop (fun x y => x + y)), (29, o_put 17 1), (32, o_aload 0 1), (33, o_get 17), (36, o_push 1 (.int 1)), (37, o_iop (fun x y => x - y)), (38, o_ret 1)]])
abbrev cX3_copy : ByteArray := prog_8_method_2_code
def yX3_copy : MethodName := ⟨RX3, "copy", "()LTollRoad$Network;"⟩
def I286 : Mi := ("TollRoad$Network", (cX3_copy, (2, ([], ((Option.some (Jvm.ClassFile.FieldType.object "TollRoad$Network")), false)))))
def K286 : Mt := (([0], 2), lk2 [[(0, o_new 2 4 dv2), (3, o_dup), (4, o_ci 282 0), (7, o_astore 1 1), (8, o_aload 1 1), (9, o_aload 0 1), (10, o_get 14), (13, o_cln), (16, o_casta 0), (19, o_put 14 0), (22, o_aload 1 1), (23, o_aload 0 1), (24, o_get 15), (27, o_put 15 1), (30, o_aload 1 1), (31, o_aload 0 1), (32, o_get 16), (35, o_alen), (36, o_newa 6 3), (39, o_put 16 0), (42, o_aload 0 1), (43, o_get 16), (46, o_push 1 (.int 0)), (47, o_aload 1 1), (48, o_get 16), (51, o_push 1 (.int 0)), (52, o_aload 0 1), (53, o_get 16), (56, o_alen), (57, o_cpQ 6 [11]), (60, o_aload 1 1), (61, o_aload 0 1), (62, o_get 17)],
  [(65, o_put 17 1), (68, o_aload 1 1), (69, o_ret 0)]])
abbrev cX4_init : ByteArray := prog_21_method_1_code
def yX4_init : MethodName := ⟨RX4, "<init>", "()V"⟩
def I287 : Mi := ("TollRoadModel", (cX4_init, (1, ([], ((Option.none : Option Jvm.ClassFile.FieldType), true)))))
def K287 : Mt := (([0], 1), lk2 [[(0, o_aload 0 1), (1, o_oi), (4, o_aload 0 1), (5, o_push 3 (.int 3100)), (8, o_newa 0 2), (10, o_put 148 0), (13, o_aload 0 1), (14, o_push 3 (.int 3100)), (17, o_newa 0 2), (19, o_put 149 0), (22, o_aload 0 1), (23, o_push 3 (.int 6200)), (26, o_newa 0 2), (28, o_put 150 0), (31, o_aload 0 1), (32, o_push 1 (.int 2)), (33, o_newa 2 2), (35, o_put 151 0), (38, o_aload 0 1), (39, o_push 2 (.int 8)), (41, o_newa 0 2), (43, o_dup), (44, o_push 1 (.int 0)), (45, o_push 2 (.int 120)), (47, o_wrI 0), (48, o_dup), (49, o_push 1 (.int 1)), (50, o_push 1 (.int 5)), (51, o_wrI 0), (52, o_dup), (53, o_push 1 (.int 2)), (54, o_push 1 (.int 2)), (55, o_wrI 0), (56, o_dup), (57, o_push 1 (.int 3)), (58, o_push 2 (.int 80)), (60, o_wrI 0), (61, o_dup), (62, o_push 1 (.int 4)), (63, o_push 2 (.int 70))],
  [(65, o_wrI 0), (66, o_dup), (67, o_push 1 (.int 5)), (68, o_push 2 (.int 90)), (70, o_wrI 0), (71, o_dup), (72, o_push 2 (.int 6)), (74, o_push 2 (.int 25)), (76, o_wrI 0), (77, o_dup), (78, o_push 2 (.int 7)), (80, o_push 3 (.int 150)), (83, o_wrI 0), (84, o_put 152 0), (87, o_aload 0 1), (88, o_push 2 (.int 8)), (90, o_newa 0 2), (92, o_dup), (93, o_push 1 (.int 0)), (94, o_push 1 (.int 1)), (95, o_wrI 0), (96, o_dup), (97, o_push 1 (.int 1)), (98, o_push 1 (.int 0)), (99, o_wrI 0), (100, o_dup), (101, o_push 1 (.int 2)), (102, o_push 1 (.int 0)), (103, o_wrI 0), (104, o_dup), (105, o_push 1 (.int 3)), (106, o_push 2 (.int 50)), (108, o_wrI 0), (109, o_dup), (110, o_push 1 (.int 4)), (111, o_push 1 (.int 0)), (112, o_wrI 0), (113, o_dup), (114, o_push 1 (.int 5)), (115, o_push 1 (.int 0)), (116, o_wrI 0), (117, o_dup), (118, o_push 2 (.int 6)), (120, o_push 1 (.int 0)), (121, o_wrI 0), (122, o_dup), (123, o_push 2 (.int 7)), (125, o_push 1 (.int 0)), (126, o_wrI 0), (127, o_put 153 0)],
  [(130, o_aload 0 1), (131, o_push 2 (.int 8)), (133, o_newa 0 2), (135, o_dup), (136, o_push 1 (.int 0)), (137, o_push 3 (.int 600)), (140, o_wrI 0), (141, o_dup), (142, o_push 1 (.int 1)), (143, o_push 2 (.int 60)), (145, o_wrI 0), (146, o_dup), (147, o_push 1 (.int 2)), (148, o_push 2 (.int 20)), (150, o_wrI 0), (151, o_dup), (152, o_push 1 (.int 3)), (153, o_push 2 (.int 100)), (155, o_wrI 0), (156, o_dup), (157, o_push 1 (.int 4)), (158, o_push 2 (.int 100)), (160, o_wrI 0), (161, o_dup), (162, o_push 1 (.int 5)), (163, o_push 2 (.int 100)), (165, o_wrI 0), (166, o_dup), (167, o_push 2 (.int 6)), (169, o_push 3 (.int 999)), (172, o_wrI 0), (173, o_dup), (174, o_push 2 (.int 7)), (176, o_push 3 (.int 999)), (179, o_wrI 0), (180, o_put 154 0), (183, o_aload 0 1), (184, o_push 3 (.int 700)), (187, o_newa 0 2), (189, o_put 156 0)],
  [(192, o_aload 0 1), (193, o_push 1 (.int (-1))), (194, o_put 164 1), (197, o_aload 0 1), (198, o_push 2 (.int 7)), (200, o_newa 0 2), (202, o_put 166 0), (205, o_aload 0 1), (206, o_push 2 (.int 7)), (208, o_newa 0 2), (210, o_put 167 0), (213, o_aload 0 1), (214, o_push 2 (.int 7)), (216, o_newa 0 2), (218, o_put 168 0), (221, o_aload 0 1), (222, o_push 2 (.int 7)), (224, o_newa 0 2), (226, o_put 169 0), (229, o_aload 0 1), (230, o_push 2 (.int 7)), (232, o_newa 0 2), (234, o_put 170 0), (237, o_aload 0 1), (238, o_push 2 (.int 7)), (240, o_newa 0 2), (242, o_put 171 0), (245, o_aload 0 1), (246, o_push 2 (.int 120)), (248, o_newa 0 2), (250, o_put 177 0), (253, o_aload 0 1), (254, o_push 2 (.int 120))],
  [(256, o_newa 0 2), (258, o_put 178 0), (261, o_aload 0 1), (262, o_push 2 (.int 121)), (264, o_newa 0 2), (266, o_put 179 0), (269, o_aload 0 1), (270, o_push 2 (.int 120)), (272, o_newa 0 2), (274, o_put 180 0), (277, o_aload 0 1), (278, o_push 2 (.int 120)), (280, o_newa 0 2), (282, o_put 181 0), (285, o_aload 0 1), (286, o_push 3 (.int 900)), (289, o_newa 0 2), (291, o_put 182 0), (294, o_aload 0 1), (295, o_push 3 (.int 900)), (298, o_newa 2 2), (300, o_put 183 0), (303, o_aload 0 1), (304, o_cv [(30, 288)] 0 3 true none), (307, o_vret)]])
abbrev cX4_clear : ByteArray := prog_21_method_5_code
def yX4_clear : MethodName := ⟨RX4, "clear", "()V"⟩
def I288 : Mi := ("TollRoadModel", (cX4_clear, (2, ([], ((Option.none : Option Jvm.ClassFile.FieldType), false)))))
def K288 : Mt := (([0], 2), lk2 [[(0, o_push 1 (.int 0)), (1, o_istore 1 1), (2, o_iload 1 1), (3, o_push 3 (.int 3100)), (6, o_icmp (fun x y => decide (y ≤ x)) 22), (9, o_aload 0 1), (10, o_get 148), (13, o_iload 1 1), (14, o_push 1 (.int 0)), (15, o_wrI 0), (16, o_iinc 1 1), (19, o_goto 2), (22, o_push 1 (.int 0)), (23, o_istore 1 1), (24, o_iload 1 1), (25, o_push 2 (.int 8)), (27, o_icmp (fun x y => decide (y ≤ x)) 50), (30, o_aload 0 1), (31, o_get 148), (34, o_push 1 (.int 0)), (35, o_iload 1 1), (36, o_iop (fun x y => x + y)), (37, o_aload 0 1), (38, o_get 152), (41, o_iload 1 1), (42, o_rdI 0), (43, o_wrI 0), (44, o_iinc 1 1), (47, o_goto 24), (50, o_vret)]])
abbrev cX4_thrown : ByteArray := prog_21_method_2_code
def yX4_thrown : MethodName := ⟨RX4, "thrown", "()I"⟩
def I289 : Mi := ("TollRoadModel", (cX4_thrown, (1, ([], ((Option.some Jvm.ClassFile.FieldType.int), false)))))
def K289 : Mt := (([0], 1), lk2 [[(0, o_aload 0 1), (1, o_get 155), (4, o_ret 1)]])
abbrev cX4_appendText : ByteArray := prog_21_method_8_code
def yX4_appendText : MethodName := ⟨RX4, "appendText", "(I)I"⟩
def I290 : Mi := ("TollRoadModel", (cX4_appendText, (3, ([], ((Option.some Jvm.ClassFile.FieldType.int), false)))))
def K290 : Mt := (([0, 1], 3), lk2 [[(0, o_aload 0 1), (1, o_push 1 (.int 0)), (2, o_put 155 1), (5, o_aload 0 1), (6, o_get 157), (9, o_push 1 (.int 4)), (10, o_iop (fun x y => x + y)), (11, o_push 3 (.int 700)), (14, o_icmp (fun x y => decide (x ≤ y)) 23), (17, o_aload 0 1), (18, o_push 1 (.int 1)), (19, o_cv [(30, 291)] 1 3 false none), (22, o_ret 1), (23, o_push 2 (.int 24)), (25, o_istore 2 1), (26, o_iload 2 1), (27, o_if (fun x => decide (x < 0)) 62), (30, o_aload 0 1), (31, o_get 156), (34, o_aload 0 1), (35, o_get 157), (38, o_iload 1 1), (39, o_iload 2 1), (40, o_iop (fun x y => x >>> (y &&& 31))), (41, o_push 3 (.int 255)), (44, o_iop (fun x y => x &&& y)), (45, o_wrI 0), (46, o_aload 0 1), (47, o_dup), (48, o_get 157), (51, o_push 1 (.int 1)), (52, o_iop (fun x y => x + y)), (53, o_put 157 1), (56, o_iinc 2 (-8)), (59, o_goto 26), (62, o_aload 0 1), (63, o_get 157)],
  [(66, o_ret 1)]])
abbrev cX4_fail : ByteArray := prog_21_method_3_code
def yX4_fail : MethodName := ⟨RX4, "fail", "(I)I"⟩
def I291 : Mi := ("TollRoadModel", (cX4_fail, (2, ([], ((Option.some Jvm.ClassFile.FieldType.int), false)))))
def K291 : Mt := (([0, 1], 2), lk2 [[(0, o_aload 0 1), (1, o_iload 1 1), (2, o_put 155 1), (5, o_push 1 (.int 0)), (6, o_ret 1)]])
abbrev cX4_truncateText : ByteArray := prog_21_method_9_code
def yX4_truncateText : MethodName := ⟨RX4, "truncateText", "(I)I"⟩
def I292 : Mi := ("TollRoadModel", (cX4_truncateText, (2, ([], ((Option.some Jvm.ClassFile.FieldType.int), false)))))
def K292 : Mt := (([0, 1], 2), lk2 [[(0, o_aload 0 1), (1, o_push 1 (.int 0)), (2, o_put 155 1), (5, o_iload 1 1), (6, o_push 1 (.int 0)), (7, o_aload 0 1), (8, o_get 157), (11, o_cs 293 3 false none), (14, o_if (fun x => decide (¬ x = 0)) 23), (17, o_aload 0 1), (18, o_push 1 (.int 1)), (19, o_cv [(30, 291)] 1 3 false none), (22, o_ret 1), (23, o_aload 0 1), (24, o_iload 1 1), (25, o_put 157 1), (28, o_aload 0 1), (29, o_get 157), (32, o_ret 1)]])
abbrev cX4_isBetween : ByteArray := prog_21_method_4_code
def yX4_isBetween : MethodName := ⟨RX4, "isBetween", "(III)Z"⟩
def I293 : Mi := ("TollRoadModel", (cX4_isBetween, (3, ([], ((Option.some Jvm.ClassFile.FieldType.boolean), false)))))
def K293 : Mt := (([1, 1, 1], 3), lk2 [[(0, o_iload 0 1), (1, o_iload 1 1), (2, o_icmp (fun x y => decide (x < y)) 14), (5, o_iload 0 1), (6, o_iload 2 1), (7, o_icmp (fun x y => decide (y < x)) 14), (10, o_push 1 (.int 1)), (11, o_goto 15), (14, o_push 1 (.int 0)), (15, o_ret 5)]])
abbrev cX4_load : ByteArray := prog_21_method_27_code
def yX4_load : MethodName := ⟨RX4, "load", "()I"⟩
def I294 : Mi := ("TollRoadModel", (cX4_load, (2, ([], ((Option.some Jvm.ClassFile.FieldType.int), false)))))
def K294 : Mt := (([0], 2), lk2 [[(0, o_aload 0 1), (1, o_push 1 (.int 0)), (2, o_put 155 1), (5, o_aload 0 1), (6, o_get 148), (9, o_push 1 (.int 0)), (10, o_aload 0 1), (11, o_get 149), (14, o_push 1 (.int 0)), (15, o_cs 295 4 true none), (18, o_aload 0 1), (19, o_cv [(30, 288)] 0 3 true none), (22, o_aload 0 1), (23, o_push 1 (.int 0)), (24, o_put 163 1), (27, o_aload 0 1), (28, o_push 1 (.int (-1))), (29, o_put 164 1), (32, o_aload 0 1), (33, o_push 1 (.int 0)), (34, o_put 158 1), (37, o_aload 0 1), (38, o_cv [(30, 296)] 0 3 true none), (41, o_push 1 (.int 0)), (42, o_istore 1 1), (43, o_aload 0 1), (44, o_cv [(30, 300)] 0 3 false none), (47, o_if (fun x => decide (x = 0)) 67), (50, o_aload 0 1), (51, o_get 160), (54, o_if (fun x => decide (x = 0)) 67), (57, o_aload 0 1), (58, o_cv [(30, 301)] 0 3 true none), (61, o_iinc 1 1)],
  [(64, o_goto 43), (67, o_aload 0 1), (68, o_push 1 (.int 0)), (69, o_put 157 1), (72, o_aload 0 1), (73, o_cv [(30, 300)] 0 3 false none), (76, o_if (fun x => decide (¬ x = 0)) 94), (79, o_aload 0 1), (80, o_get 149), (83, o_push 1 (.int 0)), (84, o_aload 0 1), (85, o_get 148), (88, o_push 1 (.int 0)), (89, o_cs 295 4 true none), (92, o_push 1 (.int (-1))), (93, o_ret 1), (94, o_iload 1 1), (95, o_ret 1)]])
abbrev cX4_copy : ByteArray := prog_21_method_6_code
def yX4_copy : MethodName := ⟨RX4, "copy", "([II[II)V"⟩
def I295 : Mi := ("TollRoadModel", (cX4_copy, (5, ([], ((Option.none : Option Jvm.ClassFile.FieldType), false)))))
def K295 : Mt := (([0, 1, 0, 1], 5), lk2 [[(0, o_push 1 (.int 0)), (1, o_istore 4 2), (3, o_iload 4 2), (5, o_push 3 (.int 3100)), (8, o_icmp (fun x y => decide (y ≤ x)) 29), (11, o_aload 2 1), (12, o_iload 3 1), (13, o_iload 4 2), (15, o_iop (fun x y => x + y)), (16, o_aload 0 1), (17, o_iload 1 1), (18, o_iload 4 2), (20, o_iop (fun x y => x + y)), (21, o_rdI 0), (22, o_wrI 0), (23, o_iinc 4 1), (26, o_goto 3), (29, o_vret)]])
abbrev cX4_nextToken : ByteArray := prog_21_method_13_code
def yX4_nextToken : MethodName := ⟨RX4, "nextToken", "()V"⟩
def I296 : Mi := ("TollRoadModel", (cX4_nextToken, (2, ([], ((Option.none : Option Jvm.ClassFile.FieldType), false)))))
def K296 : Mt := (([0], 2), lk2 [[(0, o_aload 0 1), (1, o_aload 0 1), (2, o_get 158), (5, o_cv [(30, 297)] 1 3 false none), (8, o_push 2 (.int 32)), (10, o_icmp (fun x y => decide (x = y)) 26), (13, o_aload 0 1), (14, o_aload 0 1), (15, o_get 158), (18, o_cv [(30, 297)] 1 3 false none), (21, o_push 2 (.int 10)), (23, o_icmp (fun x y => decide (¬ x = y)) 39), (26, o_aload 0 1), (27, o_dup), (28, o_get 158), (31, o_push 1 (.int 1)), (32, o_iop (fun x y => x + y)), (33, o_put 158 1), (36, o_goto 0), (39, o_aload 0 1), (40, o_aload 0 1), (41, o_get 158), (44, o_put 159 1), (47, o_aload 0 1), (48, o_push 1 (.int 0)), (49, o_put 161 1), (52, o_aload 0 1), (53, o_push 1 (.long 0)), (54, o_put 165 2), (57, o_aload 0 1), (58, o_push 1 (.int 0)), (59, o_put 162 1), (62, o_aload 0 1), (63, o_aload 0 1)],
  [(64, o_get 158), (67, o_cv [(30, 297)] 1 3 false none), (70, o_istore 1 1), (71, o_iload 1 1), (72, o_push 1 (.int (-1))), (73, o_icmp (fun x y => decide (¬ x = y)) 84), (76, o_aload 0 1), (77, o_push 1 (.int 0)), (78, o_put 160 1), (81, o_goto 278), (84, o_iload 1 1), (85, o_cs 298 1 false none), (88, o_if (fun x => decide (x = 0)) 175), (91, o_aload 0 1), (92, o_push 1 (.int 2)), (93, o_put 160 1), (96, o_aload 0 1), (97, o_aload 0 1), (98, o_get 158), (101, o_cv [(30, 297)] 1 3 false none), (104, o_cs 298 1 false none), (107, o_if (fun x => decide (x = 0)) 278), (110, o_aload 0 1), (111, o_aload 0 1), (112, o_get 161), (115, o_push 2 (.int 11)), (117, o_icmp (fun x y => decide (y ≤ x)) 145), (120, o_push 3 (.long 27)), (123, o_aload 0 1), (124, o_get 165), (127, o_lop (fun x y => x * y))],
  [(128, o_aload 0 1), (129, o_aload 0 1), (130, o_get 158), (133, o_cv [(30, 297)] 1 3 false none), (136, o_i2l), (137, o_lop (fun x y => x + y)), (138, o_push 3 (.long 96)), (141, o_lop (fun x y => x - y)), (142, o_goto 149), (145, o_aload 0 1), (146, o_get 165), (149, o_put 165 2), (152, o_aload 0 1), (153, o_dup), (154, o_get 161), (157, o_push 1 (.int 1)), (158, o_iop (fun x y => x + y)), (159, o_put 161 1), (162, o_aload 0 1), (163, o_dup), (164, o_get 158), (167, o_push 1 (.int 1)), (168, o_iop (fun x y => x + y)), (169, o_put 158 1), (172, o_goto 96), (175, o_iload 1 1), (176, o_cs 299 1 false none), (179, o_if (fun x => decide (x = 0)) 253), (182, o_aload 0 1), (183, o_push 1 (.int 3)), (184, o_put 160 1), (187, o_aload 0 1), (188, o_aload 0 1), (189, o_get 158)],
  [(192, o_cv [(30, 297)] 1 3 false none), (195, o_cs 299 1 false none), (198, o_if (fun x => decide (x = 0)) 278), (201, o_aload 0 1), (202, o_aload 0 1), (203, o_get 162), (206, o_push 2 (.int 10000000)), (208, o_icmp (fun x y => decide (x ≤ y)) 218), (211, o_aload 0 1), (212, o_get 162), (215, o_goto 237), (218, o_push 2 (.int 10)), (220, o_aload 0 1), (221, o_get 162), (224, o_iop (fun x y => x * y)), (225, o_aload 0 1), (226, o_aload 0 1), (227, o_get 158), (230, o_cv [(30, 297)] 1 3 false none), (233, o_iop (fun x y => x + y)), (234, o_push 2 (.int 48)), (236, o_iop (fun x y => x - y)), (237, o_put 162 1), (240, o_aload 0 1), (241, o_dup), (242, o_get 158), (245, o_push 1 (.int 1)), (246, o_iop (fun x y => x + y)), (247, o_put 158 1), (250, o_goto 187), (253, o_aload 0 1), (254, o_iload 1 1), (255, o_push 2 (.int 59))],
  [(257, o_icmp (fun x y => decide (¬ x = y)) 264), (260, o_push 1 (.int 4)), (261, o_goto 265), (264, o_push 1 (.int 1)), (265, o_put 160 1), (268, o_aload 0 1), (269, o_dup), (270, o_get 158), (273, o_push 1 (.int 1)), (274, o_iop (fun x y => x + y)), (275, o_put 158 1), (278, o_vret)]])
abbrev cX4_byteAt : ByteArray := prog_21_method_10_code
def yX4_byteAt : MethodName := ⟨RX4, "byteAt", "(I)I"⟩
def I297 : Mi := ("TollRoadModel", (cX4_byteAt, (2, ([], ((Option.some Jvm.ClassFile.FieldType.int), false)))))
def K297 : Mt := (([0, 1], 2), lk2 [[(0, o_iload 1 1), (1, o_aload 0 1), (2, o_get 157), (5, o_icmp (fun x y => decide (y ≤ x)) 17), (8, o_aload 0 1), (9, o_get 156), (12, o_iload 1 1), (13, o_rdI 0), (14, o_goto 18), (17, o_push 1 (.int (-1))), (18, o_ret 1)]])
abbrev cX4_isLetter : ByteArray := prog_21_method_11_code
def yX4_isLetter : MethodName := ⟨RX4, "isLetter", "(I)Z"⟩
def I298 : Mi := ("TollRoadModel", (cX4_isLetter, (1, ([], ((Option.some Jvm.ClassFile.FieldType.boolean), false)))))
def K298 : Mt := (([1], 1), lk2 [[(0, o_iload 0 1), (1, o_push 2 (.int 97)), (3, o_push 2 (.int 122)), (5, o_cs 293 3 false none), (8, o_ret 5)]])
abbrev cX4_isDigit : ByteArray := prog_21_method_12_code
def yX4_isDigit : MethodName := ⟨RX4, "isDigit", "(I)Z"⟩
def I299 : Mi := ("TollRoadModel", (cX4_isDigit, (1, ([], ((Option.some Jvm.ClassFile.FieldType.boolean), false)))))
def K299 : Mt := (([1], 1), lk2 [[(0, o_iload 0 1), (1, o_push 2 (.int 48)), (3, o_push 2 (.int 57)), (5, o_cs 293 3 false none), (8, o_ret 5)]])
abbrev cX4_isFine : ByteArray := prog_21_method_16_code
def yX4_isFine : MethodName := ⟨RX4, "isFine", "()Z"⟩
def I300 : Mi := ("TollRoadModel", (cX4_isFine, (1, ([], ((Option.some Jvm.ClassFile.FieldType.boolean), false)))))
def K300 : Mt := (([0], 1), lk2 [[(0, o_aload 0 1), (1, o_get 163), (4, o_if (fun x => decide (¬ x = 0)) 11), (7, o_push 1 (.int 1)), (8, o_goto 12), (11, o_push 1 (.int 0)), (12, o_ret 5)]])
abbrev cX4_parseStatement : ByteArray := prog_21_method_26_code
def yX4_parseStatement : MethodName := ⟨RX4, "parseStatement", "()V"⟩
def I301 : Mi := ("TollRoadModel", (cX4_parseStatement, (1, ([], ((Option.none : Option Jvm.ClassFile.FieldType), false)))))
def K301 : Mt := (([0], 1), lk2 [[(0, o_aload 0 1), (1, o_pushA 2 2), (3, o_cv [(30, 302)] 1 3 false none), (6, o_if (fun x => decide (x = 0)) 16), (9, o_aload 0 1), (10, o_cv [(30, 303)] 0 3 true none), (13, o_goto 68), (16, o_aload 0 1), (17, o_pushA 2 3), (19, o_cv [(30, 302)] 1 3 false none), (22, o_if (fun x => decide (x = 0)) 32), (25, o_aload 0 1), (26, o_cv [(30, 309)] 0 3 true none), (29, o_goto 68), (32, o_aload 0 1), (33, o_pushA 2 4), (35, o_cv [(30, 302)] 1 3 false none), (38, o_if (fun x => decide (x = 0)) 48), (41, o_aload 0 1), (42, o_cv [(30, 312)] 0 3 true none), (45, o_goto 68), (48, o_aload 0 1), (49, o_pushA 2 5), (51, o_cv [(30, 302)] 1 3 false none), (54, o_if (fun x => decide (x = 0)) 64), (57, o_aload 0 1), (58, o_cv [(30, 315)] 0 3 true none), (61, o_goto 68)],
  [(64, o_aload 0 1), (65, o_cv [(30, 318)] 0 3 true none), (68, o_aload 0 1), (69, o_aload 0 1), (70, o_get 160), (73, o_push 1 (.int 4)), (74, o_icmp (fun x y => decide (¬ x = y)) 81), (77, o_push 1 (.int 1)), (78, o_goto 82), (81, o_push 1 (.int 0)), (82, o_push 1 (.int 1)), (83, o_cv [(30, 304)] 2 3 true none), (86, o_aload 0 1), (87, o_cv [(30, 305)] 0 3 true none), (90, o_vret)]])
abbrev cX4_isWord : ByteArray := prog_21_method_14_code
def yX4_isWord : MethodName := ⟨RX4, "isWord", "(Ljava/lang/String;)Z"⟩
def I302 : Mi := ("TollRoadModel", (cX4_isWord, (5, ([], ((Option.some Jvm.ClassFile.FieldType.boolean), false)))))
def K302 : Mt := (([0, 0], 5), lk2 [[(0, o_aload 0 1), (1, o_get 160), (4, o_push 1 (.int 2)), (5, o_icmp (fun x y => decide (¬ x = y)) 19), (8, o_aload 0 1), (9, o_get 161), (12, o_aload 1 1), (13, o_cvs [(5, 115)] 0 3 false), (16, o_icmp (fun x y => decide (x = y)) 21), (19, o_push 1 (.int 0)), (20, o_ret 5), (21, o_push 1 (.long 0)), (22, o_lstore 2 1), (23, o_push 1 (.int 0)), (24, o_istore 4 2), (26, o_iload 4 2), (28, o_aload 1 1), (29, o_cvs [(5, 115)] 0 3 false), (32, o_icmp (fun x y => decide (y ≤ x)) 59), (35, o_push 3 (.long 27)), (38, o_lload 2 1), (39, o_lop (fun x y => x * y)), (40, o_aload 1 1), (41, o_iload 4 2), (43, o_cvs [(5, 123)] 1 3 false), (46, o_i2l), (47, o_lop (fun x y => x + y)), (48, o_push 3 (.long 96)), (51, o_lop (fun x y => x - y)), (52, o_lstore 2 1), (53, o_iinc 4 1), (56, o_goto 26), (59, o_aload 0 1), (60, o_get 165), (63, o_lload 2 1)],
  [(64, o_lcmp), (65, o_if (fun x => decide (¬ x = 0)) 72), (68, o_push 1 (.int 1)), (69, o_goto 73), (72, o_push 1 (.int 0)), (73, o_ret 5)]])
abbrev cX4_parseGantry : ByteArray := prog_21_method_21_code
def yX4_parseGantry : MethodName := ⟨RX4, "parseGantry", "()V"⟩
def I303 : Mi := ("TollRoadModel", (cX4_parseGantry, (3, ([], ((Option.none : Option Jvm.ClassFile.FieldType), false)))))
def K303 : Mt := (([0], 3), lk2 [[(0, o_aload 0 1), (1, o_aload 0 1), (2, o_get 148), (5, o_push 2 (.int 8)), (7, o_rdI 0), (8, o_push 2 (.int 12)), (10, o_icmp (fun x y => decide (y ≤ x)) 17), (13, o_push 1 (.int 1)), (14, o_goto 18), (17, o_push 1 (.int 0)), (18, o_push 1 (.int 3)), (19, o_cv [(30, 304)] 2 3 true none), (22, o_aload 0 1), (23, o_cv [(30, 305)] 0 3 true none), (26, o_aload 0 1), (27, o_push 1 (.int 0)), (28, o_push 2 (.int 99)), (30, o_cv [(30, 306)] 2 3 false none), (33, o_istore 1 1), (34, o_aload 0 1), (35, o_cv [(30, 300)] 0 3 false none), (38, o_if (fun x => decide (x = 0)) 47), (41, o_aload 0 1), (42, o_iload 1 1), (43, o_cv [(30, 308)] 1 3 false none), (46, o_istore 2 1), (47, o_vret)]])
abbrev cX4_require : ByteArray := prog_21_method_15_code
def yX4_require : MethodName := ⟨RX4, "require", "(ZI)V"⟩
def I304 : Mi := ("TollRoadModel", (cX4_require, (3, ([], ((Option.none : Option Jvm.ClassFile.FieldType), false)))))
def K304 : Mt := (([0, 1, 1], 3), lk2 [[(0, o_iload 1 1), (1, o_if (fun x => decide (¬ x = 0)) 24), (4, o_aload 0 1), (5, o_get 163), (8, o_if (fun x => decide (¬ x = 0)) 24), (11, o_aload 0 1), (12, o_iload 2 1), (13, o_put 163 1), (16, o_aload 0 1), (17, o_aload 0 1), (18, o_get 159), (21, o_put 164 1), (24, o_vret)]])
abbrev cX4_advance : ByteArray := prog_21_method_17_code
def yX4_advance : MethodName := ⟨RX4, "advance", "()V"⟩
def I305 : Mi := ("TollRoadModel", (cX4_advance, (1, ([], ((Option.none : Option Jvm.ClassFile.FieldType), false)))))
def K305 : Mt := (([0], 1), lk2 [[(0, o_aload 0 1), (1, o_cv [(30, 300)] 0 3 false none), (4, o_if (fun x => decide (x = 0)) 11), (7, o_aload 0 1), (8, o_cv [(30, 296)] 0 3 true none), (11, o_vret)]])
abbrev cX4_parseNumber : ByteArray := prog_21_method_20_code
def yX4_parseNumber : MethodName := ⟨RX4, "parseNumber", "(II)I"⟩
def I306 : Mi := ("TollRoadModel", (cX4_parseNumber, (4, ([], ((Option.some Jvm.ClassFile.FieldType.int), false)))))
def K306 : Mt := (([0, 1, 1], 4), lk2 [[(0, o_aload 0 1), (1, o_iload 1 1), (2, o_iload 2 1), (3, o_cv [(30, 307)] 2 3 true none), (6, o_aload 0 1), (7, o_get 162), (10, o_istore 3 1), (11, o_aload 0 1), (12, o_cv [(30, 305)] 0 3 true none), (15, o_iload 3 1), (16, o_ret 1)]])
abbrev cX4_look : ByteArray := prog_21_method_19_code
def yX4_look : MethodName := ⟨RX4, "look", "(II)V"⟩
def I307 : Mi := ("TollRoadModel", (cX4_look, (3, ([], ((Option.none : Option Jvm.ClassFile.FieldType), false)))))
def K307 : Mt := (([0, 1, 1], 3), lk2 [[(0, o_aload 0 1), (1, o_aload 0 1), (2, o_get 160), (5, o_push 1 (.int 3)), (6, o_icmp (fun x y => decide (¬ x = y)) 13), (9, o_push 1 (.int 1)), (10, o_goto 14), (13, o_push 1 (.int 0)), (14, o_push 1 (.int 1)), (15, o_cv [(30, 304)] 2 3 true none), (18, o_aload 0 1), (19, o_aload 0 1), (20, o_get 162), (23, o_iload 1 1), (24, o_iload 2 1), (25, o_cs 293 3 false none), (28, o_push 1 (.int 2)), (29, o_cv [(30, 304)] 2 3 true none), (32, o_vret)]])
abbrev cX4_appendGantry : ByteArray := prog_21_method_33_code
def yX4_appendGantry : MethodName := ⟨RX4, "appendGantry", "(I)I"⟩
def I308 : Mi := ("TollRoadModel", (cX4_appendGantry, (2, ([], ((Option.some Jvm.ClassFile.FieldType.int), false)))))
def K308 : Mt := (([0, 1], 2), lk2 [[(0, o_aload 0 1), (1, o_get 148), (4, o_push 2 (.int 15)), (6, o_aload 0 1), (7, o_get 148), (10, o_push 2 (.int 8)), (12, o_rdI 0), (13, o_iop (fun x y => x + y)), (14, o_iload 1 1), (15, o_wrI 0), (16, o_aload 0 1), (17, o_get 148), (20, o_push 2 (.int 8)), (22, o_dup2), (23, o_rdI 0), (24, o_push 1 (.int 1)), (25, o_iop (fun x y => x + y)), (26, o_wrI 0), (27, o_aload 0 1), (28, o_get 148), (31, o_push 2 (.int 8)), (33, o_rdI 0), (34, o_push 1 (.int 1)), (35, o_iop (fun x y => x - y)), (36, o_ret 1)]])
abbrev cX4_parseRoad : ByteArray := prog_21_method_22_code
def yX4_parseRoad : MethodName := ⟨RX4, "parseRoad", "()V"⟩
def I309 : Mi := ("TollRoadModel", (cX4_parseRoad, (6, ([], ((Option.none : Option Jvm.ClassFile.FieldType), false)))))
def K309 : Mt := (([0], 6), lk2 [[(0, o_aload 0 1), (1, o_aload 0 1), (2, o_get 148), (5, o_push 2 (.int 9)), (7, o_rdI 0), (8, o_push 2 (.int 40)), (10, o_icmp (fun x y => decide (y ≤ x)) 17), (13, o_push 1 (.int 1)), (14, o_goto 18), (17, o_push 1 (.int 0)), (18, o_push 1 (.int 3)), (19, o_cv [(30, 304)] 2 3 true none), (22, o_aload 0 1), (23, o_cv [(30, 305)] 0 3 true none), (26, o_aload 0 1), (27, o_push 1 (.int 0)), (28, o_aload 0 1), (29, o_get 148), (32, o_push 2 (.int 8)), (34, o_rdI 0), (35, o_push 1 (.int 1)), (36, o_iop (fun x y => x - y)), (37, o_cv [(30, 306)] 2 3 false none), (40, o_istore 1 1), (41, o_aload 0 1), (42, o_push 1 (.int 0)), (43, o_aload 0 1), (44, o_get 148), (47, o_push 2 (.int 8)), (49, o_rdI 0), (50, o_push 1 (.int 1)), (51, o_iop (fun x y => x - y)), (52, o_cv [(30, 307)] 2 3 true none), (55, o_aload 0 1), (56, o_get 162), (59, o_istore 2 1), (60, o_aload 0 1), (61, o_iload 2 1), (62, o_iload 1 1), (63, o_icmp (fun x y => decide (x = y)) 80)],
  [(66, o_aload 0 1), (67, o_iload 1 1), (68, o_iload 2 1), (69, o_cv [(30, 310)] 2 3 false none), (72, o_push 1 (.int (-1))), (73, o_icmp (fun x y => decide (¬ x = y)) 80), (76, o_push 1 (.int 1)), (77, o_goto 81), (80, o_push 1 (.int 0)), (81, o_push 1 (.int 4)), (82, o_cv [(30, 304)] 2 3 true none), (85, o_aload 0 1), (86, o_cv [(30, 305)] 0 3 true none), (89, o_aload 0 1), (90, o_push 1 (.int 1)), (91, o_push 2 (.int 60)), (93, o_cv [(30, 306)] 2 3 false none), (96, o_istore 3 1), (97, o_aload 0 1), (98, o_push 1 (.int 0)), (99, o_push 3 (.int 999)), (102, o_cv [(30, 306)] 2 3 false none), (105, o_istore 4 2), (107, o_aload 0 1), (108, o_cv [(30, 300)] 0 3 false none), (111, o_if (fun x => decide (x = 0)) 125), (114, o_aload 0 1), (115, o_iload 1 1), (116, o_iload 2 1), (117, o_iload 3 1), (118, o_iload 4 2), (120, o_cv [(30, 311)] 4 3 false none), (123, o_istore 5 2), (125, o_vret)]])
abbrev cX4_roadFrom : ByteArray := prog_21_method_35_code
def yX4_roadFrom : MethodName := ⟨RX4, "roadFrom", "(II)I"⟩
def I310 : Mi := ("TollRoadModel", (cX4_roadFrom, (4, ([], ((Option.some Jvm.ClassFile.FieldType.int), false)))))
def K310 : Mt := (([0, 1, 1], 4), lk2 [[(0, o_push 1 (.int 0)), (1, o_istore 3 1), (2, o_iload 3 1), (3, o_aload 0 1), (4, o_get 148), (7, o_push 2 (.int 9)), (9, o_rdI 0), (10, o_icmp (fun x y => decide (y ≤ x)) 53), (13, o_aload 0 1), (14, o_get 148), (17, o_push 2 (.int 27)), (19, o_push 1 (.int 4)), (20, o_iload 3 1), (21, o_iop (fun x y => x * y)), (22, o_iop (fun x y => x + y)), (23, o_rdI 0), (24, o_iload 1 1), (25, o_icmp (fun x y => decide (¬ x = y)) 47), (28, o_aload 0 1), (29, o_get 148), (32, o_push 2 (.int 27)), (34, o_push 1 (.int 4)), (35, o_iload 3 1), (36, o_iop (fun x y => x * y)), (37, o_iop (fun x y => x + y)), (38, o_push 1 (.int 1)), (39, o_iop (fun x y => x + y)), (40, o_rdI 0), (41, o_iload 2 1), (42, o_icmp (fun x y => decide (¬ x = y)) 47), (45, o_iload 3 1), (46, o_ret 1), (47, o_iinc 3 1), (50, o_goto 2), (53, o_push 1 (.int (-1))), (54, o_ret 1)]])
abbrev cX4_appendRoad : ByteArray := prog_21_method_36_code
def yX4_appendRoad : MethodName := ⟨RX4, "appendRoad", "(IIII)I"⟩
def I311 : Mi := ("TollRoadModel", (cX4_appendRoad, (6, ([], ((Option.some Jvm.ClassFile.FieldType.int), false)))))
def K311 : Mt := (([0, 1, 1, 1, 1], 6), lk2 [[(0, o_push 2 (.int 27)), (2, o_push 1 (.int 4)), (3, o_aload 0 1), (4, o_get 148), (7, o_push 2 (.int 9)), (9, o_rdI 0), (10, o_iop (fun x y => x * y)), (11, o_iop (fun x y => x + y)), (12, o_istore 5 2), (14, o_aload 0 1), (15, o_get 148), (18, o_iload 5 2), (20, o_iload 1 1), (21, o_wrI 0), (22, o_aload 0 1), (23, o_get 148), (26, o_iload 5 2), (28, o_push 1 (.int 1)), (29, o_iop (fun x y => x + y)), (30, o_iload 2 1), (31, o_wrI 0), (32, o_aload 0 1), (33, o_get 148), (36, o_iload 5 2), (38, o_push 1 (.int 2)), (39, o_iop (fun x y => x + y)), (40, o_iload 3 1), (41, o_wrI 0), (42, o_aload 0 1), (43, o_get 148), (46, o_iload 5 2), (48, o_push 1 (.int 3)), (49, o_iop (fun x y => x + y)), (50, o_iload 4 2), (52, o_wrI 0), (53, o_aload 0 1), (54, o_get 148), (57, o_push 2 (.int 9)), (59, o_dup2), (60, o_rdI 0), (61, o_push 1 (.int 1)), (62, o_iop (fun x y => x + y)), (63, o_wrI 0)],
  [(64, o_aload 0 1), (65, o_get 148), (68, o_push 2 (.int 9)), (70, o_rdI 0), (71, o_push 1 (.int 1)), (72, o_iop (fun x y => x - y)), (73, o_ret 1)]])
abbrev cX4_parseAccount : ByteArray := prog_21_method_23_code
def yX4_parseAccount : MethodName := ⟨RX4, "parseAccount", "()V"⟩
def I312 : Mi := ("TollRoadModel", (cX4_parseAccount, (5, ([], ((Option.none : Option Jvm.ClassFile.FieldType), false)))))
def K312 : Mt := (([0], 5), lk2 [[(0, o_aload 0 1), (1, o_aload 0 1), (2, o_get 148), (5, o_push 2 (.int 10)), (7, o_rdI 0), (8, o_push 2 (.int 8)), (10, o_icmp (fun x y => decide (y ≤ x)) 17), (13, o_push 1 (.int 1)), (14, o_goto 18), (17, o_push 1 (.int 0)), (18, o_push 1 (.int 3)), (19, o_cv [(30, 304)] 2 3 true none), (22, o_aload 0 1), (23, o_cv [(30, 305)] 0 3 true none), (26, o_aload 0 1), (27, o_push 1 (.int 0)), (28, o_push 2 (.int 100000)), (30, o_cv [(30, 306)] 2 3 false none), (33, o_istore 1 1), (34, o_aload 0 1), (35, o_push 1 (.int 0)), (36, o_push 2 (.int 50)), (38, o_cv [(30, 306)] 2 3 false none), (41, o_istore 2 1), (42, o_aload 0 1), (43, o_push 1 (.int 0)), (44, o_push 2 (.int 50)), (46, o_cv [(30, 306)] 2 3 false none), (49, o_istore 3 1), (50, o_aload 0 1), (51, o_cv [(30, 300)] 0 3 false none), (54, o_if (fun x => decide (x = 0)) 66), (57, o_aload 0 1), (58, o_iload 1 1), (59, o_iload 2 1), (60, o_iload 3 1), (61, o_cv [(30, 313)] 3 3 false none)],
  [(64, o_istore 4 2), (66, o_vret)]])
abbrev cX4_appendAccount : ByteArray := prog_21_method_40_code
def yX4_appendAccount : MethodName := ⟨RX4, "appendAccount", "(III)I"⟩
def I313 : Mi := ("TollRoadModel", (cX4_appendAccount, (5, ([], ((Option.some Jvm.ClassFile.FieldType.int), false)))))
def K313 : Mt := (([0, 1, 1, 1], 5), lk2 [[(0, o_aload 0 1), (1, o_get 148), (4, o_push 2 (.int 10)), (6, o_rdI 0), (7, o_istore 4 2), (9, o_aload 0 1), (10, o_iload 4 2), (12, o_push 1 (.int 0)), (13, o_iload 1 1), (14, o_cv [(30, 314)] 3 3 true none), (17, o_aload 0 1), (18, o_iload 4 2), (20, o_push 1 (.int 1)), (21, o_iload 2 1), (22, o_cv [(30, 314)] 3 3 true none), (25, o_aload 0 1), (26, o_iload 4 2), (28, o_push 1 (.int 2)), (29, o_iload 3 1), (30, o_cv [(30, 314)] 3 3 true none), (33, o_aload 0 1), (34, o_get 148), (37, o_push 2 (.int 10)), (39, o_dup2), (40, o_rdI 0), (41, o_push 1 (.int 1)), (42, o_iop (fun x y => x + y)), (43, o_wrI 0), (44, o_iload 4 2), (46, o_ret 1)]])
abbrev cX4_raise : ByteArray := prog_21_method_39_code
def yX4_raise : MethodName := ⟨RX4, "raise", "(III)V"⟩
def I314 : Mi := ("TollRoadModel", (cX4_raise, (4, ([], ((Option.none : Option Jvm.ClassFile.FieldType), false)))))
def K314 : Mt := (([0, 1, 1, 1], 4), lk2 [[(0, o_aload 0 1), (1, o_get 148), (4, o_push 3 (.int 187)), (7, o_push 2 (.int 6)), (9, o_iload 1 1), (10, o_iop (fun x y => x * y)), (11, o_iop (fun x y => x + y)), (12, o_iload 2 1), (13, o_iop (fun x y => x + y)), (14, o_dup2), (15, o_rdI 0), (16, o_iload 3 1), (17, o_iop (fun x y => x + y)), (18, o_wrI 0), (19, o_vret)]])
abbrev cX4_parseVehicle : ByteArray := prog_21_method_24_code
def yX4_parseVehicle : MethodName := ⟨RX4, "parseVehicle", "()V"⟩
def I315 : Mi := ("TollRoadModel", (cX4_parseVehicle, (4, ([], ((Option.none : Option Jvm.ClassFile.FieldType), false)))))
def K315 : Mt := (([0], 4), lk2 [[(0, o_aload 0 1), (1, o_aload 0 1), (2, o_get 148), (5, o_push 2 (.int 11)), (7, o_rdI 0), (8, o_push 2 (.int 15)), (10, o_icmp (fun x y => decide (y ≤ x)) 17), (13, o_push 1 (.int 1)), (14, o_goto 18), (17, o_push 1 (.int 0)), (18, o_push 1 (.int 3)), (19, o_cv [(30, 304)] 2 3 true none), (22, o_aload 0 1), (23, o_cv [(30, 305)] 0 3 true none), (26, o_aload 0 1), (27, o_push 1 (.int 1)), (28, o_push 1 (.int 4)), (29, o_cv [(30, 306)] 2 3 false none), (32, o_istore 1 1), (33, o_aload 0 1), (34, o_pushA 2 4), (36, o_cv [(30, 316)] 1 3 false none), (39, o_if (fun x => decide (x = 0)) 59), (42, o_aload 0 1), (43, o_push 1 (.int 0)), (44, o_aload 0 1), (45, o_get 148), (48, o_push 2 (.int 10)), (50, o_rdI 0), (51, o_push 1 (.int 1)), (52, o_iop (fun x y => x - y)), (53, o_cv [(30, 306)] 2 3 false none), (56, o_goto 60), (59, o_push 1 (.int (-1))), (60, o_istore 2 1), (61, o_aload 0 1), (62, o_cv [(30, 300)] 0 3 false none)],
  [(65, o_if (fun x => decide (x = 0)) 75), (68, o_aload 0 1), (69, o_iload 1 1), (70, o_iload 2 1), (71, o_cv [(30, 317)] 2 3 false none), (74, o_istore 3 1), (75, o_vret)]])
abbrev cX4_accept : ByteArray := prog_21_method_18_code
def yX4_accept : MethodName := ⟨RX4, "accept", "(Ljava/lang/String;)Z"⟩
def I316 : Mi := ("TollRoadModel", (cX4_accept, (3, ([], ((Option.some Jvm.ClassFile.FieldType.boolean), false)))))
def K316 : Mt := (([0, 0], 3), lk2 [[(0, o_aload 0 1), (1, o_cv [(30, 300)] 0 3 false none), (4, o_if (fun x => decide (x = 0)) 19), (7, o_aload 0 1), (8, o_aload 1 1), (9, o_cv [(30, 302)] 1 3 false none), (12, o_if (fun x => decide (x = 0)) 19), (15, o_push 1 (.int 1)), (16, o_goto 20), (19, o_push 1 (.int 0)), (20, o_istore 2 1), (21, o_iload 2 1), (22, o_if (fun x => decide (x = 0)) 29), (25, o_aload 0 1), (26, o_cv [(30, 296)] 0 3 true none), (29, o_iload 2 1), (30, o_ret 5)]])
abbrev cX4_appendVehicle : ByteArray := prog_21_method_43_code
def yX4_appendVehicle : MethodName := ⟨RX4, "appendVehicle", "(II)I"⟩
def I317 : Mi := ("TollRoadModel", (cX4_appendVehicle, (4, ([], ((Option.some Jvm.ClassFile.FieldType.int), false)))))
def K317 : Mt := (([0, 1, 1], 4), lk2 [[(0, o_push 3 (.int 235)), (3, o_push 1 (.int 3)), (4, o_aload 0 1), (5, o_get 148), (8, o_push 2 (.int 11)), (10, o_rdI 0), (11, o_iop (fun x y => x * y)), (12, o_iop (fun x y => x + y)), (13, o_istore 3 1), (14, o_aload 0 1), (15, o_get 148), (18, o_iload 3 1), (19, o_push 1 (.int 0)), (20, o_iop (fun x y => x + y)), (21, o_iload 1 1), (22, o_wrI 0), (23, o_aload 0 1), (24, o_get 148), (27, o_iload 3 1), (28, o_push 1 (.int 1)), (29, o_iop (fun x y => x + y)), (30, o_iload 2 1), (31, o_wrI 0), (32, o_aload 0 1), (33, o_get 148), (36, o_iload 3 1), (37, o_push 1 (.int 2)), (38, o_iop (fun x y => x + y)), (39, o_push 1 (.int 0)), (40, o_wrI 0), (41, o_aload 0 1), (42, o_get 148), (45, o_push 2 (.int 11)), (47, o_dup2), (48, o_rdI 0), (49, o_push 1 (.int 1)), (50, o_iop (fun x y => x + y)), (51, o_wrI 0), (52, o_aload 0 1), (53, o_get 148), (56, o_push 2 (.int 11)), (58, o_rdI 0), (59, o_push 1 (.int 1)), (60, o_iop (fun x y => x - y)), (61, o_ret 1)]])
abbrev cX4_parseSet : ByteArray := prog_21_method_25_code
def yX4_parseSet : MethodName := ⟨RX4, "parseSet", "()V"⟩
def I318 : Mi := ("TollRoadModel", (cX4_parseSet, (3, ([], ((Option.none : Option Jvm.ClassFile.FieldType), false)))))
def K318 : Mt := (([0], 3), lk2 [[(0, o_aload 0 1), (1, o_aload 0 1), (2, o_pushA 2 6), (4, o_cv [(30, 302)] 1 3 false none), (7, o_push 1 (.int 1)), (8, o_cv [(30, 304)] 2 3 true none), (11, o_aload 0 1), (12, o_cv [(30, 305)] 0 3 true none), (15, o_aload 0 1), (16, o_push 1 (.int 0)), (17, o_push 2 (.int 7)), (19, o_cv [(30, 306)] 2 3 false none), (22, o_istore 1 1), (23, o_aload 0 1), (24, o_cv [(30, 300)] 0 3 false none), (27, o_if (fun x => decide (x = 0)) 56), (30, o_aload 0 1), (31, o_aload 0 1), (32, o_get 153), (35, o_iload 1 1), (36, o_rdI 0), (37, o_aload 0 1), (38, o_get 154), (41, o_iload 1 1), (42, o_rdI 0), (43, o_cv [(30, 306)] 2 3 false none), (46, o_istore 2 1), (47, o_aload 0 1), (48, o_get 148), (51, o_push 1 (.int 0)), (52, o_iload 1 1), (53, o_iop (fun x y => x + y)), (54, o_iload 2 1), (55, o_wrI 0), (56, o_vret)]])
abbrev cX4_errorCode : ByteArray := prog_21_method_28_code
def yX4_errorCode : MethodName := ⟨RX4, "errorCode", "()I"⟩
def I319 : Mi := ("TollRoadModel", (cX4_errorCode, (1, ([], ((Option.some Jvm.ClassFile.FieldType.int), false)))))
def K319 : Mt := (([0], 1), lk2 [[(0, o_aload 0 1), (1, o_push 1 (.int 0)), (2, o_put 155 1), (5, o_aload 0 1), (6, o_get 163), (9, o_ret 1)]])
abbrev cX4_errorPosition : ByteArray := prog_21_method_29_code
def yX4_errorPosition : MethodName := ⟨RX4, "errorPosition", "()I"⟩
def I320 : Mi := ("TollRoadModel", (cX4_errorPosition, (1, ([], ((Option.some Jvm.ClassFile.FieldType.int), false)))))
def K320 : Mt := (([0], 1), lk2 [[(0, o_aload 0 1), (1, o_push 1 (.int 0)), (2, o_put 155 1), (5, o_aload 0 1), (6, o_get 164), (9, o_ret 1)]])
abbrev cX4_addGantry : ByteArray := prog_21_method_34_code
def yX4_addGantry : MethodName := ⟨RX4, "addGantry", "(I)I"⟩
def I321 : Mi := ("TollRoadModel", (cX4_addGantry, (2, ([], ((Option.some Jvm.ClassFile.FieldType.int), false)))))
def K321 : Mt := (([0, 1], 2), lk2 [[(0, o_aload 0 1), (1, o_push 1 (.int 0)), (2, o_put 155 1), (5, o_iload 1 1), (6, o_push 1 (.int 0)), (7, o_push 2 (.int 99)), (9, o_cs 293 3 false none), (12, o_if (fun x => decide (¬ x = 0)) 21), (15, o_aload 0 1), (16, o_push 1 (.int 1)), (17, o_cv [(30, 291)] 1 3 false none), (20, o_ret 1), (21, o_aload 0 1), (22, o_get 148), (25, o_push 2 (.int 8)), (27, o_rdI 0), (28, o_push 2 (.int 12)), (30, o_icmp (fun x y => decide (¬ x = y)) 41), (33, o_aload 0 1), (34, o_push 1 (.int 2)), (35, o_cv [(30, 291)] 1 3 false none), (38, o_goto 46), (41, o_aload 0 1), (42, o_iload 1 1), (43, o_cv [(30, 308)] 1 3 false none), (46, o_ret 1)]])
abbrev cX4_addRoad : ByteArray := prog_21_method_37_code
def yX4_addRoad : MethodName := ⟨RX4, "addRoad", "(IIII)I"⟩
def I322 : Mi := ("TollRoadModel", (cX4_addRoad, (5, ([], ((Option.some Jvm.ClassFile.FieldType.int), false)))))
def K322 : Mt := (([0, 1, 1, 1, 1], 5), lk2 [[(0, o_aload 0 1), (1, o_push 1 (.int 0)), (2, o_put 155 1), (5, o_aload 0 1), (6, o_iload 1 1), (7, o_cv [(30, 323)] 1 3 false none), (10, o_if (fun x => decide (x = 0)) 21), (13, o_aload 0 1), (14, o_iload 2 1), (15, o_cv [(30, 323)] 1 3 false none), (18, o_if (fun x => decide (¬ x = 0)) 27), (21, o_aload 0 1), (22, o_push 1 (.int 1)), (23, o_cv [(30, 291)] 1 3 false none), (26, o_ret 1), (27, o_iload 1 1), (28, o_iload 2 1), (29, o_icmp (fun x y => decide (x = y)) 54), (32, o_iload 3 1), (33, o_push 1 (.int 1)), (34, o_push 2 (.int 60)), (36, o_cs 293 3 false none), (39, o_if (fun x => decide (x = 0)) 54), (42, o_iload 4 2), (44, o_push 1 (.int 0)), (45, o_push 3 (.int 999)), (48, o_cs 293 3 false none), (51, o_if (fun x => decide (¬ x = 0)) 60), (54, o_aload 0 1), (55, o_push 1 (.int 2)), (56, o_cv [(30, 291)] 1 3 false none), (59, o_ret 1), (60, o_aload 0 1), (61, o_iload 1 1), (62, o_iload 2 1), (63, o_cv [(30, 310)] 2 3 false none)],
  [(66, o_push 1 (.int (-1))), (67, o_icmp (fun x y => decide (¬ x = y)) 82), (70, o_aload 0 1), (71, o_get 148), (74, o_push 2 (.int 9)), (76, o_rdI 0), (77, o_push 2 (.int 40)), (79, o_icmp (fun x y => decide (¬ x = y)) 90), (82, o_aload 0 1), (83, o_push 1 (.int 3)), (84, o_cv [(30, 291)] 1 3 false none), (87, o_goto 99), (90, o_aload 0 1), (91, o_iload 1 1), (92, o_iload 2 1), (93, o_iload 3 1), (94, o_iload 4 2), (96, o_cv [(30, 311)] 4 3 false none), (99, o_ret 1)]])
abbrev cX4_isGantry : ByteArray := prog_21_method_30_code
def yX4_isGantry : MethodName := ⟨RX4, "isGantry", "(I)Z"⟩
def I323 : Mi := ("TollRoadModel", (cX4_isGantry, (2, ([], ((Option.some Jvm.ClassFile.FieldType.boolean), false)))))
def K323 : Mt := (([0, 1], 2), lk2 [[(0, o_iload 1 1), (1, o_push 1 (.int 0)), (2, o_aload 0 1), (3, o_get 148), (6, o_push 2 (.int 8)), (8, o_rdI 0), (9, o_push 1 (.int 1)), (10, o_iop (fun x y => x - y)), (11, o_cs 293 3 false none), (14, o_ret 5)]])
abbrev cX4_addAccount : ByteArray := prog_21_method_41_code
def yX4_addAccount : MethodName := ⟨RX4, "addAccount", "(III)I"⟩
def I324 : Mi := ("TollRoadModel", (cX4_addAccount, (4, ([], ((Option.some Jvm.ClassFile.FieldType.int), false)))))
def K324 : Mt := (([0, 1, 1, 1], 4), lk2 [[(0, o_aload 0 1), (1, o_push 1 (.int 0)), (2, o_put 155 1), (5, o_iload 1 1), (6, o_push 1 (.int 0)), (7, o_push 2 (.int 100000)), (9, o_cs 293 3 false none), (12, o_if (fun x => decide (x = 0)) 35), (15, o_iload 2 1), (16, o_push 1 (.int 0)), (17, o_push 2 (.int 50)), (19, o_cs 293 3 false none), (22, o_if (fun x => decide (x = 0)) 35), (25, o_iload 3 1), (26, o_push 1 (.int 0)), (27, o_push 2 (.int 50)), (29, o_cs 293 3 false none), (32, o_if (fun x => decide (¬ x = 0)) 41), (35, o_aload 0 1), (36, o_push 1 (.int 1)), (37, o_cv [(30, 291)] 1 3 false none), (40, o_ret 1), (41, o_aload 0 1), (42, o_get 148), (45, o_push 2 (.int 10)), (47, o_rdI 0), (48, o_push 2 (.int 8)), (50, o_icmp (fun x y => decide (¬ x = y)) 61), (53, o_aload 0 1), (54, o_push 1 (.int 2)), (55, o_cv [(30, 291)] 1 3 false none), (58, o_goto 68), (61, o_aload 0 1), (62, o_iload 1 1), (63, o_iload 2 1)],
  [(64, o_iload 3 1), (65, o_cv [(30, 313)] 3 3 false none), (68, o_ret 1)]])
abbrev cX4_addVehicle : ByteArray := prog_21_method_44_code
def yX4_addVehicle : MethodName := ⟨RX4, "addVehicle", "(II)I"⟩
def I325 : Mi := ("TollRoadModel", (cX4_addVehicle, (3, ([], ((Option.some Jvm.ClassFile.FieldType.int), false)))))
def K325 : Mt := (([0, 1, 1], 3), lk2 [[(0, o_aload 0 1), (1, o_push 1 (.int 0)), (2, o_put 155 1), (5, o_iload 2 1), (6, o_push 1 (.int (-1))), (7, o_icmp (fun x y => decide (x = y)) 24), (10, o_aload 0 1), (11, o_iload 2 1), (12, o_cv [(30, 326)] 1 3 false none), (15, o_if (fun x => decide (¬ x = 0)) 24), (18, o_aload 0 1), (19, o_push 1 (.int 1)), (20, o_cv [(30, 291)] 1 3 false none), (23, o_ret 1), (24, o_iload 1 1), (25, o_push 1 (.int 1)), (26, o_push 1 (.int 4)), (27, o_cs 293 3 false none), (30, o_if (fun x => decide (¬ x = 0)) 39), (33, o_aload 0 1), (34, o_push 1 (.int 2)), (35, o_cv [(30, 291)] 1 3 false none), (38, o_ret 1), (39, o_aload 0 1), (40, o_get 148), (43, o_push 2 (.int 11)), (45, o_rdI 0), (46, o_push 2 (.int 15)), (48, o_icmp (fun x y => decide (¬ x = y)) 59), (51, o_aload 0 1), (52, o_push 1 (.int 3)), (53, o_cv [(30, 291)] 1 3 false none), (56, o_goto 65), (59, o_aload 0 1), (60, o_iload 1 1), (61, o_iload 2 1), (62, o_cv [(30, 317)] 2 3 false none)],
  [(65, o_ret 1)]])
abbrev cX4_isAccount : ByteArray := prog_21_method_31_code
def yX4_isAccount : MethodName := ⟨RX4, "isAccount", "(I)Z"⟩
def I326 : Mi := ("TollRoadModel", (cX4_isAccount, (2, ([], ((Option.some Jvm.ClassFile.FieldType.boolean), false)))))
def K326 : Mt := (([0, 1], 2), lk2 [[(0, o_iload 1 1), (1, o_push 1 (.int 0)), (2, o_aload 0 1), (3, o_get 148), (6, o_push 2 (.int 10)), (8, o_rdI 0), (9, o_push 1 (.int 1)), (10, o_iop (fun x y => x - y)), (11, o_cs 293 3 false none), (14, o_ret 5)]])
abbrev cX4_set : ByteArray := prog_21_method_45_code
def yX4_set : MethodName := ⟨RX4, "set", "(II)I"⟩
def I327 : Mi := ("TollRoadModel", (cX4_set, (4, ([], ((Option.some Jvm.ClassFile.FieldType.int), false)))))
def K327 : Mt := (([0, 1, 1], 4), lk2 [[(0, o_aload 0 1), (1, o_push 1 (.int 0)), (2, o_put 155 1), (5, o_iload 1 1), (6, o_push 1 (.int 0)), (7, o_push 2 (.int 7)), (9, o_cs 293 3 false none), (12, o_if (fun x => decide (x = 0)) 34), (15, o_iload 2 1), (16, o_aload 0 1), (17, o_get 153), (20, o_iload 1 1), (21, o_rdI 0), (22, o_aload 0 1), (23, o_get 154), (26, o_iload 1 1), (27, o_rdI 0), (28, o_cs 293 3 false none), (31, o_if (fun x => decide (¬ x = 0)) 40), (34, o_aload 0 1), (35, o_push 1 (.int 1)), (36, o_cv [(30, 291)] 1 3 false none), (39, o_ret 1), (40, o_aload 0 1), (41, o_iload 1 1), (42, o_cv [(30, 328)] 1 3 false none), (45, o_istore 3 1), (46, o_aload 0 1), (47, o_get 148), (50, o_push 1 (.int 0)), (51, o_iload 1 1), (52, o_iop (fun x y => x + y)), (53, o_iload 2 1), (54, o_wrI 0), (55, o_iload 3 1), (56, o_ret 1)]])
abbrev cX4_setting : ByteArray := prog_21_method_7_code
def yX4_setting : MethodName := ⟨RX4, "setting", "(I)I"⟩
def I328 : Mi := ("TollRoadModel", (cX4_setting, (2, ([], ((Option.some Jvm.ClassFile.FieldType.int), false)))))
def K328 : Mt := (([0, 1], 2), lk2 [[(0, o_aload 0 1), (1, o_get 148), (4, o_push 1 (.int 0)), (5, o_iload 1 1), (6, o_iop (fun x y => x + y)), (7, o_rdI 0), (8, o_ret 1)]])
abbrev cX4_count : ByteArray := prog_21_method_48_code
def yX4_count : MethodName := ⟨RX4, "count", "(I)I"⟩
def I329 : Mi := ("TollRoadModel", (cX4_count, (2, ([], ((Option.some Jvm.ClassFile.FieldType.int), false)))))
def K329 : Mt := (([0, 1], 2), lk2 [[(0, o_aload 0 1), (1, o_push 1 (.int 0)), (2, o_put 155 1), (5, o_iload 1 1), (6, o_push 1 (.int 0)), (7, o_push 2 (.int 16)), (9, o_cs 293 3 false none), (12, o_if (fun x => decide (¬ x = 0)) 21), (15, o_aload 0 1), (16, o_push 1 (.int 1)), (17, o_cv [(30, 291)] 1 3 false none), (20, o_ret 1), (21, o_iload 1 1), (22, o_push 2 (.int 14)), (24, o_icmp (fun x y => decide (y ≤ x)) 34), (27, o_aload 0 1), (28, o_get 148), (31, o_iload 1 1), (32, o_rdI 0), (33, o_ret 1), (34, o_iload 1 1), (35, o_push 2 (.int 14)), (37, o_icmp (fun x y => decide (¬ x = y)) 48), (40, o_aload 0 1), (41, o_push 1 (.int 0)), (42, o_cv [(30, 330)] 1 3 false none), (45, o_goto 63), (48, o_aload 0 1), (49, o_iload 1 1), (50, o_push 2 (.int 16)), (52, o_icmp (fun x y => decide (¬ x = y)) 59), (55, o_push 1 (.int 1)), (56, o_goto 60), (59, o_push 1 (.int 0)), (60, o_cv [(30, 332)] 1 3 false none), (63, o_ret 1)]])
abbrev cX4_readsIn : ByteArray := prog_21_method_46_code
def yX4_readsIn : MethodName := ⟨RX4, "readsIn", "(I)I"⟩
def I330 : Mi := ("TollRoadModel", (cX4_readsIn, (4, ([], ((Option.some Jvm.ClassFile.FieldType.int), false)))))
def K330 : Mt := (([0, 1], 4), lk2 [[(0, o_push 1 (.int 0)), (1, o_istore 2 1), (2, o_push 1 (.int 0)), (3, o_istore 3 1), (4, o_iload 3 1), (5, o_aload 0 1), (6, o_get 148), (9, o_push 2 (.int 12)), (11, o_rdI 0), (12, o_icmp (fun x y => decide (y ≤ x)) 39), (15, o_iload 2 1), (16, o_aload 0 1), (17, o_iload 3 1), (18, o_push 1 (.int 5)), (19, o_cv [(30, 331)] 2 3 false none), (22, o_iload 1 1), (23, o_icmp (fun x y => decide (¬ x = y)) 30), (26, o_push 1 (.int 1)), (27, o_goto 31), (30, o_push 1 (.int 0)), (31, o_iop (fun x y => x + y)), (32, o_istore 2 1), (33, o_iinc 3 1), (36, o_goto 4), (39, o_iload 2 1), (40, o_ret 1)]])
abbrev cX4_ofRead : ByteArray := prog_21_method_64_code
def yX4_ofRead : MethodName := ⟨RX4, "ofRead", "(II)I"⟩
def I331 : Mi := ("TollRoadModel", (cX4_ofRead, (3, ([], ((Option.some Jvm.ClassFile.FieldType.int), false)))))
def K331 : Mt := (([0, 1, 1], 3), lk2 [[(0, o_aload 0 1), (1, o_get 148), (4, o_push 3 (.int 280)), (7, o_push 2 (.int 7)), (9, o_iload 1 1), (10, o_iop (fun x y => x * y)), (11, o_iop (fun x y => x + y)), (12, o_iload 2 1), (13, o_iop (fun x y => x + y)), (14, o_rdI 0), (15, o_ret 1)]])
abbrev cX4_disputed : ByteArray := prog_21_method_47_code
def yX4_disputed : MethodName := ⟨RX4, "disputed", "(Z)I"⟩
def I332 : Mi := ("TollRoadModel", (cX4_disputed, (5, ([], ((Option.some Jvm.ClassFile.FieldType.int), false)))))
def K332 : Mt := (([0, 1], 5), lk2 [[(0, o_push 1 (.int 0)), (1, o_istore 2 1), (2, o_push 1 (.int 0)), (3, o_istore 3 1), (4, o_iload 3 1), (5, o_aload 0 1), (6, o_get 148), (9, o_push 2 (.int 13)), (11, o_rdI 0), (12, o_icmp (fun x y => decide (y ≤ x)) 54), (15, o_aload 0 1), (16, o_iload 3 1), (17, o_push 2 (.int 11)), (19, o_cv [(30, 333)] 2 3 false none), (22, o_istore 4 2), (24, o_iload 2 1), (25, o_iload 4 2), (27, o_push 1 (.int 1)), (28, o_icmp (fun x y => decide (x = y)) 41), (31, o_iload 4 2), (33, o_push 1 (.int 2)), (34, o_icmp (fun x y => decide (¬ x = y)) 45), (37, o_iload 1 1), (38, o_if (fun x => decide (¬ x = 0)) 45), (41, o_push 1 (.int 1)), (42, o_goto 46), (45, o_push 1 (.int 0)), (46, o_iop (fun x y => x + y)), (47, o_istore 2 1), (48, o_iinc 3 1), (51, o_goto 4), (54, o_iload 2 1), (55, o_ret 1)]])
abbrev cX4_ofBill : ByteArray := prog_21_method_90_code
def yX4_ofBill : MethodName := ⟨RX4, "ofBill", "(II)I"⟩
def I333 : Mi := ("TollRoadModel", (cX4_ofBill, (3, ([], ((Option.some Jvm.ClassFile.FieldType.int), false)))))
def K333 : Mt := (([0, 1, 1], 3), lk2 [[(0, o_aload 0 1), (1, o_get 148), (4, o_push 3 (.int 1120)), (7, o_push 2 (.int 18)), (9, o_iload 1 1), (10, o_iop (fun x y => x * y)), (11, o_iop (fun x y => x + y)), (12, o_iload 2 1), (13, o_iop (fun x y => x + y)), (14, o_rdI 0), (15, o_ret 1)]])
abbrev cX4_account : ByteArray := prog_21_method_49_code
def yX4_account : MethodName := ⟨RX4, "account", "(II)I"⟩
def I334 : Mi := ("TollRoadModel", (cX4_account, (3, ([], ((Option.some Jvm.ClassFile.FieldType.int), false)))))
def K334 : Mt := (([0, 1, 1], 3), lk2 [[(0, o_aload 0 1), (1, o_push 1 (.int 0)), (2, o_put 155 1), (5, o_aload 0 1), (6, o_iload 1 1), (7, o_cv [(30, 326)] 1 3 false none), (10, o_if (fun x => decide (¬ x = 0)) 19), (13, o_aload 0 1), (14, o_push 1 (.int 1)), (15, o_cv [(30, 291)] 1 3 false none), (18, o_ret 1), (19, o_iload 2 1), (20, o_push 1 (.int 0)), (21, o_push 1 (.int 5)), (22, o_cs 293 3 false none), (25, o_if (fun x => decide (x = 0)) 37), (28, o_aload 0 1), (29, o_iload 1 1), (30, o_iload 2 1), (31, o_cv [(30, 335)] 2 3 false none), (34, o_goto 42), (37, o_aload 0 1), (38, o_push 1 (.int 2)), (39, o_cv [(30, 291)] 1 3 false none), (42, o_ret 1)]])
abbrev cX4_of : ByteArray := prog_21_method_38_code
def yX4_of : MethodName := ⟨RX4, "of", "(II)I"⟩
def I335 : Mi := ("TollRoadModel", (cX4_of, (3, ([], ((Option.some Jvm.ClassFile.FieldType.int), false)))))
def K335 : Mt := (([0, 1, 1], 3), lk2 [[(0, o_aload 0 1), (1, o_get 148), (4, o_push 3 (.int 187)), (7, o_push 2 (.int 6)), (9, o_iload 1 1), (10, o_iop (fun x y => x * y)), (11, o_iop (fun x y => x + y)), (12, o_iload 2 1), (13, o_iop (fun x y => x + y)), (14, o_rdI 0), (15, o_ret 1)]])
abbrev cX4_pay : ByteArray := prog_21_method_50_code
def yX4_pay : MethodName := ⟨RX4, "pay", "(II)I"⟩
def I336 : Mi := ("TollRoadModel", (cX4_pay, (3, ([], ((Option.some Jvm.ClassFile.FieldType.int), false)))))
def K336 : Mt := (([0, 1, 1], 3), lk2 [[(0, o_aload 0 1), (1, o_push 1 (.int 0)), (2, o_put 155 1), (5, o_aload 0 1), (6, o_iload 1 1), (7, o_cv [(30, 326)] 1 3 false none), (10, o_if (fun x => decide (¬ x = 0)) 19), (13, o_aload 0 1), (14, o_push 1 (.int 1)), (15, o_cv [(30, 291)] 1 3 false none), (18, o_ret 1), (19, o_iload 2 1), (20, o_push 1 (.int 1)), (21, o_push 2 (.int 100000)), (23, o_cs 293 3 false none), (26, o_if (fun x => decide (¬ x = 0)) 35), (29, o_aload 0 1), (30, o_push 1 (.int 2)), (31, o_cv [(30, 291)] 1 3 false none), (34, o_ret 1), (35, o_aload 0 1), (36, o_iload 1 1), (37, o_push 1 (.int 0)), (38, o_iload 2 1), (39, o_cv [(30, 314)] 3 3 true none), (42, o_aload 0 1), (43, o_iload 1 1), (44, o_push 1 (.int 0)), (45, o_cv [(30, 335)] 2 3 false none), (48, o_ret 1)]])
abbrev cX4_vehicle : ByteArray := prog_21_method_54_code
def yX4_vehicle : MethodName := ⟨RX4, "vehicle", "(II)I"⟩
def I337 : Mi := ("TollRoadModel", (cX4_vehicle, (3, ([], ((Option.some Jvm.ClassFile.FieldType.int), false)))))
def K337 : Mt := (([0, 1, 1], 3), lk2 [[(0, o_aload 0 1), (1, o_push 1 (.int 0)), (2, o_put 155 1), (5, o_aload 0 1), (6, o_iload 1 1), (7, o_cv [(30, 338)] 1 3 false none), (10, o_if (fun x => decide (¬ x = 0)) 19), (13, o_aload 0 1), (14, o_push 1 (.int 1)), (15, o_cv [(30, 291)] 1 3 false none), (18, o_ret 1), (19, o_iload 2 1), (20, o_sw (swt 0 [64, 64, 64, 71, 78, 85, 91] 97))],
  [(64, o_aload 0 1), (65, o_iload 1 1), (66, o_iload 2 1), (67, o_cv [(30, 339)] 2 3 false none), (70, o_ret 1), (71, o_aload 0 1), (72, o_iload 1 1), (73, o_push 1 (.int 1)), (74, o_cv [(30, 340)] 2 3 false none), (77, o_ret 1), (78, o_aload 0 1), (79, o_iload 1 1), (80, o_push 1 (.int 3)), (81, o_cv [(30, 340)] 2 3 false none), (84, o_ret 1), (85, o_aload 0 1), (86, o_iload 1 1), (87, o_cv [(30, 341)] 1 3 false none), (90, o_ret 1), (91, o_aload 0 1), (92, o_iload 1 1), (93, o_cv [(30, 342)] 1 3 false none), (96, o_ret 1), (97, o_aload 0 1), (98, o_push 1 (.int 2)), (99, o_cv [(30, 291)] 1 3 false none), (102, o_ret 1)]])
abbrev cX4_isVehicle : ByteArray := prog_21_method_32_code
def yX4_isVehicle : MethodName := ⟨RX4, "isVehicle", "(I)Z"⟩
def I338 : Mi := ("TollRoadModel", (cX4_isVehicle, (2, ([], ((Option.some Jvm.ClassFile.FieldType.boolean), false)))))
def K338 : Mt := (([0, 1], 2), lk2 [[(0, o_iload 1 1), (1, o_push 1 (.int 0)), (2, o_aload 0 1), (3, o_get 148), (6, o_push 2 (.int 11)), (8, o_rdI 0), (9, o_push 1 (.int 1)), (10, o_iop (fun x y => x - y)), (11, o_cs 293 3 false none), (14, o_ret 5)]])
abbrev cX4_ofVehicle : ByteArray := prog_21_method_42_code
def yX4_ofVehicle : MethodName := ⟨RX4, "ofVehicle", "(II)I"⟩
def I339 : Mi := ("TollRoadModel", (cX4_ofVehicle, (3, ([], ((Option.some Jvm.ClassFile.FieldType.int), false)))))
def K339 : Mt := (([0, 1, 1], 3), lk2 [[(0, o_aload 0 1), (1, o_get 148), (4, o_push 3 (.int 235)), (7, o_push 1 (.int 3)), (8, o_iload 1 1), (9, o_iop (fun x y => x * y)), (10, o_iop (fun x y => x + y)), (11, o_iload 2 1), (12, o_iop (fun x y => x + y)), (13, o_rdI 0), (14, o_ret 1)]])
abbrev cX4_readsOf : ByteArray := prog_21_method_51_code
def yX4_readsOf : MethodName := ⟨RX4, "readsOf", "(II)I"⟩
def I340 : Mi := ("TollRoadModel", (cX4_readsOf, (5, ([], ((Option.some Jvm.ClassFile.FieldType.int), false)))))
def K340 : Mt := (([0, 1, 1], 5), lk2 [[(0, o_push 1 (.int 0)), (1, o_istore 3 1), (2, o_push 1 (.int 0)), (3, o_istore 4 2), (5, o_iload 4 2), (7, o_aload 0 1), (8, o_get 148), (11, o_push 2 (.int 12)), (13, o_rdI 0), (14, o_icmp (fun x y => decide (y ≤ x)) 53), (17, o_iload 3 1), (18, o_aload 0 1), (19, o_iload 4 2), (21, o_push 1 (.int 0)), (22, o_cv [(30, 331)] 2 3 false none), (25, o_iload 1 1), (26, o_icmp (fun x y => decide (¬ x = y)) 44), (29, o_aload 0 1), (30, o_iload 4 2), (32, o_push 1 (.int 5)), (33, o_cv [(30, 331)] 2 3 false none), (36, o_iload 2 1), (37, o_icmp (fun x y => decide (¬ x = y)) 44), (40, o_push 1 (.int 1)), (41, o_goto 45), (44, o_push 1 (.int 0)), (45, o_iop (fun x y => x + y)), (46, o_istore 3 1), (47, o_iinc 4 1), (50, o_goto 5), (53, o_iload 3 1), (54, o_ret 1)]])
abbrev cX4_latestBilled : ByteArray := prog_21_method_52_code
def yX4_latestBilled : MethodName := ⟨RX4, "latestBilled", "(I)I"⟩
def I341 : Mi := ("TollRoadModel", (cX4_latestBilled, (5, ([], ((Option.some Jvm.ClassFile.FieldType.int), false)))))
def K341 : Mt := (([0, 1], 5), lk2 [[(0, o_push 1 (.int (-1))), (1, o_istore 2 1), (2, o_push 1 (.int 0)), (3, o_istore 3 1), (4, o_iload 3 1), (5, o_aload 0 1), (6, o_get 148), (9, o_push 2 (.int 12)), (11, o_rdI 0), (12, o_icmp (fun x y => decide (y ≤ x)) 68), (15, o_aload 0 1), (16, o_iload 3 1), (17, o_push 1 (.int 0)), (18, o_cv [(30, 331)] 2 3 false none), (21, o_iload 1 1), (22, o_icmp (fun x y => decide (¬ x = y)) 39), (25, o_aload 0 1), (26, o_iload 3 1), (27, o_push 1 (.int 5)), (28, o_cv [(30, 331)] 2 3 false none), (31, o_push 1 (.int 3)), (32, o_icmp (fun x y => decide (¬ x = y)) 39), (35, o_push 1 (.int 1)), (36, o_goto 40), (39, o_push 1 (.int 0)), (40, o_istore 4 2), (42, o_iload 4 2), (44, o_if (fun x => decide (x = 0)) 60), (47, o_iload 2 1), (48, o_aload 0 1), (49, o_iload 3 1), (50, o_push 1 (.int 2)), (51, o_cv [(30, 331)] 2 3 false none), (54, o_cs 6 2 false none), (57, o_goto 61), (60, o_iload 2 1), (61, o_istore 2 1), (62, o_iinc 3 1)],
  [(65, o_goto 4), (68, o_iload 2 1), (69, o_ret 1)]])
abbrev cX4_billsOf : ByteArray := prog_21_method_53_code
def yX4_billsOf : MethodName := ⟨RX4, "billsOf", "(I)I"⟩
def I342 : Mi := ("TollRoadModel", (cX4_billsOf, (4, ([], ((Option.some Jvm.ClassFile.FieldType.int), false)))))
def K342 : Mt := (([0, 1], 4), lk2 [[(0, o_push 1 (.int 0)), (1, o_istore 2 1), (2, o_push 1 (.int 0)), (3, o_istore 3 1), (4, o_iload 3 1), (5, o_aload 0 1), (6, o_get 148), (9, o_push 2 (.int 13)), (11, o_rdI 0), (12, o_icmp (fun x y => decide (y ≤ x)) 39), (15, o_iload 2 1), (16, o_aload 0 1), (17, o_iload 3 1), (18, o_push 1 (.int 0)), (19, o_cv [(30, 333)] 2 3 false none), (22, o_iload 1 1), (23, o_icmp (fun x y => decide (¬ x = y)) 30), (26, o_push 1 (.int 1)), (27, o_goto 31), (30, o_push 1 (.int 0)), (31, o_iop (fun x y => x + y)), (32, o_istore 2 1), (33, o_iinc 3 1), (36, o_goto 4), (39, o_iload 2 1), (40, o_ret 1)]])
abbrev cX4_setAccount : ByteArray := prog_21_method_55_code
def yX4_setAccount : MethodName := ⟨RX4, "setAccount", "(II)I"⟩
def I343 : Mi := ("TollRoadModel", (cX4_setAccount, (4, ([], ((Option.some Jvm.ClassFile.FieldType.int), false)))))
def K343 : Mt := (([0, 1, 1], 4), lk2 [[(0, o_aload 0 1), (1, o_push 1 (.int 0)), (2, o_put 155 1), (5, o_aload 0 1), (6, o_iload 1 1), (7, o_cv [(30, 338)] 1 3 false none), (10, o_if (fun x => decide (x = 0)) 26), (13, o_iload 2 1), (14, o_push 1 (.int (-1))), (15, o_icmp (fun x y => decide (x = y)) 32), (18, o_aload 0 1), (19, o_iload 2 1), (20, o_cv [(30, 326)] 1 3 false none), (23, o_if (fun x => decide (¬ x = 0)) 32), (26, o_aload 0 1), (27, o_push 1 (.int 1)), (28, o_cv [(30, 291)] 1 3 false none), (31, o_ret 1), (32, o_aload 0 1), (33, o_iload 1 1), (34, o_push 1 (.int 1)), (35, o_cv [(30, 339)] 2 3 false none), (38, o_istore 3 1), (39, o_aload 0 1), (40, o_get 148), (43, o_push 3 (.int 235)), (46, o_push 1 (.int 3)), (47, o_iload 1 1), (48, o_iop (fun x y => x * y)), (49, o_iop (fun x y => x + y)), (50, o_push 1 (.int 1)), (51, o_iop (fun x y => x + y)), (52, o_iload 2 1), (53, o_wrI 0), (54, o_iload 3 1), (55, o_ret 1)]])
abbrev cX4_route : ByteArray := prog_21_method_59_code
def yX4_route : MethodName := ⟨RX4, "route", "(IIII)I"⟩
def I344 : Mi := ("TollRoadModel", (cX4_route, (5, ([], ((Option.some Jvm.ClassFile.FieldType.int), false)))))
def K344 : Mt := (([0, 1, 1, 1, 1], 5), lk2 [[(0, o_aload 0 1), (1, o_push 1 (.int 0)), (2, o_put 155 1), (5, o_aload 0 1), (6, o_iload 1 1), (7, o_cv [(30, 323)] 1 3 false none), (10, o_if (fun x => decide (x = 0)) 21), (13, o_aload 0 1), (14, o_iload 2 1), (15, o_cv [(30, 323)] 1 3 false none), (18, o_if (fun x => decide (¬ x = 0)) 27), (21, o_aload 0 1), (22, o_push 1 (.int 1)), (23, o_cv [(30, 291)] 1 3 false none), (26, o_ret 1), (27, o_iload 1 1), (28, o_iload 2 1), (29, o_icmp (fun x y => decide (x = y)) 53), (32, o_iload 3 1), (33, o_push 1 (.int 0)), (34, o_push 3 (.int 600)), (37, o_cs 293 3 false none), (40, o_if (fun x => decide (x = 0)) 53), (43, o_iload 4 2), (45, o_push 1 (.int 0)), (46, o_push 1 (.int 3)), (47, o_cs 293 3 false none), (50, o_if (fun x => decide (¬ x = 0)) 59), (53, o_aload 0 1), (54, o_push 1 (.int 2)), (55, o_cv [(30, 291)] 1 3 false none), (58, o_ret 1), (59, o_aload 0 1), (60, o_iload 1 1), (61, o_iload 2 1), (62, o_iload 3 1), (63, o_cv [(30, 345)] 3 3 true none)],
  [(66, o_aload 0 1), (67, o_get 172), (70, o_push 3 (.int 1000000000)), (73, o_icmp (fun x y => decide (¬ x = y)) 78), (76, o_push 1 (.int (-1))), (77, o_ret 1), (78, o_iload 4 2), (80, o_if (fun x => decide (¬ x = 0)) 90), (83, o_aload 0 1), (84, o_get 172), (87, o_goto 120), (90, o_iload 4 2), (92, o_push 1 (.int 1)), (93, o_icmp (fun x y => decide (¬ x = y)) 103), (96, o_aload 0 1), (97, o_get 173), (100, o_goto 120), (103, o_iload 4 2), (105, o_push 1 (.int 2)), (106, o_icmp (fun x y => decide (¬ x = y)) 116), (109, o_aload 0 1), (110, o_get 174), (113, o_goto 120), (116, o_aload 0 1), (117, o_get 175), (120, o_ret 1)]])
abbrev cX4_goWays : ByteArray := prog_21_method_58_code
def yX4_goWays : MethodName := ⟨RX4, "goWays", "(III)V"⟩
def I345 : Mi := ("TollRoadModel", (cX4_goWays, (7, ([], ((Option.none : Option Jvm.ClassFile.FieldType), false)))))
def K345 : Mt := (([0, 1, 1, 1], 7), lk2 [[(0, o_aload 0 1), (1, o_push 3 (.int 1000000000)), (4, o_put 172 1), (7, o_aload 0 1), (8, o_push 3 (.int 1000000000)), (11, o_put 173 1), (14, o_aload 0 1), (15, o_push 3 (.int 1000000000)), (18, o_put 176 1), (21, o_aload 0 1), (22, o_get 166), (25, o_push 1 (.int 0)), (26, o_iload 1 1), (27, o_wrI 0), (28, o_aload 0 1), (29, o_get 167), (32, o_push 1 (.int 0)), (33, o_push 1 (.int (-1))), (34, o_wrI 0), (35, o_aload 0 1), (36, o_get 168), (39, o_push 1 (.int 0)), (40, o_push 1 (.int 0)), (41, o_wrI 0), (42, o_aload 0 1), (43, o_get 169), (46, o_push 1 (.int 0)), (47, o_push 1 (.int 0)), (48, o_wrI 0), (49, o_aload 0 1), (50, o_get 170), (53, o_push 1 (.int 0)), (54, o_push 1 (.int 0)), (55, o_wrI 0), (56, o_push 1 (.int 0)), (57, o_istore 4 2), (59, o_iload 4 2), (61, o_if (fun x => decide (x < 0)) 282)],
  [(64, o_aload 0 1), (65, o_get 167), (68, o_iload 4 2), (70, o_dup2), (71, o_rdI 0), (72, o_push 1 (.int 1)), (73, o_iop (fun x y => x + y)), (74, o_wrI 0), (75, o_aload 0 1), (76, o_get 167), (79, o_iload 4 2), (81, o_rdI 0), (82, o_istore 5 2), (84, o_iload 5 2), (86, o_aload 0 1), (87, o_get 148), (90, o_push 2 (.int 8)), (92, o_rdI 0), (93, o_icmp (fun x y => decide (¬ x = y)) 102), (96, o_iinc 4 (-1)), (99, o_goto 59), (102, o_aload 0 1), (103, o_iload 5 2), (105, o_iload 4 2), (107, o_cv [(30, 346)] 2 3 false none), (110, o_if (fun x => decide (x = 0)) 117), (113, o_push 1 (.int (-1))), (114, o_goto 130), (117, o_aload 0 1), (118, o_aload 0 1), (119, o_get 166), (122, o_iload 4 2), (124, o_rdI 0), (125, o_iload 5 2), (127, o_cv [(30, 310)] 2 3 false none)],
  [(130, o_istore 6 2), (132, o_iload 6 2), (134, o_push 1 (.int (-1))), (135, o_icmp (fun x y => decide (¬ x = y)) 141), (138, o_goto 59), (141, o_aload 0 1), (142, o_get 166), (145, o_iload 4 2), (147, o_push 1 (.int 1)), (148, o_iop (fun x y => x + y)), (149, o_iload 5 2), (151, o_wrI 0), (152, o_aload 0 1), (153, o_get 168), (156, o_iload 4 2), (158, o_push 1 (.int 1)), (159, o_iop (fun x y => x + y)), (160, o_aload 0 1), (161, o_get 168), (164, o_iload 4 2), (166, o_rdI 0), (167, o_aload 0 1), (168, o_get 148), (171, o_push 2 (.int 27)), (173, o_push 1 (.int 4)), (174, o_iload 6 2), (176, o_iop (fun x y => x * y)), (177, o_iop (fun x y => x + y)), (178, o_push 1 (.int 2)), (179, o_iop (fun x y => x + y)), (180, o_rdI 0), (181, o_iop (fun x y => x + y)), (182, o_wrI 0), (183, o_aload 0 1), (184, o_get 169), (187, o_iload 4 2), (189, o_push 1 (.int 1)), (190, o_iop (fun x y => x + y)), (191, o_aload 0 1)],
  [(192, o_get 169), (195, o_iload 4 2), (197, o_rdI 0), (198, o_aload 0 1), (199, o_get 148), (202, o_push 2 (.int 27)), (204, o_push 1 (.int 4)), (205, o_iload 6 2), (207, o_iop (fun x y => x * y)), (208, o_iop (fun x y => x + y)), (209, o_push 1 (.int 3)), (210, o_iop (fun x y => x + y)), (211, o_rdI 0), (212, o_iop (fun x y => x + y)), (213, o_wrI 0), (214, o_aload 0 1), (215, o_get 170), (218, o_iload 4 2), (220, o_push 1 (.int 1)), (221, o_iop (fun x y => x + y)), (222, o_aload 0 1), (223, o_get 170), (226, o_iload 4 2), (228, o_rdI 0), (229, o_aload 0 1), (230, o_get 148), (233, o_push 2 (.int 15)), (235, o_iload 5 2), (237, o_iop (fun x y => x + y)), (238, o_rdI 0), (239, o_iop (fun x y => x + y)), (240, o_wrI 0), (241, o_iload 5 2), (243, o_iload 2 1), (244, o_icmp (fun x y => decide (¬ x = y)) 259), (247, o_aload 0 1), (248, o_iload 4 2), (250, o_push 1 (.int 1)), (251, o_iop (fun x y => x + y)), (252, o_iload 3 1), (253, o_cv [(30, 347)] 2 3 true none)],
  [(256, o_goto 279), (259, o_iload 4 2), (261, o_push 1 (.int 1)), (262, o_iop (fun x y => x + y)), (263, o_push 2 (.int 6)), (265, o_icmp (fun x y => decide (y ≤ x)) 279), (268, o_iinc 4 1), (271, o_aload 0 1), (272, o_get 167), (275, o_iload 4 2), (277, o_push 1 (.int (-1))), (278, o_wrI 0), (279, o_goto 59), (282, o_vret)]])
abbrev cX4_isOnWay : ByteArray := prog_21_method_56_code
def yX4_isOnWay : MethodName := ⟨RX4, "isOnWay", "(II)Z"⟩
def I346 : Mi := ("TollRoadModel", (cX4_isOnWay, (4, ([], ((Option.some Jvm.ClassFile.FieldType.boolean), false)))))
def K346 : Mt := (([0, 1, 1], 4), lk2 [[(0, o_push 1 (.int 0)), (1, o_istore 3 1), (2, o_iload 3 1), (3, o_iload 2 1), (4, o_icmp (fun x y => decide (y < x)) 25), (7, o_aload 0 1), (8, o_get 166), (11, o_iload 3 1), (12, o_rdI 0), (13, o_iload 1 1), (14, o_icmp (fun x y => decide (¬ x = y)) 19), (17, o_push 1 (.int 1)), (18, o_ret 5), (19, o_iinc 3 1), (22, o_goto 2), (25, o_push 1 (.int 0)), (26, o_ret 5)]])
abbrev cX4_noteWay : ByteArray := prog_21_method_57_code
def yX4_noteWay : MethodName := ⟨RX4, "noteWay", "(II)V"⟩
def I347 : Mi := ("TollRoadModel", (cX4_noteWay, (6, ([], ((Option.none : Option Jvm.ClassFile.FieldType), false)))))
def K347 : Mt := (([0, 1, 1], 6), lk2 [[(0, o_aload 0 1), (1, o_aload 0 1), (2, o_get 176), (5, o_aload 0 1), (6, o_get 169), (9, o_iload 1 1), (10, o_rdI 0), (11, o_cs 7 2 false none), (14, o_put 176 1), (17, o_aload 0 1), (18, o_get 168), (21, o_iload 1 1), (22, o_rdI 0), (23, o_istore 3 1), (24, o_iload 3 1), (25, o_aload 0 1), (26, o_push 1 (.int 3)), (27, o_cv [(30, 328)] 1 3 false none), (30, o_iop (fun x y => x * y)), (31, o_iload 2 1), (32, o_push 2 (.int 100)), (34, o_iop (fun x y => x * y)), (35, o_icmp (fun x y => decide (x ≤ y)) 39), (38, o_vret), (39, o_aload 0 1), (40, o_get 170), (43, o_iload 1 1), (44, o_push 1 (.int 1)), (45, o_iop (fun x y => x - y)), (46, o_rdI 0), (47, o_aload 0 1), (48, o_push 1 (.int 2)), (49, o_cv [(30, 328)] 1 3 false none), (52, o_iload 2 1), (53, o_iload 3 1), (54, o_iop (fun x y => x - y)), (55, o_cs 8 1 false none), (58, o_iop (fun x y => x * y)), (59, o_iop (fun x y => x + y)), (60, o_istore 4 2), (62, o_iload 4 2)],
  [(64, o_aload 0 1), (65, o_get 172), (68, o_icmp (fun x y => decide (y < x)) 88), (71, o_iload 4 2), (73, o_aload 0 1), (74, o_get 172), (77, o_icmp (fun x y => decide (¬ x = y)) 89), (80, o_iload 1 1), (81, o_aload 0 1), (82, o_get 173), (85, o_icmp (fun x y => decide (x < y)) 89), (88, o_vret), (89, o_aload 0 1), (90, o_iload 4 2), (92, o_put 172 1), (95, o_aload 0 1), (96, o_iload 1 1), (97, o_put 173 1), (100, o_aload 0 1), (101, o_aload 0 1), (102, o_get 169), (105, o_iload 1 1), (106, o_rdI 0), (107, o_put 174 1), (110, o_aload 0 1), (111, o_iload 3 1), (112, o_put 175 1), (115, o_push 1 (.int 0)), (116, o_istore 5 2), (118, o_iload 5 2), (120, o_iload 1 1), (121, o_icmp (fun x y => decide (y < x)) 144), (124, o_aload 0 1), (125, o_get 171)],
  [(128, o_iload 5 2), (130, o_aload 0 1), (131, o_get 166), (134, o_iload 5 2), (136, o_rdI 0), (137, o_wrI 0), (138, o_iinc 5 1), (141, o_goto 118), (144, o_vret)]])
abbrev cX4_routeGantry : ByteArray := prog_21_method_60_code
def yX4_routeGantry : MethodName := ⟨RX4, "routeGantry", "(IIII)I"⟩
def I348 : Mi := ("TollRoadModel", (cX4_routeGantry, (5, ([], ((Option.some Jvm.ClassFile.FieldType.int), false)))))
def K348 : Mt := (([0, 1, 1, 1, 1], 5), lk2 [[(0, o_aload 0 1), (1, o_push 1 (.int 0)), (2, o_put 155 1), (5, o_aload 0 1), (6, o_iload 1 1), (7, o_cv [(30, 323)] 1 3 false none), (10, o_if (fun x => decide (x = 0)) 21), (13, o_aload 0 1), (14, o_iload 2 1), (15, o_cv [(30, 323)] 1 3 false none), (18, o_if (fun x => decide (¬ x = 0)) 27), (21, o_aload 0 1), (22, o_push 1 (.int 1)), (23, o_cv [(30, 291)] 1 3 false none), (26, o_ret 1), (27, o_iload 1 1), (28, o_iload 2 1), (29, o_icmp (fun x y => decide (x = y)) 48), (32, o_iload 3 1), (33, o_push 1 (.int 0)), (34, o_push 3 (.int 600)), (37, o_cs 293 3 false none), (40, o_if (fun x => decide (x = 0)) 48), (43, o_iload 4 2), (45, o_if (fun x => decide (0 ≤ x)) 54), (48, o_aload 0 1), (49, o_push 1 (.int 2)), (50, o_cv [(30, 291)] 1 3 false none), (53, o_ret 1), (54, o_aload 0 1), (55, o_iload 1 1), (56, o_iload 2 1), (57, o_iload 3 1), (58, o_cv [(30, 345)] 3 3 true none), (61, o_aload 0 1), (62, o_get 172)],
  [(65, o_push 3 (.int 1000000000)), (68, o_icmp (fun x y => decide (x = y)) 80), (71, o_iload 4 2), (73, o_aload 0 1), (74, o_get 173), (77, o_icmp (fun x y => decide (x ≤ y)) 84), (80, o_push 1 (.int (-1))), (81, o_goto 91), (84, o_aload 0 1), (85, o_get 171), (88, o_iload 4 2), (90, o_rdI 0), (91, o_ret 1)]])
abbrev cX4_leastToll : ByteArray := prog_21_method_62_code
def yX4_leastToll : MethodName := ⟨RX4, "leastToll", "(II)I"⟩
def I349 : Mi := ("TollRoadModel", (cX4_leastToll, (3, ([], ((Option.some Jvm.ClassFile.FieldType.int), false)))))
def K349 : Mt := (([0, 1, 1], 3), lk2 [[(0, o_aload 0 1), (1, o_push 1 (.int 0)), (2, o_put 155 1), (5, o_aload 0 1), (6, o_iload 1 1), (7, o_cv [(30, 323)] 1 3 false none), (10, o_if (fun x => decide (x = 0)) 30), (13, o_aload 0 1), (14, o_iload 2 1), (15, o_cv [(30, 323)] 1 3 false none), (18, o_if (fun x => decide (x = 0)) 30), (21, o_aload 0 1), (22, o_iload 1 1), (23, o_iload 2 1), (24, o_cv [(30, 350)] 2 3 false none), (27, o_goto 35), (30, o_aload 0 1), (31, o_push 1 (.int 1)), (32, o_cv [(30, 291)] 1 3 false none), (35, o_ret 1)]])
abbrev cX4_leastTollOf : ByteArray := prog_21_method_61_code
def yX4_leastTollOf : MethodName := ⟨RX4, "leastTollOf", "(II)I"⟩
def I350 : Mi := ("TollRoadModel", (cX4_leastTollOf, (3, ([], ((Option.some Jvm.ClassFile.FieldType.int), false)))))
def K350 : Mt := (([0, 1, 1], 3), lk2 [[(0, o_iload 1 1), (1, o_iload 2 1), (2, o_icmp (fun x y => decide (¬ x = y)) 7), (5, o_push 1 (.int 0)), (6, o_ret 1), (7, o_aload 0 1), (8, o_iload 1 1), (9, o_iload 2 1), (10, o_push 1 (.int 0)), (11, o_cv [(30, 345)] 3 3 true none), (14, o_aload 0 1), (15, o_get 176), (18, o_push 3 (.int 1000000000)), (21, o_icmp (fun x y => decide (¬ x = y)) 28), (24, o_push 1 (.int (-1))), (25, o_goto 32), (28, o_aload 0 1), (29, o_get 176), (32, o_ret 1)]])
abbrev cX4_tagRead : ByteArray := prog_21_method_68_code
def yX4_tagRead : MethodName := ⟨RX4, "tagRead", "(III)I"⟩
def I351 : Mi := ("TollRoadModel", (cX4_tagRead, (4, ([], ((Option.some Jvm.ClassFile.FieldType.int), false)))))
def K351 : Mt := (([0, 1, 1, 1], 4), lk2 [[(0, o_aload 0 1), (1, o_push 1 (.int 0)), (2, o_put 155 1), (5, o_aload 0 1), (6, o_iload 1 1), (7, o_cv [(30, 338)] 1 3 false none), (10, o_if (fun x => decide (x = 0)) 21), (13, o_aload 0 1), (14, o_iload 2 1), (15, o_cv [(30, 323)] 1 3 false none), (18, o_if (fun x => decide (¬ x = 0)) 27), (21, o_aload 0 1), (22, o_push 1 (.int 1)), (23, o_cv [(30, 291)] 1 3 false none), (26, o_ret 1), (27, o_iload 3 1), (28, o_push 1 (.int 0)), (29, o_push 2 (.int 100000)), (31, o_cs 293 3 false none), (34, o_if (fun x => decide (¬ x = 0)) 43), (37, o_aload 0 1), (38, o_push 1 (.int 2)), (39, o_cv [(30, 291)] 1 3 false none), (42, o_ret 1), (43, o_aload 0 1), (44, o_get 148), (47, o_push 2 (.int 12)), (49, o_rdI 0), (50, o_push 2 (.int 120)), (52, o_icmp (fun x y => decide (¬ x = y)) 63), (55, o_aload 0 1), (56, o_push 1 (.int 3)), (57, o_cv [(30, 291)] 1 3 false none), (60, o_goto 73), (63, o_aload 0 1)],
  [(64, o_iload 1 1), (65, o_iload 2 1), (66, o_iload 3 1), (67, o_push 1 (.int 0)), (68, o_push 2 (.int 100)), (70, o_cv [(30, 352)] 5 3 false none), (73, o_ret 1)]])
abbrev cX4_appendRead : ByteArray := prog_21_method_67_code
def yX4_appendRead : MethodName := ⟨RX4, "appendRead", "(IIIII)I"⟩
def I352 : Mi := ("TollRoadModel", (cX4_appendRead, (7, ([], ((Option.some Jvm.ClassFile.FieldType.int), false)))))
def K352 : Mt := (([0, 1, 1, 1, 1, 1], 7), lk2 [[(0, o_aload 0 1), (1, o_get 148), (4, o_push 2 (.int 12)), (6, o_rdI 0), (7, o_istore 6 2), (9, o_aload 0 1), (10, o_iload 6 2), (12, o_push 1 (.int 0)), (13, o_iload 1 1), (14, o_cv [(30, 353)] 3 3 true none), (17, o_aload 0 1), (18, o_iload 6 2), (20, o_push 1 (.int 1)), (21, o_iload 2 1), (22, o_cv [(30, 353)] 3 3 true none), (25, o_aload 0 1), (26, o_iload 6 2), (28, o_push 1 (.int 2)), (29, o_iload 3 1), (30, o_cv [(30, 353)] 3 3 true none), (33, o_aload 0 1), (34, o_iload 6 2), (36, o_push 1 (.int 3)), (37, o_iload 4 2), (39, o_cv [(30, 353)] 3 3 true none), (42, o_aload 0 1), (43, o_iload 6 2), (45, o_push 1 (.int 4)), (46, o_iload 5 2), (48, o_cv [(30, 353)] 3 3 true none), (51, o_aload 0 1), (52, o_iload 6 2), (54, o_push 1 (.int 5)), (55, o_push 1 (.int 0)), (56, o_cv [(30, 353)] 3 3 true none), (59, o_aload 0 1), (60, o_iload 6 2), (62, o_push 2 (.int 6))],
  [(64, o_push 1 (.int (-1))), (65, o_cv [(30, 353)] 3 3 true none), (68, o_aload 0 1), (69, o_get 148), (72, o_push 2 (.int 12)), (74, o_dup2), (75, o_rdI 0), (76, o_push 1 (.int 1)), (77, o_iop (fun x y => x + y)), (78, o_wrI 0), (79, o_iload 4 2), (81, o_if (fun x => decide (x = 0)) 94), (84, o_iload 5 2), (86, o_aload 0 1), (87, o_push 1 (.int 4)), (88, o_cv [(30, 328)] 1 3 false none), (91, o_icmp (fun x y => decide (x < y)) 100), (94, o_aload 0 1), (95, o_iload 6 2), (97, o_cv [(30, 354)] 1 3 true none), (100, o_iload 6 2), (102, o_ret 1)]])
abbrev cX4_putRead : ByteArray := prog_21_method_65_code
def yX4_putRead : MethodName := ⟨RX4, "putRead", "(III)V"⟩
def I353 : Mi := ("TollRoadModel", (cX4_putRead, (4, ([], ((Option.none : Option Jvm.ClassFile.FieldType), false)))))
def K353 : Mt := (([0, 1, 1, 1], 4), lk2 [[(0, o_aload 0 1), (1, o_get 148), (4, o_push 3 (.int 280)), (7, o_push 2 (.int 7)), (9, o_iload 1 1), (10, o_iop (fun x y => x * y)), (11, o_iop (fun x y => x + y)), (12, o_iload 2 1), (13, o_iop (fun x y => x + y)), (14, o_iload 3 1), (15, o_wrI 0), (16, o_vret)]])
abbrev cX4_comeToCount : ByteArray := prog_21_method_66_code
def yX4_comeToCount : MethodName := ⟨RX4, "comeToCount", "(I)V"⟩
def I354 : Mi := ("TollRoadModel", (cX4_comeToCount, (3, ([], ((Option.none : Option Jvm.ClassFile.FieldType), false)))))
def K354 : Mt := (([0, 1], 3), lk2 [[(0, o_aload 0 1), (1, o_aload 0 1), (2, o_iload 1 1), (3, o_push 1 (.int 0)), (4, o_cv [(30, 331)] 2 3 false none), (7, o_cv [(30, 341)] 1 3 false none), (10, o_aload 0 1), (11, o_iload 1 1), (12, o_push 1 (.int 2)), (13, o_cv [(30, 331)] 2 3 false none), (16, o_icmp (fun x y => decide (x < y)) 23), (19, o_push 1 (.int 1)), (20, o_goto 24), (23, o_push 1 (.int 0)), (24, o_istore 2 1), (25, o_aload 0 1), (26, o_iload 1 1), (27, o_push 1 (.int 5)), (28, o_iload 2 1), (29, o_if (fun x => decide (x = 0)) 36), (32, o_push 1 (.int 4)), (33, o_goto 37), (36, o_push 1 (.int 1)), (37, o_cv [(30, 353)] 3 3 true none), (40, o_vret)]])
abbrev cX4_imageRead : ByteArray := prog_21_method_69_code
def yX4_imageRead : MethodName := ⟨RX4, "imageRead", "(IIII)I"⟩
def I355 : Mi := ("TollRoadModel", (cX4_imageRead, (5, ([], ((Option.some Jvm.ClassFile.FieldType.int), false)))))
def K355 : Mt := (([0, 1, 1, 1, 1], 5), lk2 [[(0, o_aload 0 1), (1, o_push 1 (.int 0)), (2, o_put 155 1), (5, o_aload 0 1), (6, o_iload 1 1), (7, o_cv [(30, 338)] 1 3 false none), (10, o_if (fun x => decide (x = 0)) 21), (13, o_aload 0 1), (14, o_iload 2 1), (15, o_cv [(30, 323)] 1 3 false none), (18, o_if (fun x => decide (¬ x = 0)) 27), (21, o_aload 0 1), (22, o_push 1 (.int 1)), (23, o_cv [(30, 291)] 1 3 false none), (26, o_ret 1), (27, o_iload 3 1), (28, o_push 1 (.int 0)), (29, o_push 2 (.int 100000)), (31, o_cs 293 3 false none), (34, o_if (fun x => decide (x = 0)) 48), (37, o_iload 4 2), (39, o_push 1 (.int 0)), (40, o_push 2 (.int 100)), (42, o_cs 293 3 false none), (45, o_if (fun x => decide (¬ x = 0)) 54), (48, o_aload 0 1), (49, o_push 1 (.int 2)), (50, o_cv [(30, 291)] 1 3 false none), (53, o_ret 1), (54, o_aload 0 1), (55, o_get 148), (58, o_push 2 (.int 12)), (60, o_rdI 0), (61, o_push 2 (.int 120)), (63, o_icmp (fun x y => decide (¬ x = y)) 74)],
  [(66, o_aload 0 1), (67, o_push 1 (.int 3)), (68, o_cv [(30, 291)] 1 3 false none), (71, o_goto 84), (74, o_aload 0 1), (75, o_iload 1 1), (76, o_iload 2 1), (77, o_iload 3 1), (78, o_push 1 (.int 1)), (79, o_iload 4 2), (81, o_cv [(30, 352)] 5 3 false none), (84, o_ret 1)]])
abbrev cX4_read : ByteArray := prog_21_method_70_code
def yX4_read : MethodName := ⟨RX4, "read", "(II)I"⟩
def I356 : Mi := ("TollRoadModel", (cX4_read, (3, ([], ((Option.some Jvm.ClassFile.FieldType.int), false)))))
def K356 : Mt := (([0, 1, 1], 3), lk2 [[(0, o_aload 0 1), (1, o_push 1 (.int 0)), (2, o_put 155 1), (5, o_aload 0 1), (6, o_iload 1 1), (7, o_cv [(30, 357)] 1 3 false none), (10, o_if (fun x => decide (¬ x = 0)) 19), (13, o_aload 0 1), (14, o_push 1 (.int 1)), (15, o_cv [(30, 291)] 1 3 false none), (18, o_ret 1), (19, o_iload 2 1), (20, o_push 1 (.int 0)), (21, o_push 2 (.int 6)), (23, o_cs 293 3 false none), (26, o_if (fun x => decide (x = 0)) 38), (29, o_aload 0 1), (30, o_iload 1 1), (31, o_iload 2 1), (32, o_cv [(30, 331)] 2 3 false none), (35, o_goto 43), (38, o_aload 0 1), (39, o_push 1 (.int 2)), (40, o_cv [(30, 291)] 1 3 false none), (43, o_ret 1)]])
abbrev cX4_isRead : ByteArray := prog_21_method_63_code
def yX4_isRead : MethodName := ⟨RX4, "isRead", "(I)Z"⟩
def I357 : Mi := ("TollRoadModel", (cX4_isRead, (2, ([], ((Option.some Jvm.ClassFile.FieldType.boolean), false)))))
def K357 : Mt := (([0, 1], 2), lk2 [[(0, o_iload 1 1), (1, o_push 1 (.int 0)), (2, o_aload 0 1), (3, o_get 148), (6, o_push 2 (.int 12)), (8, o_rdI 0), (9, o_push 1 (.int 1)), (10, o_iop (fun x y => x - y)), (11, o_cs 293 3 false none), (14, o_ret 5)]])
abbrev cX4_review : ByteArray := prog_21_method_73_code
def yX4_review : MethodName := ⟨RX4, "review", "(I)I"⟩
def I358 : Mi := ("TollRoadModel", (cX4_review, (2, ([], ((Option.some Jvm.ClassFile.FieldType.int), false)))))
def K358 : Mt := (([0, 1], 2), lk2 [[(0, o_aload 0 1), (1, o_push 1 (.int 0)), (2, o_put 155 1), (5, o_iload 1 1), (6, o_if (fun x => decide (0 ≤ x)) 17), (9, o_aload 0 1), (10, o_push 1 (.int 1)), (11, o_cv [(30, 291)] 1 3 false none), (14, o_goto 22), (17, o_aload 0 1), (18, o_iload 1 1), (19, o_cv [(30, 359)] 1 3 false none), (22, o_ret 1)]])
abbrev cX4_reviewAt : ByteArray := prog_21_method_72_code
def yX4_reviewAt : MethodName := ⟨RX4, "reviewAt", "(I)I"⟩
def I359 : Mi := ("TollRoadModel", (cX4_reviewAt, (5, ([], ((Option.some Jvm.ClassFile.FieldType.int), false)))))
def K359 : Mt := (([0, 1], 5), lk2 [[(0, o_push 1 (.int 0)), (1, o_istore 2 1), (2, o_iload 2 1), (3, o_aload 0 1), (4, o_get 148), (7, o_push 2 (.int 12)), (9, o_rdI 0), (10, o_icmp (fun x y => decide (y ≤ x)) 95), (13, o_aload 0 1), (14, o_iload 2 1), (15, o_push 1 (.int 5)), (16, o_cv [(30, 331)] 2 3 false none), (19, o_if (fun x => decide (x = 0)) 25), (22, o_goto 89), (25, o_push 1 (.int 0)), (26, o_istore 3 1), (27, o_push 1 (.int 0)), (28, o_istore 4 2), (30, o_iload 4 2), (32, o_aload 0 1), (33, o_get 148), (36, o_push 2 (.int 12)), (38, o_rdI 0), (39, o_icmp (fun x y => decide (y ≤ x)) 82), (42, o_iload 3 1), (43, o_aload 0 1), (44, o_iload 4 2), (46, o_push 1 (.int 5)), (47, o_cv [(30, 331)] 2 3 false none), (50, o_if (fun x => decide (¬ x = 0)) 73), (53, o_iload 4 2), (55, o_iload 2 1), (56, o_icmp (fun x y => decide (x = y)) 73), (59, o_aload 0 1), (60, o_iload 4 2), (62, o_iload 2 1), (63, o_cv [(30, 360)] 2 3 false none)],
  [(66, o_if (fun x => decide (x = 0)) 73), (69, o_push 1 (.int 1)), (70, o_goto 74), (73, o_push 1 (.int 0)), (74, o_iop (fun x y => x + y)), (75, o_istore 3 1), (76, o_iinc 4 1), (79, o_goto 30), (82, o_iload 3 1), (83, o_iload 1 1), (84, o_icmp (fun x y => decide (¬ x = y)) 89), (87, o_iload 2 1), (88, o_ret 1), (89, o_iinc 2 1), (92, o_goto 2), (95, o_push 1 (.int (-1))), (96, o_ret 1)]])
abbrev cX4_isAhead : ByteArray := prog_21_method_71_code
def yX4_isAhead : MethodName := ⟨RX4, "isAhead", "(II)Z"⟩
def I360 : Mi := ("TollRoadModel", (cX4_isAhead, (6, ([], ((Option.some Jvm.ClassFile.FieldType.boolean), false)))))
def K360 : Mt := (([0, 1, 1], 6), lk2 [[(0, o_aload 0 1), (1, o_aload 0 1), (2, o_iload 1 1), (3, o_push 1 (.int 0)), (4, o_cv [(30, 331)] 2 3 false none), (7, o_push 1 (.int 0)), (8, o_cv [(30, 339)] 2 3 false none), (11, o_aload 0 1), (12, o_aload 0 1), (13, o_iload 2 1), (14, o_push 1 (.int 0)), (15, o_cv [(30, 331)] 2 3 false none), (18, o_push 1 (.int 0)), (19, o_cv [(30, 339)] 2 3 false none), (22, o_iop (fun x y => x - y)), (23, o_istore 3 1), (24, o_iload 3 1), (25, o_if (fun x => decide (x = 0)) 38), (28, o_iload 3 1), (29, o_if (fun x => decide (x ≤ 0)) 36), (32, o_push 1 (.int 1)), (33, o_goto 37), (36, o_push 1 (.int 0)), (37, o_ret 5), (38, o_aload 0 1), (39, o_iload 1 1), (40, o_push 1 (.int 4)), (41, o_cv [(30, 331)] 2 3 false none), (44, o_aload 0 1), (45, o_iload 2 1), (46, o_push 1 (.int 4)), (47, o_cv [(30, 331)] 2 3 false none), (50, o_iop (fun x y => x - y)), (51, o_istore 4 2), (53, o_iload 4 2), (55, o_if (fun x => decide (x = 0)) 69), (58, o_iload 4 2), (60, o_if (fun x => decide (0 ≤ x)) 67), (63, o_push 1 (.int 1))],
  [(64, o_goto 68), (67, o_push 1 (.int 0)), (68, o_ret 5), (69, o_aload 0 1), (70, o_iload 1 1), (71, o_push 1 (.int 2)), (72, o_cv [(30, 331)] 2 3 false none), (75, o_aload 0 1), (76, o_iload 2 1), (77, o_push 1 (.int 2)), (78, o_cv [(30, 331)] 2 3 false none), (81, o_iop (fun x y => x - y)), (82, o_istore 5 2), (84, o_iload 5 2), (86, o_if (fun x => decide (x < 0)) 99), (89, o_iload 5 2), (91, o_if (fun x => decide (¬ x = 0)) 103), (94, o_iload 1 1), (95, o_iload 2 1), (96, o_icmp (fun x y => decide (y ≤ x)) 103), (99, o_push 1 (.int 1)), (100, o_goto 104), (103, o_push 1 (.int 0)), (104, o_ret 5)]])
abbrev cX4_decide : ByteArray := prog_21_method_74_code
def yX4_decide : MethodName := ⟨RX4, "decide", "(I)I"⟩
def I361 : Mi := ("TollRoadModel", (cX4_decide, (3, ([], ((Option.some Jvm.ClassFile.FieldType.int), false)))))
def K361 : Mt := (([0, 1], 3), lk2 [[(0, o_aload 0 1), (1, o_push 1 (.int 0)), (2, o_put 155 1), (5, o_iload 1 1), (6, o_push 1 (.int (-1))), (7, o_icmp (fun x y => decide (x = y)) 24), (10, o_aload 0 1), (11, o_iload 1 1), (12, o_cv [(30, 338)] 1 3 false none), (15, o_if (fun x => decide (¬ x = 0)) 24), (18, o_aload 0 1), (19, o_push 1 (.int 1)), (20, o_cv [(30, 291)] 1 3 false none), (23, o_ret 1), (24, o_aload 0 1), (25, o_push 1 (.int 0)), (26, o_cv [(30, 359)] 1 3 false none), (29, o_istore 2 1), (30, o_iload 2 1), (31, o_push 1 (.int (-1))), (32, o_icmp (fun x y => decide (¬ x = y)) 41), (35, o_aload 0 1), (36, o_push 1 (.int 2)), (37, o_cv [(30, 291)] 1 3 false none), (40, o_ret 1), (41, o_iload 1 1), (42, o_push 1 (.int (-1))), (43, o_icmp (fun x y => decide (¬ x = y)) 56), (46, o_aload 0 1), (47, o_iload 2 1), (48, o_push 1 (.int 5)), (49, o_push 1 (.int 2)), (50, o_cv [(30, 353)] 3 3 true none), (53, o_goto 76), (56, o_aload 0 1), (57, o_iload 2 1), (58, o_push 1 (.int 0)), (59, o_iload 1 1), (60, o_cv [(30, 353)] 3 3 true none), (63, o_aload 0 1)],
  [(64, o_iload 2 1), (65, o_push 1 (.int 4)), (66, o_push 2 (.int 100)), (68, o_cv [(30, 353)] 3 3 true none), (71, o_aload 0 1), (72, o_iload 2 1), (73, o_cv [(30, 354)] 1 3 true none), (76, o_iload 2 1), (77, o_ret 1)]])
abbrev cX4_correct : ByteArray := prog_21_method_75_code
def yX4_correct : MethodName := ⟨RX4, "correct", "(II)I"⟩
def I362 : Mi := ("TollRoadModel", (cX4_correct, (3, ([], ((Option.some Jvm.ClassFile.FieldType.int), false)))))
def K362 : Mt := (([0, 1, 1], 3), lk2 [[(0, o_aload 0 1), (1, o_push 1 (.int 0)), (2, o_put 155 1), (5, o_aload 0 1), (6, o_iload 1 1), (7, o_cv [(30, 357)] 1 3 false none), (10, o_if (fun x => decide (x = 0)) 21), (13, o_aload 0 1), (14, o_iload 2 1), (15, o_cv [(30, 338)] 1 3 false none), (18, o_if (fun x => decide (¬ x = 0)) 27), (21, o_aload 0 1), (22, o_push 1 (.int 1)), (23, o_cv [(30, 291)] 1 3 false none), (26, o_ret 1), (27, o_aload 0 1), (28, o_iload 1 1), (29, o_push 1 (.int 5)), (30, o_cv [(30, 331)] 2 3 false none), (33, o_push 1 (.int 1)), (34, o_icmp (fun x y => decide (x = y)) 53), (37, o_aload 0 1), (38, o_iload 1 1), (39, o_push 1 (.int 5)), (40, o_cv [(30, 331)] 2 3 false none), (43, o_push 1 (.int 4)), (44, o_icmp (fun x y => decide (x = y)) 53), (47, o_aload 0 1), (48, o_push 1 (.int 2)), (49, o_cv [(30, 291)] 1 3 false none), (52, o_ret 1), (53, o_aload 0 1), (54, o_iload 1 1), (55, o_push 1 (.int 0)), (56, o_iload 2 1), (57, o_cv [(30, 353)] 3 3 true none), (60, o_aload 0 1), (61, o_iload 1 1), (62, o_cv [(30, 354)] 1 3 true none)],
  [(65, o_aload 0 1), (66, o_iload 1 1), (67, o_push 1 (.int 5)), (68, o_cv [(30, 331)] 2 3 false none), (71, o_ret 1)]])
abbrev cX4_trips : ByteArray := prog_21_method_81_code
def yX4_trips : MethodName := ⟨RX4, "trips", "(I)I"⟩
def I363 : Mi := ("TollRoadModel", (cX4_trips, (2, ([], ((Option.some Jvm.ClassFile.FieldType.int), false)))))
def K363 : Mt := (([0, 1], 2), lk2 [[(0, o_aload 0 1), (1, o_push 1 (.int 0)), (2, o_put 155 1), (5, o_aload 0 1), (6, o_iload 1 1), (7, o_cv [(30, 338)] 1 3 false none), (10, o_if (fun x => decide (¬ x = 0)) 19), (13, o_aload 0 1), (14, o_push 1 (.int 1)), (15, o_cv [(30, 291)] 1 3 false none), (18, o_ret 1), (19, o_aload 0 1), (20, o_iload 1 1), (21, o_cv [(30, 364)] 1 3 true none), (24, o_aload 0 1), (25, o_get 185), (28, o_ret 1)]])
abbrev cX4_layTrips : ByteArray := prog_21_method_80_code
def yX4_layTrips : MethodName := ⟨RX4, "layTrips", "(I)V"⟩
def I364 : Mi := ("TollRoadModel", (cX4_layTrips, (6, ([], ((Option.none : Option Jvm.ClassFile.FieldType), false)))))
def K364 : Mt := (([0, 1], 6), lk2 [[(0, o_aload 0 1), (1, o_iload 1 1), (2, o_cv [(30, 365)] 1 3 true none), (5, o_aload 0 1), (6, o_push 1 (.int 0)), (7, o_put 185 1), (10, o_aload 0 1), (11, o_push 1 (.int 0)), (12, o_put 186 1), (15, o_push 1 (.int (-1))), (16, o_istore 2 1), (17, o_push 1 (.int 0)), (18, o_istore 3 1), (19, o_iload 3 1), (20, o_aload 0 1), (21, o_get 184), (24, o_icmp (fun x y => decide (y ≤ x)) 132), (27, o_aload 0 1), (28, o_get 177), (31, o_iload 3 1), (32, o_rdI 0), (33, o_istore 4 2), (35, o_iload 2 1), (36, o_push 1 (.int (-1))), (37, o_icmp (fun x y => decide (x = y)) 82), (40, o_aload 0 1), (41, o_iload 2 1), (42, o_push 1 (.int 1)), (43, o_cv [(30, 331)] 2 3 false none), (46, o_aload 0 1), (47, o_iload 4 2), (49, o_push 1 (.int 1)), (50, o_cv [(30, 331)] 2 3 false none), (53, o_icmp (fun x y => decide (¬ x = y)) 82), (56, o_aload 0 1), (57, o_iload 4 2), (59, o_push 1 (.int 2)), (60, o_cv [(30, 331)] 2 3 false none), (63, o_aload 0 1)],
  [(64, o_iload 2 1), (65, o_push 1 (.int 2)), (66, o_cv [(30, 331)] 2 3 false none), (69, o_iop (fun x y => x - y)), (70, o_aload 0 1), (71, o_push 1 (.int 1)), (72, o_cv [(30, 328)] 1 3 false none), (75, o_icmp (fun x y => decide (y < x)) 82), (78, o_push 1 (.int 1)), (79, o_goto 83), (82, o_push 1 (.int 0)), (83, o_istore 5 2), (85, o_iload 5 2), (87, o_if (fun x => decide (¬ x = 0)) 114), (90, o_iload 2 1), (91, o_push 1 (.int (-1))), (92, o_icmp (fun x y => decide (x = y)) 105), (95, o_aload 0 1), (96, o_iload 2 1), (97, o_iload 4 2), (99, o_cv [(30, 366)] 2 3 false none), (102, o_if (fun x => decide (¬ x = 0)) 111), (105, o_aload 0 1), (106, o_iload 4 2), (108, o_cv [(30, 368)] 1 3 true none), (111, o_iload 4 2), (113, o_istore 2 1), (114, o_aload 0 1), (115, o_get 178), (118, o_iload 3 1), (119, o_aload 0 1), (120, o_get 185), (123, o_push 1 (.int 1)), (124, o_iop (fun x y => x - y)), (125, o_wrI 0), (126, o_iinc 3 1)],
  [(129, o_goto 19), (132, o_aload 0 1), (133, o_get 179), (136, o_aload 0 1), (137, o_get 185), (140, o_aload 0 1), (141, o_get 186), (144, o_wrI 0), (145, o_vret)]])
abbrev cX4_layOrder : ByteArray := prog_21_method_76_code
def yX4_layOrder : MethodName := ⟨RX4, "layOrder", "(I)V"⟩
def I365 : Mi := ("TollRoadModel", (cX4_layOrder, (4, ([], ((Option.none : Option Jvm.ClassFile.FieldType), false)))))
def K365 : Mt := (([0, 1], 4), lk2 [[(0, o_aload 0 1), (1, o_push 1 (.int 0)), (2, o_put 184 1), (5, o_push 1 (.int 0)), (6, o_istore 2 1), (7, o_iload 2 1), (8, o_aload 0 1), (9, o_get 148), (12, o_push 2 (.int 12)), (14, o_rdI 0), (15, o_icmp (fun x y => decide (y ≤ x)) 115), (18, o_aload 0 1), (19, o_iload 2 1), (20, o_push 1 (.int 0)), (21, o_cv [(30, 331)] 2 3 false none), (24, o_iload 1 1), (25, o_icmp (fun x y => decide (¬ x = y)) 109), (28, o_aload 0 1), (29, o_iload 2 1), (30, o_push 1 (.int 5)), (31, o_cv [(30, 331)] 2 3 false none), (34, o_push 1 (.int 1)), (35, o_icmp (fun x y => decide (x = y)) 41), (38, o_goto 109), (41, o_aload 0 1), (42, o_get 184), (45, o_istore 3 1), (46, o_iload 3 1), (47, o_if (fun x => decide (x ≤ 0)) 92), (50, o_aload 0 1), (51, o_aload 0 1), (52, o_get 177), (55, o_iload 3 1), (56, o_push 1 (.int 1)), (57, o_iop (fun x y => x - y)), (58, o_rdI 0), (59, o_push 1 (.int 2)), (60, o_cv [(30, 331)] 2 3 false none), (63, o_aload 0 1)],
  [(64, o_iload 2 1), (65, o_push 1 (.int 2)), (66, o_cv [(30, 331)] 2 3 false none), (69, o_icmp (fun x y => decide (x ≤ y)) 92), (72, o_aload 0 1), (73, o_get 177), (76, o_iload 3 1), (77, o_aload 0 1), (78, o_get 177), (81, o_iload 3 1), (82, o_push 1 (.int 1)), (83, o_iop (fun x y => x - y)), (84, o_rdI 0), (85, o_wrI 0), (86, o_iinc 3 (-1)), (89, o_goto 46), (92, o_aload 0 1), (93, o_get 177), (96, o_iload 3 1), (97, o_iload 2 1), (98, o_wrI 0), (99, o_aload 0 1), (100, o_dup), (101, o_get 184), (104, o_push 1 (.int 1)), (105, o_iop (fun x y => x + y)), (106, o_put 184 1), (109, o_iinc 2 1), (112, o_goto 7), (115, o_vret)]])
abbrev cX4_goesOn : ByteArray := prog_21_method_79_code
def yX4_goesOn : MethodName := ⟨RX4, "goesOn", "(II)Z"⟩
def I366 : Mi := ("TollRoadModel", (cX4_goesOn, (5, ([], ((Option.some Jvm.ClassFile.FieldType.boolean), false)))))
def K366 : Mt := (([0, 1, 1], 5), lk2 [[(0, o_aload 0 1), (1, o_iload 2 1), (2, o_push 1 (.int 2)), (3, o_cv [(30, 331)] 2 3 false none), (6, o_aload 0 1), (7, o_iload 1 1), (8, o_push 1 (.int 2)), (9, o_cv [(30, 331)] 2 3 false none), (12, o_iop (fun x y => x - y)), (13, o_istore 3 1), (14, o_aload 0 1), (15, o_iload 1 1), (16, o_push 1 (.int 1)), (17, o_cv [(30, 331)] 2 3 false none), (20, o_aload 0 1), (21, o_iload 2 1), (22, o_push 1 (.int 1)), (23, o_cv [(30, 331)] 2 3 false none), (26, o_icmp (fun x y => decide (x = y)) 38), (29, o_iload 3 1), (30, o_aload 0 1), (31, o_push 1 (.int 0)), (32, o_cv [(30, 328)] 1 3 false none), (35, o_icmp (fun x y => decide (x ≤ y)) 40), (38, o_push 1 (.int 0)), (39, o_ret 5), (40, o_aload 0 1), (41, o_aload 0 1), (42, o_iload 1 1), (43, o_push 1 (.int 1)), (44, o_cv [(30, 331)] 2 3 false none), (47, o_aload 0 1), (48, o_iload 2 1), (49, o_push 1 (.int 1)), (50, o_cv [(30, 331)] 2 3 false none), (53, o_iload 3 1), (54, o_cv [(30, 345)] 3 3 true none), (57, o_aload 0 1), (58, o_get 172), (61, o_push 3 (.int 1000000000))],
  [(64, o_icmp (fun x y => decide (¬ x = y)) 69), (67, o_push 1 (.int 0)), (68, o_ret 5), (69, o_aload 0 1), (70, o_get 180), (73, o_aload 0 1), (74, o_get 185), (77, o_push 1 (.int 1)), (78, o_iop (fun x y => x - y)), (79, o_dup2), (80, o_rdI 0), (81, o_aload 0 1), (82, o_get 172), (85, o_iop (fun x y => x + y)), (86, o_wrI 0), (87, o_aload 0 1), (88, o_get 181), (91, o_aload 0 1), (92, o_get 185), (95, o_push 1 (.int 1)), (96, o_iop (fun x y => x - y)), (97, o_dup2), (98, o_rdI 0), (99, o_aload 0 1), (100, o_get 174), (103, o_iop (fun x y => x + y)), (104, o_wrI 0), (105, o_push 1 (.int 1)), (106, o_istore 4 2), (108, o_iload 4 2), (110, o_aload 0 1), (111, o_get 173), (114, o_icmp (fun x y => decide (y < x)) 148), (117, o_aload 0 1), (118, o_aload 0 1), (119, o_get 171), (122, o_iload 4 2), (124, o_rdI 0), (125, o_iload 4 2), (127, o_aload 0 1)],
  [(128, o_get 173), (131, o_icmp (fun x y => decide (y ≤ x)) 138), (134, o_push 1 (.int 1)), (135, o_goto 139), (138, o_push 1 (.int 0)), (139, o_cv [(30, 367)] 2 3 true none), (142, o_iinc 4 1), (145, o_goto 108), (148, o_push 1 (.int 1)), (149, o_ret 5)]])
abbrev cX4_addPlace : ByteArray := prog_21_method_77_code
def yX4_addPlace : MethodName := ⟨RX4, "addPlace", "(IZ)V"⟩
def I367 : Mi := ("TollRoadModel", (cX4_addPlace, (3, ([], ((Option.none : Option Jvm.ClassFile.FieldType), false)))))
def K367 : Mt := (([0, 1, 1], 3), lk2 [[(0, o_aload 0 1), (1, o_get 182), (4, o_aload 0 1), (5, o_get 186), (8, o_iload 1 1), (9, o_wrI 0), (10, o_aload 0 1), (11, o_get 183), (14, o_aload 0 1), (15, o_get 186), (18, o_iload 2 1), (19, o_wrI 2), (20, o_aload 0 1), (21, o_dup), (22, o_get 186), (25, o_push 1 (.int 1)), (26, o_iop (fun x y => x + y)), (27, o_put 186 1), (30, o_vret)]])
abbrev cX4_beginTrip : ByteArray := prog_21_method_78_code
def yX4_beginTrip : MethodName := ⟨RX4, "beginTrip", "(I)V"⟩
def I368 : Mi := ("TollRoadModel", (cX4_beginTrip, (2, ([], ((Option.none : Option Jvm.ClassFile.FieldType), false)))))
def K368 : Mt := (([0, 1], 2), lk2 [[(0, o_aload 0 1), (1, o_get 179), (4, o_aload 0 1), (5, o_get 185), (8, o_aload 0 1), (9, o_get 186), (12, o_wrI 0), (13, o_aload 0 1), (14, o_get 180), (17, o_aload 0 1), (18, o_get 185), (21, o_push 1 (.int 0)), (22, o_wrI 0), (23, o_aload 0 1), (24, o_get 181), (27, o_aload 0 1), (28, o_get 185), (31, o_push 1 (.int 0)), (32, o_wrI 0), (33, o_aload 0 1), (34, o_dup), (35, o_get 185), (38, o_push 1 (.int 1)), (39, o_iop (fun x y => x + y)), (40, o_put 185 1), (43, o_aload 0 1), (44, o_aload 0 1), (45, o_iload 1 1), (46, o_push 1 (.int 1)), (47, o_cv [(30, 331)] 2 3 false none), (50, o_push 1 (.int 0)), (51, o_cv [(30, 367)] 2 3 true none), (54, o_vret)]])
abbrev cX4_trip : ByteArray := prog_21_method_87_code
def yX4_trip : MethodName := ⟨RX4, "trip", "(III)I"⟩
def I369 : Mi := ("TollRoadModel", (cX4_trip, (4, ([], ((Option.some Jvm.ClassFile.FieldType.int), false)))))
def K369 : Mt := (([0, 1, 1, 1], 4), lk2 [[(0, o_aload 0 1), (1, o_push 1 (.int 0)), (2, o_put 155 1), (5, o_aload 0 1), (6, o_iload 1 1), (7, o_iload 2 1), (8, o_cv [(30, 370)] 2 3 false none), (11, o_if (fun x => decide (¬ x = 0)) 20), (14, o_aload 0 1), (15, o_push 1 (.int 1)), (16, o_cv [(30, 291)] 1 3 false none), (19, o_ret 1), (20, o_iload 3 1), (21, o_sw (swt 0 [68, 75, 82, 89, 95, 101, 115, 122] 129))],
  [(68, o_aload 0 1), (69, o_iload 2 1), (70, o_push 1 (.int 0)), (71, o_cv [(30, 371)] 2 3 false none), (74, o_ret 1), (75, o_aload 0 1), (76, o_iload 2 1), (77, o_push 1 (.int 1)), (78, o_cv [(30, 371)] 2 3 false none), (81, o_ret 1), (82, o_aload 0 1), (83, o_iload 2 1), (84, o_push 1 (.int 0)), (85, o_cv [(30, 372)] 2 3 false none), (88, o_ret 1), (89, o_aload 0 1), (90, o_iload 2 1), (91, o_cv [(30, 373)] 1 3 false none), (94, o_ret 1), (95, o_aload 0 1), (96, o_iload 2 1), (97, o_cv [(30, 374)] 1 3 false none), (100, o_ret 1), (101, o_aload 0 1), (102, o_get 181), (105, o_iload 2 1), (106, o_rdI 0), (107, o_aload 0 1), (108, o_iload 1 1), (109, o_push 1 (.int 0)), (110, o_cv [(30, 339)] 2 3 false none), (113, o_iop (fun x y => x * y)), (114, o_ret 1), (115, o_aload 0 1), (116, o_get 180), (119, o_iload 2 1), (120, o_rdI 0), (121, o_ret 1), (122, o_aload 0 1), (123, o_iload 2 1), (124, o_push 1 (.int 1)), (125, o_cv [(30, 372)] 2 3 false none)],
  [(128, o_ret 1), (129, o_aload 0 1), (130, o_push 1 (.int 2)), (131, o_cv [(30, 291)] 1 3 false none), (134, o_ret 1)]])
abbrev cX4_isTrip : ByteArray := prog_21_method_86_code
def yX4_isTrip : MethodName := ⟨RX4, "isTrip", "(II)Z"⟩
def I370 : Mi := ("TollRoadModel", (cX4_isTrip, (3, ([], ((Option.some Jvm.ClassFile.FieldType.boolean), false)))))
def K370 : Mt := (([0, 1, 1], 3), lk2 [[(0, o_aload 0 1), (1, o_iload 1 1), (2, o_cv [(30, 338)] 1 3 false none), (5, o_if (fun x => decide (¬ x = 0)) 10), (8, o_push 1 (.int 0)), (9, o_ret 5), (10, o_aload 0 1), (11, o_iload 1 1), (12, o_cv [(30, 364)] 1 3 true none), (15, o_iload 2 1), (16, o_push 1 (.int 0)), (17, o_aload 0 1), (18, o_get 185), (21, o_push 1 (.int 1)), (22, o_iop (fun x y => x - y)), (23, o_cs 293 3 false none), (26, o_ret 5)]])
abbrev cX4_timeOf : ByteArray := prog_21_method_82_code
def yX4_timeOf : MethodName := ⟨RX4, "timeOf", "(IZ)I"⟩
def I371 : Mi := ("TollRoadModel", (cX4_timeOf, (5, ([], ((Option.some Jvm.ClassFile.FieldType.int), false)))))
def K371 : Mt := (([0, 1, 1], 5), lk2 [[(0, o_push 1 (.int (-1))), (1, o_istore 3 1), (2, o_push 1 (.int 0)), (3, o_istore 4 2), (5, o_iload 4 2), (7, o_aload 0 1), (8, o_get 184), (11, o_icmp (fun x y => decide (y ≤ x)) 53), (14, o_aload 0 1), (15, o_get 178), (18, o_iload 4 2), (20, o_rdI 0), (21, o_iload 1 1), (22, o_icmp (fun x y => decide (¬ x = y)) 47), (25, o_iload 2 1), (26, o_if (fun x => decide (¬ x = 0)) 34), (29, o_iload 3 1), (30, o_push 1 (.int (-1))), (31, o_icmp (fun x y => decide (¬ x = y)) 47), (34, o_aload 0 1), (35, o_aload 0 1), (36, o_get 177), (39, o_iload 4 2), (41, o_rdI 0), (42, o_push 1 (.int 2)), (43, o_cv [(30, 331)] 2 3 false none), (46, o_istore 3 1), (47, o_iinc 4 1), (50, o_goto 5), (53, o_iload 3 1), (54, o_ret 1)]])
abbrev cX4_readsOn : ByteArray := prog_21_method_83_code
def yX4_readsOn : MethodName := ⟨RX4, "readsOn", "(IZ)I"⟩
def I372 : Mi := ("TollRoadModel", (cX4_readsOn, (6, ([], ((Option.some Jvm.ClassFile.FieldType.int), false)))))
def K372 : Mt := (([0, 1, 1], 6), lk2 [[(0, o_push 1 (.int 0)), (1, o_istore 3 1), (2, o_push 1 (.int 0)), (3, o_istore 4 2), (5, o_iload 4 2), (7, o_aload 0 1), (8, o_get 184), (11, o_icmp (fun x y => decide (y ≤ x)) 71), (14, o_aload 0 1), (15, o_get 178), (18, o_iload 4 2), (20, o_rdI 0), (21, o_iload 1 1), (22, o_icmp (fun x y => decide (¬ x = y)) 49), (25, o_iload 2 1), (26, o_if (fun x => decide (x = 0)) 45), (29, o_aload 0 1), (30, o_aload 0 1), (31, o_get 177), (34, o_iload 4 2), (36, o_rdI 0), (37, o_push 1 (.int 3)), (38, o_cv [(30, 331)] 2 3 false none), (41, o_push 1 (.int 1)), (42, o_icmp (fun x y => decide (¬ x = y)) 49), (45, o_push 1 (.int 1)), (46, o_goto 50), (49, o_push 1 (.int 0)), (50, o_istore 5 2), (52, o_iload 3 1), (53, o_iload 5 2), (55, o_if (fun x => decide (x = 0)) 62), (58, o_push 1 (.int 1)), (59, o_goto 63), (62, o_push 1 (.int 0)), (63, o_iop (fun x y => x + y))],
  [(64, o_istore 3 1), (65, o_iinc 4 1), (68, o_goto 5), (71, o_iload 3 1), (72, o_ret 1)]])
abbrev cX4_placesOf : ByteArray := prog_21_method_84_code
def yX4_placesOf : MethodName := ⟨RX4, "placesOf", "(I)I"⟩
def I373 : Mi := ("TollRoadModel", (cX4_placesOf, (2, ([], ((Option.some Jvm.ClassFile.FieldType.int), false)))))
def K373 : Mt := (([0, 1], 2), lk2 [[(0, o_aload 0 1), (1, o_get 179), (4, o_iload 1 1), (5, o_push 1 (.int 1)), (6, o_iop (fun x y => x + y)), (7, o_rdI 0), (8, o_aload 0 1), (9, o_get 179), (12, o_iload 1 1), (13, o_rdI 0), (14, o_iop (fun x y => x - y)), (15, o_ret 1)]])
abbrev cX4_missingOf : ByteArray := prog_21_method_85_code
def yX4_missingOf : MethodName := ⟨RX4, "missingOf", "(I)I"⟩
def I374 : Mi := ("TollRoadModel", (cX4_missingOf, (4, ([], ((Option.some Jvm.ClassFile.FieldType.int), false)))))
def K374 : Mt := (([0, 1], 4), lk2 [[(0, o_push 1 (.int 0)), (1, o_istore 2 1), (2, o_aload 0 1), (3, o_get 179), (6, o_iload 1 1), (7, o_rdI 0), (8, o_istore 3 1), (9, o_iload 3 1), (10, o_aload 0 1), (11, o_get 179), (14, o_iload 1 1), (15, o_push 1 (.int 1)), (16, o_iop (fun x y => x + y)), (17, o_rdI 0), (18, o_icmp (fun x y => decide (y ≤ x)) 44), (21, o_iload 2 1), (22, o_aload 0 1), (23, o_get 183), (26, o_iload 3 1), (27, o_rdI 2), (28, o_if (fun x => decide (x = 0)) 35), (31, o_push 1 (.int 1)), (32, o_goto 36), (35, o_push 1 (.int 0)), (36, o_iop (fun x y => x + y)), (37, o_istore 2 1), (38, o_iinc 3 1), (41, o_goto 9), (44, o_iload 2 1), (45, o_ret 1)]])
abbrev cX4_tripGantry : ByteArray := prog_21_method_88_code
def yX4_tripGantry : MethodName := ⟨RX4, "tripGantry", "(III)I"⟩
def I375 : Mi := ("TollRoadModel", (cX4_tripGantry, (4, ([], ((Option.some Jvm.ClassFile.FieldType.int), false)))))
def K375 : Mt := (([0, 1, 1, 1], 4), lk2 [[(0, o_aload 0 1), (1, o_push 1 (.int 0)), (2, o_put 155 1), (5, o_aload 0 1), (6, o_iload 1 1), (7, o_iload 2 1), (8, o_cv [(30, 370)] 2 3 false none), (11, o_if (fun x => decide (x = 0)) 29), (14, o_iload 3 1), (15, o_push 1 (.int 0)), (16, o_aload 0 1), (17, o_iload 2 1), (18, o_cv [(30, 373)] 1 3 false none), (21, o_push 1 (.int 1)), (22, o_iop (fun x y => x - y)), (23, o_cs 293 3 false none), (26, o_if (fun x => decide (¬ x = 0)) 35), (29, o_aload 0 1), (30, o_push 1 (.int 1)), (31, o_cv [(30, 291)] 1 3 false none), (34, o_ret 1), (35, o_aload 0 1), (36, o_get 182), (39, o_aload 0 1), (40, o_get 179), (43, o_iload 2 1), (44, o_rdI 0), (45, o_iload 3 1), (46, o_iop (fun x y => x + y)), (47, o_rdI 0), (48, o_ret 1)]])
abbrev cX4_bill : ByteArray := prog_21_method_100_code
def yX4_bill : MethodName := ⟨RX4, "bill", "(II)I"⟩
def I376 : Mi := ("TollRoadModel", (cX4_bill, (3, ([], ((Option.some Jvm.ClassFile.FieldType.int), false)))))
def K376 : Mt := (([0, 1, 1], 3), lk2 [[(0, o_aload 0 1), (1, o_push 1 (.int 0)), (2, o_put 155 1), (5, o_aload 0 1), (6, o_iload 1 1), (7, o_cv [(30, 338)] 1 3 false none), (10, o_if (fun x => decide (¬ x = 0)) 19), (13, o_aload 0 1), (14, o_push 1 (.int 1)), (15, o_cv [(30, 291)] 1 3 false none), (18, o_ret 1), (19, o_iload 2 1), (20, o_push 1 (.int 0)), (21, o_push 3 (.int 200000)), (24, o_cs 293 3 false none), (27, o_if (fun x => decide (x = 0)) 39), (30, o_aload 0 1), (31, o_iload 1 1), (32, o_iload 2 1), (33, o_cv [(30, 377)] 2 3 false none), (36, o_goto 44), (39, o_aload 0 1), (40, o_push 1 (.int 2)), (41, o_cv [(30, 291)] 1 3 false none), (44, o_ret 1)]])
abbrev cX4_billOne : ByteArray := prog_21_method_99_code
def yX4_billOne : MethodName := ⟨RX4, "billOne", "(II)I"⟩
def I377 : Mi := ("TollRoadModel", (cX4_billOne, (4, ([], ((Option.some Jvm.ClassFile.FieldType.int), false)))))
def K377 : Mt := (([0, 1, 1], 4), lk2 [[(0, o_aload 0 1), (1, o_iload 1 1), (2, o_cv [(30, 364)] 1 3 true none), (5, o_push 1 (.int 0)), (6, o_istore 3 1), (7, o_iload 3 1), (8, o_aload 0 1), (9, o_get 185), (12, o_icmp (fun x y => decide (y ≤ x)) 48), (15, o_aload 0 1), (16, o_get 148), (19, o_push 2 (.int 13)), (21, o_rdI 0), (22, o_push 2 (.int 60)), (24, o_icmp (fun x y => decide (y ≤ x)) 48), (27, o_aload 0 1), (28, o_iload 3 1), (29, o_iload 2 1), (30, o_cv [(30, 378)] 2 3 false none), (33, o_if (fun x => decide (x = 0)) 48), (36, o_aload 0 1), (37, o_iload 1 1), (38, o_iload 3 1), (39, o_cv [(30, 379)] 2 3 true none), (42, o_iinc 3 1), (45, o_goto 7), (48, o_iload 3 1), (49, o_ret 1)]])
abbrev cX4_isEarly : ByteArray := prog_21_method_95_code
def yX4_isEarly : MethodName := ⟨RX4, "isEarly", "(II)Z"⟩
def I378 : Mi := ("TollRoadModel", (cX4_isEarly, (3, ([], ((Option.some Jvm.ClassFile.FieldType.boolean), false)))))
def K378 : Mt := (([0, 1, 1], 3), lk2 [[(0, o_aload 0 1), (1, o_iload 1 1), (2, o_push 1 (.int 1)), (3, o_cv [(30, 371)] 2 3 false none), (6, o_aload 0 1), (7, o_push 1 (.int 0)), (8, o_cv [(30, 328)] 1 3 false none), (11, o_iop (fun x y => x + y)), (12, o_iload 2 1), (13, o_icmp (fun x y => decide (y ≤ x)) 20), (16, o_push 1 (.int 1)), (17, o_goto 21), (20, o_push 1 (.int 0)), (21, o_ret 5)]])
abbrev cX4_billTrip : ByteArray := prog_21_method_97_code
def yX4_billTrip : MethodName := ⟨RX4, "billTrip", "(II)V"⟩
def I379 : Mi := ("TollRoadModel", (cX4_billTrip, (9, ([], ((Option.none : Option Jvm.ClassFile.FieldType), false)))))
def K379 : Mt := (([0, 1, 1], 9), lk2 [[(0, o_aload 0 1), (1, o_get 148), (4, o_push 2 (.int 13)), (6, o_rdI 0), (7, o_istore 3 1), (8, o_aload 0 1), (9, o_iload 1 1), (10, o_push 1 (.int 1)), (11, o_cv [(30, 339)] 2 3 false none), (14, o_istore 4 2), (16, o_aload 0 1), (17, o_iload 1 1), (18, o_aload 0 1), (19, o_iload 1 1), (20, o_cv [(30, 380)] 1 3 false none), (23, o_cv [(30, 381)] 2 3 false none), (26, o_istore 5 2), (28, o_aload 0 1), (29, o_get 181), (32, o_iload 2 1), (33, o_rdI 0), (34, o_aload 0 1), (35, o_iload 1 1), (36, o_push 1 (.int 0)), (37, o_cv [(30, 339)] 2 3 false none), (40, o_iop (fun x y => x * y)), (41, o_istore 6 2), (43, o_aload 0 1), (44, o_iload 1 1), (45, o_iload 2 1), (46, o_iload 5 2), (48, o_cv [(30, 382)] 3 3 false none), (51, o_istore 7 2), (53, o_aload 0 1), (54, o_iload 3 1), (55, o_push 1 (.int 0)), (56, o_iload 1 1), (57, o_cv [(30, 383)] 3 3 true none), (60, o_aload 0 1), (61, o_iload 3 1), (62, o_push 1 (.int 1)), (63, o_iload 4 2)],
  [(65, o_cv [(30, 383)] 3 3 true none), (68, o_aload 0 1), (69, o_iload 3 1), (70, o_push 1 (.int 2)), (71, o_iload 7 2), (73, o_cv [(30, 383)] 3 3 true none), (76, o_aload 0 1), (77, o_iload 3 1), (78, o_push 1 (.int 3)), (79, o_iload 6 2), (81, o_cv [(30, 383)] 3 3 true none), (84, o_aload 0 1), (85, o_iload 3 1), (86, o_push 1 (.int 4)), (87, o_iload 6 2), (89, o_iload 5 2), (91, o_iop (fun x y => x * y)), (92, o_push 2 (.int 100)), (94, o_iopz (fun x y => x / y)), (95, o_cv [(30, 383)] 3 3 true none), (98, o_aload 0 1), (99, o_iload 3 1), (100, o_push 1 (.int 5)), (101, o_aload 0 1), (102, o_push 2 (.int 6)), (104, o_cv [(30, 328)] 1 3 false none), (107, o_aload 0 1), (108, o_iload 2 1), (109, o_push 1 (.int 1)), (110, o_cv [(30, 372)] 2 3 false none), (113, o_iop (fun x y => x * y)), (114, o_cv [(30, 383)] 3 3 true none), (117, o_aload 0 1), (118, o_iload 3 1), (119, o_push 2 (.int 6)), (121, o_aload 0 1), (122, o_iload 2 1), (123, o_push 1 (.int 0)), (124, o_cv [(30, 371)] 2 3 false none), (127, o_cv [(30, 383)] 3 3 true none)],
  [(130, o_aload 0 1), (131, o_iload 3 1), (132, o_push 2 (.int 7)), (134, o_aload 0 1), (135, o_iload 2 1), (136, o_push 1 (.int 1)), (137, o_cv [(30, 371)] 2 3 false none), (140, o_cv [(30, 383)] 3 3 true none), (143, o_aload 0 1), (144, o_iload 3 1), (145, o_push 2 (.int 8)), (147, o_aload 0 1), (148, o_iload 2 1), (149, o_cv [(30, 373)] 1 3 false none), (152, o_cv [(30, 383)] 3 3 true none), (155, o_aload 0 1), (156, o_iload 3 1), (157, o_push 2 (.int 9)), (159, o_aload 0 1), (160, o_iload 2 1), (161, o_cv [(30, 374)] 1 3 false none), (164, o_cv [(30, 383)] 3 3 true none), (167, o_aload 0 1), (168, o_iload 3 1), (169, o_push 2 (.int 10)), (171, o_aload 0 1), (172, o_iload 2 1), (173, o_push 1 (.int 0)), (174, o_cv [(30, 372)] 2 3 false none), (177, o_cv [(30, 383)] 3 3 true none), (180, o_aload 0 1), (181, o_iload 3 1), (182, o_push 2 (.int 11)), (184, o_push 1 (.int 0)), (185, o_cv [(30, 383)] 3 3 true none), (188, o_aload 0 1), (189, o_iload 3 1), (190, o_push 2 (.int 12))],
  [(192, o_push 1 (.int 0)), (193, o_cv [(30, 383)] 3 3 true none), (196, o_aload 0 1), (197, o_iload 3 1), (198, o_push 2 (.int 13)), (200, o_aload 0 1), (201, o_iload 1 1), (202, o_push 1 (.int 0)), (203, o_cv [(30, 339)] 2 3 false none), (206, o_cv [(30, 383)] 3 3 true none), (209, o_aload 0 1), (210, o_iload 3 1), (211, o_push 2 (.int 14)), (213, o_iload 5 2), (215, o_cv [(30, 383)] 3 3 true none), (218, o_aload 0 1), (219, o_iload 3 1), (220, o_push 2 (.int 16)), (222, o_iload 4 2), (224, o_push 1 (.int (-1))), (225, o_icmp (fun x y => decide (¬ x = y)) 237), (228, o_aload 0 1), (229, o_push 2 (.int 7)), (231, o_cv [(30, 328)] 1 3 false none), (234, o_goto 238), (237, o_push 1 (.int 0)), (238, o_cv [(30, 383)] 3 3 true none), (241, o_aload 0 1), (242, o_iload 3 1), (243, o_push 2 (.int 17)), (245, o_aload 0 1), (246, o_iload 2 1), (247, o_push 1 (.int 1)), (248, o_cv [(30, 372)] 2 3 false none), (251, o_cv [(30, 383)] 3 3 true none), (254, o_aload 0 1), (255, o_iload 3 1)],
  [(256, o_iload 2 1), (257, o_cv [(30, 384)] 2 3 true none), (260, o_aload 0 1), (261, o_iload 1 1), (262, o_iload 4 2), (264, o_iload 7 2), (266, o_cv [(30, 385)] 3 3 true none), (269, o_push 1 (.int 0)), (270, o_istore 8 2), (272, o_iload 8 2), (274, o_aload 0 1), (275, o_get 184), (278, o_icmp (fun x y => decide (y ≤ x)) 325), (281, o_aload 0 1), (282, o_get 178), (285, o_iload 8 2), (287, o_rdI 0), (288, o_iload 2 1), (289, o_icmp (fun x y => decide (¬ x = y)) 319), (292, o_aload 0 1), (293, o_aload 0 1), (294, o_get 177), (297, o_iload 8 2), (299, o_rdI 0), (300, o_push 1 (.int 5)), (301, o_push 1 (.int 3)), (302, o_cv [(30, 353)] 3 3 true none), (305, o_aload 0 1), (306, o_aload 0 1), (307, o_get 177), (310, o_iload 8 2), (312, o_rdI 0), (313, o_push 2 (.int 6)), (315, o_iload 3 1), (316, o_cv [(30, 353)] 3 3 true none), (319, o_iinc 8 1)],
  [(322, o_goto 272), (325, o_aload 0 1), (326, o_get 148), (329, o_push 2 (.int 13)), (331, o_dup2), (332, o_rdI 0), (333, o_push 1 (.int 1)), (334, o_iop (fun x y => x + y)), (335, o_wrI 0), (336, o_vret)]])
abbrev cX4_got : ByteArray := prog_21_method_94_code
def yX4_got : MethodName := ⟨RX4, "got", "(I)I"⟩
def I380 : Mi := ("TollRoadModel", (cX4_got, (3, ([], ((Option.some Jvm.ClassFile.FieldType.int), false)))))
def K380 : Mt := (([0, 1], 3), lk2 [[(0, o_aload 0 1), (1, o_iload 1 1), (2, o_push 1 (.int 1)), (3, o_cv [(30, 339)] 2 3 false none), (6, o_istore 2 1), (7, o_iload 2 1), (8, o_push 1 (.int (-1))), (9, o_icmp (fun x y => decide (¬ x = y)) 16), (12, o_push 1 (.int 0)), (13, o_goto 22), (16, o_aload 0 1), (17, o_iload 2 1), (18, o_push 1 (.int 3)), (19, o_cv [(30, 335)] 2 3 false none), (22, o_ret 1)]])
abbrev cX4_percentOf : ByteArray := prog_21_method_92_code
def yX4_percentOf : MethodName := ⟨RX4, "percentOf", "(II)I"⟩
def I381 : Mi := ("TollRoadModel", (cX4_percentOf, (4, ([], ((Option.some Jvm.ClassFile.FieldType.int), false)))))
def K381 : Mt := (([0, 1, 1], 4), lk2 [[(0, o_aload 0 1), (1, o_iload 1 1), (2, o_push 1 (.int 1)), (3, o_cv [(30, 339)] 2 3 false none), (6, o_istore 3 1), (7, o_iload 3 1), (8, o_push 1 (.int (-1))), (9, o_icmp (fun x y => decide (x = y)) 31), (12, o_iload 2 1), (13, o_aload 0 1), (14, o_iload 3 1), (15, o_push 1 (.int 2)), (16, o_cv [(30, 335)] 2 3 false none), (19, o_icmp (fun x y => decide (x < y)) 31), (22, o_aload 0 1), (23, o_iload 3 1), (24, o_push 1 (.int 1)), (25, o_cv [(30, 335)] 2 3 false none), (28, o_goto 32), (31, o_push 1 (.int 0)), (32, o_ret 1)]])
abbrev cX4_amountOf : ByteArray := prog_21_method_93_code
def yX4_amountOf : MethodName := ⟨RX4, "amountOf", "(III)I"⟩
def I382 : Mi := ("TollRoadModel", (cX4_amountOf, (6, ([], ((Option.some Jvm.ClassFile.FieldType.int), false)))))
def K382 : Mt := (([0, 1, 1, 1], 6), lk2 [[(0, o_aload 0 1), (1, o_get 181), (4, o_iload 2 1), (5, o_rdI 0), (6, o_aload 0 1), (7, o_iload 1 1), (8, o_push 1 (.int 0)), (9, o_cv [(30, 339)] 2 3 false none), (12, o_iop (fun x y => x * y)), (13, o_istore 4 2), (15, o_aload 0 1), (16, o_iload 1 1), (17, o_push 1 (.int 1)), (18, o_cv [(30, 339)] 2 3 false none), (21, o_push 1 (.int (-1))), (22, o_icmp (fun x y => decide (¬ x = y)) 34), (25, o_aload 0 1), (26, o_push 2 (.int 7)), (28, o_cv [(30, 328)] 1 3 false none), (31, o_goto 35), (34, o_push 1 (.int 0)), (35, o_istore 5 2), (37, o_iload 4 2), (39, o_iload 4 2), (41, o_iload 3 1), (42, o_iop (fun x y => x * y)), (43, o_push 2 (.int 100)), (45, o_iopz (fun x y => x / y)), (46, o_iop (fun x y => x - y)), (47, o_aload 0 1), (48, o_push 2 (.int 6)), (50, o_cv [(30, 328)] 1 3 false none), (53, o_aload 0 1), (54, o_iload 2 1), (55, o_push 1 (.int 1)), (56, o_cv [(30, 372)] 2 3 false none), (59, o_iop (fun x y => x * y)), (60, o_iop (fun x y => x + y)), (61, o_iload 5 2), (63, o_iop (fun x y => x + y))],
  [(64, o_ret 1)]])
abbrev cX4_putBill : ByteArray := prog_21_method_91_code
def yX4_putBill : MethodName := ⟨RX4, "putBill", "(III)V"⟩
def I383 : Mi := ("TollRoadModel", (cX4_putBill, (4, ([], ((Option.none : Option Jvm.ClassFile.FieldType), false)))))
def K383 : Mt := (([0, 1, 1, 1], 4), lk2 [[(0, o_aload 0 1), (1, o_get 148), (4, o_push 3 (.int 1120)), (7, o_push 2 (.int 18)), (9, o_iload 1 1), (10, o_iop (fun x y => x * y)), (11, o_iop (fun x y => x + y)), (12, o_iload 2 1), (13, o_iop (fun x y => x + y)), (14, o_iload 3 1), (15, o_wrI 0), (16, o_vret)]])
abbrev cX4_keepPlaces : ByteArray := prog_21_method_96_code
def yX4_keepPlaces : MethodName := ⟨RX4, "keepPlaces", "(II)V"⟩
def I384 : Mi := ("TollRoadModel", (cX4_keepPlaces, (4, ([], ((Option.none : Option Jvm.ClassFile.FieldType), false)))))
def K384 : Mt := (([0, 1, 1], 4), lk2 [[(0, o_aload 0 1), (1, o_iload 1 1), (2, o_push 2 (.int 15)), (4, o_aload 0 1), (5, o_get 148), (8, o_push 2 (.int 14)), (10, o_rdI 0), (11, o_cv [(30, 383)] 3 3 true none), (14, o_aload 0 1), (15, o_get 179), (18, o_iload 2 1), (19, o_rdI 0), (20, o_istore 3 1), (21, o_iload 3 1), (22, o_aload 0 1), (23, o_get 179), (26, o_iload 2 1), (27, o_push 1 (.int 1)), (28, o_iop (fun x y => x + y)), (29, o_rdI 0), (30, o_icmp (fun x y => decide (y ≤ x)) 88), (33, o_aload 0 1), (34, o_get 148), (37, o_push 3 (.int 2200)), (40, o_aload 0 1), (41, o_get 148), (44, o_push 2 (.int 14)), (46, o_rdI 0), (47, o_iop (fun x y => x + y)), (48, o_aload 0 1), (49, o_get 182), (52, o_iload 3 1), (53, o_rdI 0), (54, o_aload 0 1), (55, o_get 183), (58, o_iload 3 1), (59, o_rdI 2), (60, o_if (fun x => decide (x = 0)) 68), (63, o_push 2 (.int 16))],
  [(65, o_goto 69), (68, o_push 1 (.int 0)), (69, o_iop (fun x y => x + y)), (70, o_wrI 0), (71, o_aload 0 1), (72, o_get 148), (75, o_push 2 (.int 14)), (77, o_dup2), (78, o_rdI 0), (79, o_push 1 (.int 1)), (80, o_iop (fun x y => x + y)), (81, o_wrI 0), (82, o_iinc 3 1), (85, o_goto 21), (88, o_vret)]])
abbrev cX4_charge : ByteArray := prog_21_method_98_code
def yX4_charge : MethodName := ⟨RX4, "charge", "(III)V"⟩
def I385 : Mi := ("TollRoadModel", (cX4_charge, (4, ([], ((Option.none : Option Jvm.ClassFile.FieldType), false)))))
def K385 : Mt := (([0, 1, 1, 1], 4), lk2 [[(0, o_iload 2 1), (1, o_push 1 (.int (-1))), (2, o_icmp (fun x y => decide (¬ x = y)) 24), (5, o_aload 0 1), (6, o_get 148), (9, o_push 3 (.int 235)), (12, o_push 1 (.int 3)), (13, o_iload 1 1), (14, o_iop (fun x y => x * y)), (15, o_iop (fun x y => x + y)), (16, o_push 1 (.int 2)), (17, o_iop (fun x y => x + y)), (18, o_dup2), (19, o_rdI 0), (20, o_iload 3 1), (21, o_iop (fun x y => x + y)), (22, o_wrI 0), (23, o_vret), (24, o_aload 0 1), (25, o_iload 2 1), (26, o_push 1 (.int 0)), (27, o_iload 3 1), (28, o_ii (fun x => -x)), (29, o_cv [(30, 314)] 3 3 true none), (32, o_aload 0 1), (33, o_iload 2 1), (34, o_push 1 (.int 3)), (35, o_push 1 (.int 1)), (36, o_cv [(30, 314)] 3 3 true none), (39, o_aload 0 1), (40, o_iload 2 1), (41, o_push 1 (.int 4)), (42, o_iload 3 1), (43, o_cv [(30, 314)] 3 3 true none), (46, o_vret)]])
abbrev cX4_billAll : ByteArray := prog_21_method_101_code
def yX4_billAll : MethodName := ⟨RX4, "billAll", "(I)I"⟩
def I386 : Mi := ("TollRoadModel", (cX4_billAll, (4, ([], ((Option.some Jvm.ClassFile.FieldType.int), false)))))
def K386 : Mt := (([0, 1], 4), lk2 [[(0, o_aload 0 1), (1, o_push 1 (.int 0)), (2, o_put 155 1), (5, o_iload 1 1), (6, o_push 1 (.int 0)), (7, o_push 3 (.int 200000)), (10, o_cs 293 3 false none), (13, o_if (fun x => decide (¬ x = 0)) 22), (16, o_aload 0 1), (17, o_push 1 (.int 1)), (18, o_cv [(30, 291)] 1 3 false none), (21, o_ret 1), (22, o_push 1 (.int 0)), (23, o_istore 2 1), (24, o_push 1 (.int 0)), (25, o_istore 3 1), (26, o_iload 3 1), (27, o_aload 0 1), (28, o_get 148), (31, o_push 2 (.int 11)), (33, o_rdI 0), (34, o_icmp (fun x y => decide (y ≤ x)) 52), (37, o_iload 2 1), (38, o_aload 0 1), (39, o_iload 3 1), (40, o_iload 1 1), (41, o_cv [(30, 377)] 2 3 false none), (44, o_iop (fun x y => x + y)), (45, o_istore 2 1), (46, o_iinc 3 1), (49, o_goto 26), (52, o_iload 2 1), (53, o_ret 1)]])
abbrev cX4_due : ByteArray := prog_21_method_102_code
def yX4_due : MethodName := ⟨RX4, "due", "(II)I"⟩
def I387 : Mi := ("TollRoadModel", (cX4_due, (5, ([], ((Option.some Jvm.ClassFile.FieldType.int), false)))))
def K387 : Mt := (([0, 1, 1], 5), lk2 [[(0, o_aload 0 1), (1, o_push 1 (.int 0)), (2, o_put 155 1), (5, o_aload 0 1), (6, o_iload 1 1), (7, o_cv [(30, 338)] 1 3 false none), (10, o_if (fun x => decide (¬ x = 0)) 19), (13, o_aload 0 1), (14, o_push 1 (.int 1)), (15, o_cv [(30, 291)] 1 3 false none), (18, o_ret 1), (19, o_iload 2 1), (20, o_push 1 (.int 0)), (21, o_push 3 (.int 200000)), (24, o_cs 293 3 false none), (27, o_if (fun x => decide (¬ x = 0)) 36), (30, o_aload 0 1), (31, o_push 1 (.int 2)), (32, o_cv [(30, 291)] 1 3 false none), (35, o_ret 1), (36, o_aload 0 1), (37, o_iload 1 1), (38, o_cv [(30, 364)] 1 3 true none), (41, o_push 1 (.int 0)), (42, o_istore 3 1), (43, o_push 1 (.int 0)), (44, o_istore 4 2), (46, o_iload 4 2), (48, o_aload 0 1), (49, o_get 185), (52, o_icmp (fun x y => decide (y ≤ x)) 109), (55, o_aload 0 1), (56, o_get 148), (59, o_push 2 (.int 13)), (61, o_rdI 0), (62, o_iload 4 2)],
  [(64, o_iop (fun x y => x + y)), (65, o_push 2 (.int 60)), (67, o_icmp (fun x y => decide (y ≤ x)) 109), (70, o_aload 0 1), (71, o_iload 4 2), (73, o_iload 2 1), (74, o_cv [(30, 378)] 2 3 false none), (77, o_if (fun x => decide (x = 0)) 109), (80, o_iload 3 1), (81, o_aload 0 1), (82, o_iload 1 1), (83, o_iload 4 2), (85, o_aload 0 1), (86, o_iload 1 1), (87, o_aload 0 1), (88, o_iload 1 1), (89, o_cv [(30, 380)] 1 3 false none), (92, o_iload 4 2), (94, o_iop (fun x y => x + y)), (95, o_cv [(30, 381)] 2 3 false none), (98, o_cv [(30, 382)] 3 3 false none), (101, o_iop (fun x y => x + y)), (102, o_istore 3 1), (103, o_iinc 4 1), (106, o_goto 46), (109, o_iload 3 1), (110, o_ret 1)]])
abbrev cX4_billed : ByteArray := prog_21_method_103_code
def yX4_billed : MethodName := ⟨RX4, "billed", "(II)I"⟩
def I388 : Mi := ("TollRoadModel", (cX4_billed, (3, ([], ((Option.some Jvm.ClassFile.FieldType.int), false)))))
def K388 : Mt := (([0, 1, 1], 3), lk2 [[(0, o_aload 0 1), (1, o_push 1 (.int 0)), (2, o_put 155 1), (5, o_aload 0 1), (6, o_iload 1 1), (7, o_cv [(30, 389)] 1 3 false none), (10, o_if (fun x => decide (¬ x = 0)) 19), (13, o_aload 0 1), (14, o_push 1 (.int 1)), (15, o_cv [(30, 291)] 1 3 false none), (18, o_ret 1), (19, o_iload 2 1), (20, o_push 1 (.int 0)), (21, o_push 2 (.int 12)), (23, o_cs 293 3 false none), (26, o_if (fun x => decide (x = 0)) 38), (29, o_aload 0 1), (30, o_iload 1 1), (31, o_iload 2 1), (32, o_cv [(30, 333)] 2 3 false none), (35, o_goto 43), (38, o_aload 0 1), (39, o_push 1 (.int 2)), (40, o_cv [(30, 291)] 1 3 false none), (43, o_ret 1)]])
abbrev cX4_isBill : ByteArray := prog_21_method_89_code
def yX4_isBill : MethodName := ⟨RX4, "isBill", "(I)Z"⟩
def I389 : Mi := ("TollRoadModel", (cX4_isBill, (2, ([], ((Option.some Jvm.ClassFile.FieldType.boolean), false)))))
def K389 : Mt := (([0, 1], 2), lk2 [[(0, o_iload 1 1), (1, o_push 1 (.int 0)), (2, o_aload 0 1), (3, o_get 148), (6, o_push 2 (.int 13)), (8, o_rdI 0), (9, o_push 1 (.int 1)), (10, o_iop (fun x y => x - y)), (11, o_cs 293 3 false none), (14, o_ret 5)]])
abbrev cX4_billedGantry : ByteArray := prog_21_method_104_code
def yX4_billedGantry : MethodName := ⟨RX4, "billedGantry", "(II)I"⟩
def I390 : Mi := ("TollRoadModel", (cX4_billedGantry, (3, ([], ((Option.some Jvm.ClassFile.FieldType.int), false)))))
def K390 : Mt := (([0, 1, 1], 3), lk2 [[(0, o_aload 0 1), (1, o_push 1 (.int 0)), (2, o_put 155 1), (5, o_aload 0 1), (6, o_iload 1 1), (7, o_cv [(30, 389)] 1 3 false none), (10, o_if (fun x => decide (x = 0)) 30), (13, o_iload 2 1), (14, o_push 1 (.int 0)), (15, o_aload 0 1), (16, o_iload 1 1), (17, o_push 2 (.int 8)), (19, o_cv [(30, 333)] 2 3 false none), (22, o_push 1 (.int 1)), (23, o_iop (fun x y => x - y)), (24, o_cs 293 3 false none), (27, o_if (fun x => decide (¬ x = 0)) 36), (30, o_aload 0 1), (31, o_push 1 (.int 1)), (32, o_cv [(30, 291)] 1 3 false none), (35, o_ret 1), (36, o_aload 0 1), (37, o_get 148), (40, o_push 3 (.int 2200)), (43, o_aload 0 1), (44, o_iload 1 1), (45, o_push 2 (.int 15)), (47, o_cv [(30, 333)] 2 3 false none), (50, o_iop (fun x y => x + y)), (51, o_iload 2 1), (52, o_iop (fun x y => x + y)), (53, o_rdI 0), (54, o_push 2 (.int 16)), (56, o_iopz (fun x y => x - x / y * y)), (57, o_ret 1)]])
abbrev cX4_dispute : ByteArray := prog_21_method_109_code
def yX4_dispute : MethodName := ⟨RX4, "dispute", "(II)I"⟩
def I391 : Mi := ("TollRoadModel", (cX4_dispute, (5, ([], ((Option.some Jvm.ClassFile.FieldType.int), false)))))
def K391 : Mt := (([0, 1, 1], 5), lk2 [[(0, o_aload 0 1), (1, o_push 1 (.int 0)), (2, o_put 155 1), (5, o_aload 0 1), (6, o_iload 1 1), (7, o_cv [(30, 389)] 1 3 false none), (10, o_if (fun x => decide (¬ x = 0)) 19), (13, o_aload 0 1), (14, o_push 1 (.int 1)), (15, o_cv [(30, 291)] 1 3 false none), (18, o_ret 1), (19, o_iload 2 1), (20, o_push 1 (.int 0)), (21, o_push 1 (.int 2)), (22, o_cs 293 3 false none), (25, o_if (fun x => decide (¬ x = 0)) 34), (28, o_aload 0 1), (29, o_push 1 (.int 2)), (30, o_cv [(30, 291)] 1 3 false none), (33, o_ret 1), (34, o_aload 0 1), (35, o_iload 1 1), (36, o_push 2 (.int 11)), (38, o_cv [(30, 333)] 2 3 false none), (41, o_if (fun x => decide (x = 0)) 50), (44, o_aload 0 1), (45, o_push 1 (.int 3)), (46, o_cv [(30, 291)] 1 3 false none), (49, o_ret 1), (50, o_aload 0 1), (51, o_iload 1 1), (52, o_iload 2 1), (53, o_cv [(30, 392)] 2 3 false none), (56, o_istore 3 1), (57, o_aload 0 1), (58, o_iload 1 1), (59, o_push 2 (.int 11)), (61, o_iload 3 1), (62, o_if (fun x => decide (x = 0)) 69)],
  [(65, o_push 1 (.int 1)), (66, o_goto 70), (69, o_push 1 (.int 2)), (70, o_cv [(30, 383)] 3 3 true none), (73, o_aload 0 1), (74, o_iload 1 1), (75, o_push 2 (.int 12)), (77, o_iload 3 1), (78, o_cv [(30, 383)] 3 3 true none), (81, o_aload 0 1), (82, o_iload 1 1), (83, o_push 1 (.int 1)), (84, o_cv [(30, 333)] 2 3 false none), (87, o_istore 4 2), (89, o_iload 4 2), (91, o_push 1 (.int (-1))), (92, o_icmp (fun x y => decide (¬ x = y)) 121), (95, o_aload 0 1), (96, o_get 148), (99, o_push 3 (.int 235)), (102, o_push 1 (.int 3)), (103, o_aload 0 1), (104, o_iload 1 1), (105, o_push 1 (.int 0)), (106, o_cv [(30, 333)] 2 3 false none), (109, o_iop (fun x y => x * y)), (110, o_iop (fun x y => x + y)), (111, o_push 1 (.int 2)), (112, o_iop (fun x y => x + y)), (113, o_dup2), (114, o_rdI 0), (115, o_iload 3 1), (116, o_iop (fun x y => x - y)), (117, o_wrI 0), (118, o_goto 137), (121, o_aload 0 1), (122, o_iload 4 2), (124, o_push 1 (.int 0)), (125, o_iload 3 1), (126, o_cv [(30, 314)] 3 3 true none)],
  [(129, o_aload 0 1), (130, o_iload 4 2), (132, o_push 1 (.int 5)), (133, o_iload 3 1), (134, o_cv [(30, 314)] 3 3 true none), (137, o_iload 3 1), (138, o_ret 1)]])
abbrev cX4_refundFor : ByteArray := prog_21_method_108_code
def yX4_refundFor : MethodName := ⟨RX4, "refundFor", "(II)I"⟩
def I392 : Mi := ("TollRoadModel", (cX4_refundFor, (5, ([], ((Option.some Jvm.ClassFile.FieldType.int), false)))))
def K392 : Mt := (([0, 1, 1], 5), lk2 [[(0, o_aload 0 1), (1, o_iload 1 1), (2, o_push 2 (.int 17)), (4, o_cv [(30, 333)] 2 3 false none), (7, o_istore 3 1), (8, o_iload 3 1), (9, o_aload 0 1), (10, o_iload 1 1), (11, o_push 2 (.int 10)), (13, o_cv [(30, 333)] 2 3 false none), (16, o_icmp (fun x y => decide (¬ x = y)) 23), (19, o_push 1 (.int 1)), (20, o_goto 24), (23, o_push 1 (.int 0)), (24, o_istore 4 2), (26, o_iload 2 1), (27, o_if (fun x => decide (¬ x = 0)) 59), (30, o_iload 4 2), (32, o_if (fun x => decide (x = 0)) 57), (35, o_aload 0 1), (36, o_iload 1 1), (37, o_cv [(30, 393)] 1 3 false none), (40, o_aload 0 1), (41, o_push 1 (.int 5)), (42, o_cv [(30, 328)] 1 3 false none), (45, o_icmp (fun x y => decide (y ≤ x)) 57), (48, o_aload 0 1), (49, o_iload 1 1), (50, o_push 1 (.int 2)), (51, o_cv [(30, 333)] 2 3 false none), (54, o_goto 58), (57, o_push 1 (.int 0)), (58, o_ret 1), (59, o_iload 2 1), (60, o_push 1 (.int 1)), (61, o_icmp (fun x y => decide (¬ x = y)) 70)],
  [(64, o_aload 0 1), (65, o_iload 1 1), (66, o_cv [(30, 394)] 1 3 false none), (69, o_ret 1), (70, o_iload 3 1), (71, o_if (fun x => decide (x ≤ 0)) 88), (74, o_iload 4 2), (76, o_if (fun x => decide (¬ x = 0)) 88), (79, o_aload 0 1), (80, o_iload 1 1), (81, o_push 1 (.int 5)), (82, o_cv [(30, 333)] 2 3 false none), (85, o_goto 89), (88, o_push 1 (.int 0)), (89, o_ret 1)]])
abbrev cX4_leastSure : ByteArray := prog_21_method_105_code
def yX4_leastSure : MethodName := ⟨RX4, "leastSure", "(I)I"⟩
def I393 : Mi := ("TollRoadModel", (cX4_leastSure, (4, ([], ((Option.some Jvm.ClassFile.FieldType.int), false)))))
def K393 : Mt := (([0, 1], 4), lk2 [[(0, o_push 2 (.int 101)), (2, o_istore 2 1), (3, o_push 1 (.int 0)), (4, o_istore 3 1), (5, o_iload 3 1), (6, o_aload 0 1), (7, o_get 148), (10, o_push 2 (.int 12)), (12, o_rdI 0), (13, o_icmp (fun x y => decide (y ≤ x)) 48), (16, o_aload 0 1), (17, o_iload 3 1), (18, o_push 2 (.int 6)), (20, o_cv [(30, 331)] 2 3 false none), (23, o_iload 1 1), (24, o_icmp (fun x y => decide (¬ x = y)) 40), (27, o_iload 2 1), (28, o_aload 0 1), (29, o_iload 3 1), (30, o_push 1 (.int 4)), (31, o_cv [(30, 331)] 2 3 false none), (34, o_cs 7 2 false none), (37, o_goto 41), (40, o_iload 2 1), (41, o_istore 2 1), (42, o_iinc 3 1), (45, o_goto 5), (48, o_iload 2 1), (49, o_ret 1)]])
abbrev cX4_routeRefund : ByteArray := prog_21_method_107_code
def yX4_routeRefund : MethodName := ⟨RX4, "routeRefund", "(I)I"⟩
def I394 : Mi := ("TollRoadModel", (cX4_routeRefund, (6, ([], ((Option.some Jvm.ClassFile.FieldType.int), false)))))
def K394 : Mt := (([0, 1], 6), lk2 [[(0, o_push 3 (.int 2200)), (3, o_aload 0 1), (4, o_iload 1 1), (5, o_push 2 (.int 15)), (7, o_cv [(30, 333)] 2 3 false none), (10, o_iop (fun x y => x + y)), (11, o_istore 2 1), (12, o_aload 0 1), (13, o_aload 0 1), (14, o_get 148), (17, o_iload 2 1), (18, o_rdI 0), (19, o_push 2 (.int 16)), (21, o_iopz (fun x y => x - x / y * y)), (22, o_aload 0 1), (23, o_get 148), (26, o_iload 2 1), (27, o_aload 0 1), (28, o_iload 1 1), (29, o_push 2 (.int 8)), (31, o_cv [(30, 333)] 2 3 false none), (34, o_iop (fun x y => x + y)), (35, o_push 1 (.int 1)), (36, o_iop (fun x y => x - y)), (37, o_rdI 0), (38, o_push 2 (.int 16)), (40, o_iopz (fun x y => x - x / y * y)), (41, o_cv [(30, 350)] 2 3 false none), (44, o_istore 3 1), (45, o_iload 3 1), (46, o_aload 0 1), (47, o_iload 1 1), (48, o_push 2 (.int 13)), (50, o_cv [(30, 333)] 2 3 false none), (53, o_iop (fun x y => x * y)), (54, o_istore 4 2), (56, o_aload 0 1), (57, o_iload 1 1), (58, o_push 2 (.int 9)), (60, o_cv [(30, 333)] 2 3 false none), (63, o_if (fun x => decide (x ≤ 0)) 86)],
  [(66, o_iload 3 1), (67, o_push 1 (.int (-1))), (68, o_icmp (fun x y => decide (x = y)) 86), (71, o_iload 4 2), (73, o_aload 0 1), (74, o_iload 1 1), (75, o_push 1 (.int 3)), (76, o_cv [(30, 333)] 2 3 false none), (79, o_icmp (fun x y => decide (y ≤ x)) 86), (82, o_push 1 (.int 1)), (83, o_goto 87), (86, o_push 1 (.int 0)), (87, o_istore 5 2), (89, o_iload 5 2), (91, o_if (fun x => decide (x = 0)) 111), (94, o_aload 0 1), (95, o_iload 1 1), (96, o_push 1 (.int 2)), (97, o_cv [(30, 333)] 2 3 false none), (100, o_aload 0 1), (101, o_iload 1 1), (102, o_iload 4 2), (104, o_cv [(30, 395)] 2 3 false none), (107, o_iop (fun x y => x - y)), (108, o_goto 112), (111, o_push 1 (.int 0)), (112, o_ret 1)]])
abbrev cX4_newAmount : ByteArray := prog_21_method_106_code
def yX4_newAmount : MethodName := ⟨RX4, "newAmount", "(II)I"⟩
def I395 : Mi := ("TollRoadModel", (cX4_newAmount, (3, ([], ((Option.some Jvm.ClassFile.FieldType.int), false)))))
def K395 : Mt := (([0, 1, 1], 3), lk2 [[(0, o_iload 2 1), (1, o_iload 2 1), (2, o_aload 0 1), (3, o_iload 1 1), (4, o_push 2 (.int 14)), (6, o_cv [(30, 333)] 2 3 false none), (9, o_iop (fun x y => x * y)), (10, o_push 2 (.int 100)), (12, o_iopz (fun x y => x / y)), (13, o_iop (fun x y => x - y)), (14, o_aload 0 1), (15, o_iload 1 1), (16, o_push 1 (.int 5)), (17, o_cv [(30, 333)] 2 3 false none), (20, o_iop (fun x y => x + y)), (21, o_aload 0 1), (22, o_iload 1 1), (23, o_push 2 (.int 16)), (25, o_cv [(30, 333)] 2 3 false none), (28, o_iop (fun x y => x + y)), (29, o_ret 1)]])
abbrev cX4_disputable : ByteArray := prog_21_method_110_code
def yX4_disputable : MethodName := ⟨RX4, "disputable", "(I)I"⟩
def I396 : Mi := ("TollRoadModel", (cX4_disputable, (4, ([], ((Option.some Jvm.ClassFile.FieldType.int), false)))))
def K396 : Mt := (([0, 1], 4), lk2 [[(0, o_aload 0 1), (1, o_push 1 (.int 0)), (2, o_put 155 1), (5, o_iload 1 1), (6, o_push 1 (.int 0)), (7, o_push 1 (.int 2)), (8, o_cs 293 3 false none), (11, o_if (fun x => decide (¬ x = 0)) 20), (14, o_aload 0 1), (15, o_push 1 (.int 1)), (16, o_cv [(30, 291)] 1 3 false none), (19, o_ret 1), (20, o_push 1 (.int 0)), (21, o_istore 2 1), (22, o_push 1 (.int 0)), (23, o_istore 3 1), (24, o_iload 3 1), (25, o_aload 0 1), (26, o_get 148), (29, o_push 2 (.int 13)), (31, o_rdI 0), (32, o_icmp (fun x y => decide (y ≤ x)) 68), (35, o_iload 2 1), (36, o_aload 0 1), (37, o_iload 3 1), (38, o_push 2 (.int 11)), (40, o_cv [(30, 333)] 2 3 false none), (43, o_if (fun x => decide (¬ x = 0)) 59), (46, o_aload 0 1), (47, o_iload 3 1), (48, o_iload 1 1), (49, o_cv [(30, 392)] 2 3 false none), (52, o_if (fun x => decide (x = 0)) 59), (55, o_push 1 (.int 1)), (56, o_goto 60), (59, o_push 1 (.int 0)), (60, o_iop (fun x y => x + y)), (61, o_istore 2 1), (62, o_iinc 3 1)],
  [(65, o_goto 24), (68, o_iload 2 1), (69, o_ret 1)]])
abbrev cX4_revenue : ByteArray := prog_21_method_112_code
def yX4_revenue : MethodName := ⟨RX4, "revenue", "()J"⟩
def I397 : Mi := ("TollRoadModel", (cX4_revenue, (1, ([], ((Option.some Jvm.ClassFile.FieldType.long), false)))))
def K397 : Mt := (([0], 1), lk2 [[(0, o_aload 0 1), (1, o_push 1 (.int 0)), (2, o_put 155 1), (5, o_aload 0 1), (6, o_push 1 (.int 1)), (7, o_cv [(30, 398)] 1 3 false none), (10, o_ret 2)]])
abbrev cX4_amounts : ByteArray := prog_21_method_111_code
def yX4_amounts : MethodName := ⟨RX4, "amounts", "(Z)J"⟩
def I398 : Mi := ("TollRoadModel", (cX4_amounts, (5, ([], ((Option.some Jvm.ClassFile.FieldType.long), false)))))
def K398 : Mt := (([0, 1], 5), lk2 [[(0, o_push 1 (.long 0)), (1, o_lstore 2 1), (2, o_push 1 (.int 0)), (3, o_istore 4 2), (5, o_iload 4 2), (7, o_aload 0 1), (8, o_get 148), (11, o_push 2 (.int 13)), (13, o_rdI 0), (14, o_icmp (fun x y => decide (y ≤ x)) 51), (17, o_lload 2 1), (18, o_aload 0 1), (19, o_iload 4 2), (21, o_push 1 (.int 2)), (22, o_cv [(30, 333)] 2 3 false none), (25, o_iload 1 1), (26, o_if (fun x => decide (x = 0)) 40), (29, o_aload 0 1), (30, o_iload 4 2), (32, o_push 2 (.int 12)), (34, o_cv [(30, 333)] 2 3 false none), (37, o_goto 41), (40, o_push 1 (.int 0)), (41, o_iop (fun x y => x - y)), (42, o_i2l), (43, o_lop (fun x y => x + y)), (44, o_lstore 2 1), (45, o_iinc 4 1), (48, o_goto 5), (51, o_lload 2 1), (52, o_ret 2)]])
abbrev cX4_gantry : ByteArray := prog_21_method_115_code
def yX4_gantry : MethodName := ⟨RX4, "gantry", "(II)I"⟩
def I399 : Mi := ("TollRoadModel", (cX4_gantry, (3, ([], ((Option.some Jvm.ClassFile.FieldType.int), false)))))
def K399 : Mt := (([0, 1, 1], 3), lk2 [[(0, o_aload 0 1), (1, o_push 1 (.int 0)), (2, o_put 155 1), (5, o_aload 0 1), (6, o_iload 1 1), (7, o_cv [(30, 323)] 1 3 false none), (10, o_if (fun x => decide (¬ x = 0)) 19), (13, o_aload 0 1), (14, o_push 1 (.int 1)), (15, o_cv [(30, 291)] 1 3 false none), (18, o_ret 1), (19, o_iload 2 1), (20, o_sw (swt 0 [52, 62, 68, 75] 82)), (52, o_aload 0 1), (53, o_get 148), (56, o_push 2 (.int 15)), (58, o_iload 1 1), (59, o_iop (fun x y => x + y)), (60, o_rdI 0), (61, o_ret 1), (62, o_aload 0 1), (63, o_iload 1 1)],
  [(64, o_cv [(30, 400)] 1 3 false none), (67, o_ret 1), (68, o_aload 0 1), (69, o_iload 1 1), (70, o_push 1 (.int 0)), (71, o_cv [(30, 401)] 2 3 false none), (74, o_ret 1), (75, o_aload 0 1), (76, o_iload 1 1), (77, o_push 1 (.int 1)), (78, o_cv [(30, 401)] 2 3 false none), (81, o_ret 1), (82, o_aload 0 1), (83, o_push 1 (.int 2)), (84, o_cv [(30, 291)] 1 3 false none), (87, o_ret 1)]])
abbrev cX4_readsAt : ByteArray := prog_21_method_113_code
def yX4_readsAt : MethodName := ⟨RX4, "readsAt", "(I)I"⟩
def I400 : Mi := ("TollRoadModel", (cX4_readsAt, (5, ([], ((Option.some Jvm.ClassFile.FieldType.int), false)))))
def K400 : Mt := (([0, 1], 5), lk2 [[(0, o_push 1 (.int 0)), (1, o_istore 2 1), (2, o_push 1 (.int 0)), (3, o_istore 3 1), (4, o_iload 3 1), (5, o_aload 0 1), (6, o_get 148), (9, o_push 2 (.int 12)), (11, o_rdI 0), (12, o_icmp (fun x y => decide (y ≤ x)) 71), (15, o_aload 0 1), (16, o_iload 3 1), (17, o_push 1 (.int 5)), (18, o_cv [(30, 331)] 2 3 false none), (21, o_push 1 (.int 1)), (22, o_icmp (fun x y => decide (x = y)) 35), (25, o_aload 0 1), (26, o_iload 3 1), (27, o_push 1 (.int 5)), (28, o_cv [(30, 331)] 2 3 false none), (31, o_push 1 (.int 3)), (32, o_icmp (fun x y => decide (¬ x = y)) 39), (35, o_push 1 (.int 1)), (36, o_goto 40), (39, o_push 1 (.int 0)), (40, o_istore 4 2), (42, o_iload 2 1), (43, o_iload 4 2), (45, o_if (fun x => decide (x = 0)) 62), (48, o_aload 0 1), (49, o_iload 3 1), (50, o_push 1 (.int 1)), (51, o_cv [(30, 331)] 2 3 false none), (54, o_iload 1 1), (55, o_icmp (fun x y => decide (¬ x = y)) 62), (58, o_push 1 (.int 1)), (59, o_goto 63), (62, o_push 1 (.int 0)), (63, o_iop (fun x y => x + y))],
  [(64, o_istore 2 1), (65, o_iinc 3 1), (68, o_goto 4), (71, o_iload 2 1), (72, o_ret 1)]])
abbrev cX4_placesAt : ByteArray := prog_21_method_114_code
def yX4_placesAt : MethodName := ⟨RX4, "placesAt", "(IZ)I"⟩
def I401 : Mi := ("TollRoadModel", (cX4_placesAt, (6, ([], ((Option.some Jvm.ClassFile.FieldType.int), false)))))
def K401 : Mt := (([0, 1, 1], 6), lk2 [[(0, o_push 1 (.int 0)), (1, o_istore 3 1), (2, o_push 1 (.int 0)), (3, o_istore 4 2), (5, o_iload 4 2), (7, o_aload 0 1), (8, o_get 148), (11, o_push 2 (.int 14)), (13, o_rdI 0), (14, o_icmp (fun x y => decide (y ≤ x)) 63), (17, o_aload 0 1), (18, o_get 148), (21, o_push 3 (.int 2200)), (24, o_iload 4 2), (26, o_iop (fun x y => x + y)), (27, o_rdI 0), (28, o_istore 5 2), (30, o_iload 3 1), (31, o_iload 5 2), (33, o_iload 1 1), (34, o_push 2 (.int 16)), (36, o_iop (fun x y => x + y)), (37, o_icmp (fun x y => decide (x = y)) 50), (40, o_iload 5 2), (42, o_iload 1 1), (43, o_icmp (fun x y => decide (¬ x = y)) 54), (46, o_iload 2 1), (47, o_if (fun x => decide (¬ x = 0)) 54), (50, o_push 1 (.int 1)), (51, o_goto 55), (54, o_push 1 (.int 0)), (55, o_iop (fun x y => x + y)), (56, o_istore 3 1), (57, o_iinc 4 1), (60, o_goto 5), (63, o_iload 3 1)],
  [(64, o_ret 1)]])
abbrev cX4_missRate : ByteArray := prog_21_method_116_code
def yX4_missRate : MethodName := ⟨RX4, "missRate", "(I)F"⟩
def I402 : Mi := ("TollRoadModel", (cX4_missRate, (3, ([], ((Option.some Jvm.ClassFile.FieldType.float), false)))))
def K402 : Mt := (([0, 1], 3), lk2 [[(0, o_aload 0 1), (1, o_aload 0 1), (2, o_iload 1 1), (3, o_cv [(30, 323)] 1 3 false none), (6, o_if (fun x => decide (x = 0)) 13), (9, o_push 1 (.int 0)), (10, o_goto 14), (13, o_push 1 (.int 1)), (14, o_put 155 1), (17, o_aload 0 1), (18, o_get 155), (21, o_if (fun x => decide (x = 0)) 26), (24, o_push 1 (.float FP.fconst0)), (25, o_ret 3), (26, o_aload 0 1), (27, o_iload 1 1), (28, o_push 1 (.int 0)), (29, o_cv [(30, 401)] 2 3 false none), (32, o_istore 2 1), (33, o_iload 2 1), (34, o_if (fun x => decide (¬ x = 0)) 43), (37, o_push 3 (.float 3212836864)), (40, o_goto 53), (43, o_aload 0 1), (44, o_iload 1 1), (45, o_push 1 (.int 1)), (46, o_cv [(30, 401)] 2 3 false none), (49, o_i2f), (50, o_iload 2 1), (51, o_i2f), (52, o_fdiv), (53, o_ret 3)]])
abbrev cX4_worstGantry : ByteArray := prog_21_method_117_code
def yX4_worstGantry : MethodName := ⟨RX4, "worstGantry", "()I"⟩
def I403 : Mi := ("TollRoadModel", (cX4_worstGantry, (5, ([], ((Option.some Jvm.ClassFile.FieldType.int), false)))))
def K403 : Mt := (([0], 5), lk2 [[(0, o_aload 0 1), (1, o_push 1 (.int 0)), (2, o_put 155 1), (5, o_push 1 (.int (-1))), (6, o_istore 1 1), (7, o_push 1 (.int 0)), (8, o_istore 2 1), (9, o_push 1 (.int 0)), (10, o_istore 3 1), (11, o_iload 3 1), (12, o_aload 0 1), (13, o_get 148), (16, o_push 2 (.int 8)), (18, o_rdI 0), (19, o_icmp (fun x y => decide (y ≤ x)) 47), (22, o_aload 0 1), (23, o_iload 3 1), (24, o_push 1 (.int 1)), (25, o_cv [(30, 401)] 2 3 false none), (28, o_istore 4 2), (30, o_iload 4 2), (32, o_iload 2 1), (33, o_icmp (fun x y => decide (x ≤ y)) 41), (36, o_iload 3 1), (37, o_istore 1 1), (38, o_iload 4 2), (40, o_istore 2 1), (41, o_iinc 3 1), (44, o_goto 11), (47, o_iload 1 1), (48, o_ret 1)]])
abbrev cX4_meanAmount : ByteArray := prog_21_method_118_code
def yX4_meanAmount : MethodName := ⟨RX4, "meanAmount", "()D"⟩
def I404 : Mi := ("TollRoadModel", (cX4_meanAmount, (1, ([], ((Option.some Jvm.ClassFile.FieldType.double), false)))))
def K404 : Mt := (([0], 1), lk2 [[(0, o_aload 0 1), (1, o_push 1 (.int 0)), (2, o_put 155 1), (5, o_aload 0 1), (6, o_get 148), (9, o_push 2 (.int 13)), (11, o_rdI 0), (12, o_if (fun x => decide (¬ x = 0)) 21), (15, o_push 3 (.double 13830554455654793216)), (18, o_goto 36), (21, o_aload 0 1), (22, o_push 1 (.int 0)), (23, o_cv [(30, 398)] 1 3 false none), (26, o_l2d), (27, o_aload 0 1), (28, o_get 148), (31, o_push 2 (.int 13)), (33, o_rdI 0), (34, o_i2d), (35, o_ddiv), (36, o_ret 4)]])
abbrev cX4_save : ByteArray := prog_21_method_119_code
def yX4_save : MethodName := ⟨RX4, "save", "(I)V"⟩
def I405 : Mi := ("TollRoadModel", (cX4_save, (2, ([], ((Option.none : Option Jvm.ClassFile.FieldType), false)))))
def K405 : Mt := (([0, 1], 2), lk2 [[(0, o_aload 0 1), (1, o_iload 1 1), (2, o_push 1 (.int 0)), (3, o_push 1 (.int 1)), (4, o_cs 293 3 false none), (7, o_if (fun x => decide (x = 0)) 14), (10, o_push 1 (.int 0)), (11, o_goto 15), (14, o_push 1 (.int 1)), (15, o_put 155 1), (18, o_aload 0 1), (19, o_get 155), (22, o_if (fun x => decide (¬ x = 0)) 49), (25, o_aload 0 1), (26, o_get 148), (29, o_push 1 (.int 0)), (30, o_aload 0 1), (31, o_get 150), (34, o_push 3 (.int 3100)), (37, o_iload 1 1), (38, o_iop (fun x y => x * y)), (39, o_cs 295 4 true none), (42, o_aload 0 1), (43, o_get 151), (46, o_iload 1 1), (47, o_push 1 (.int 1)), (48, o_wrI 2), (49, o_vret)]])
abbrev cX4_restore : ByteArray := prog_21_method_120_code
def yX4_restore : MethodName := ⟨RX4, "restore", "(I)V"⟩
def I406 : Mi := ("TollRoadModel", (cX4_restore, (2, ([], ((Option.none : Option Jvm.ClassFile.FieldType), false)))))
def K406 : Mt := (([0, 1], 2), lk2 [[(0, o_aload 0 1), (1, o_iload 1 1), (2, o_push 1 (.int 0)), (3, o_push 1 (.int 1)), (4, o_cs 293 3 false none), (7, o_if (fun x => decide (¬ x = 0)) 14), (10, o_push 1 (.int 1)), (11, o_goto 28), (14, o_aload 0 1), (15, o_get 151), (18, o_iload 1 1), (19, o_rdI 2), (20, o_if (fun x => decide (¬ x = 0)) 27), (23, o_push 1 (.int 2)), (24, o_goto 28), (27, o_push 1 (.int 0)), (28, o_put 155 1), (31, o_aload 0 1), (32, o_get 155), (35, o_if (fun x => decide (¬ x = 0)) 55), (38, o_aload 0 1), (39, o_get 150), (42, o_push 3 (.int 3100)), (45, o_iload 1 1), (46, o_iop (fun x y => x * y)), (47, o_aload 0 1), (48, o_get 148), (51, o_push 1 (.int 0)), (52, o_cs 295 4 true none), (55, o_vret)]])
abbrev cX5_init : ByteArray := prog_10_method_1_code
def yX5_init : MethodName := ⟨RX5, "<init>", "(LTollRoad;I)V"⟩
def I407 : Mi := ("TollRoad$Parser", (cX5_init, (3, ([], ((Option.none : Option Jvm.ClassFile.FieldType), true)))))
def K407 : Mt := (([0, 0, 1], 3), lk2 [[(0, o_aload 0 1), (1, o_aload 1 1), (2, o_put 51 0), (5, o_aload 0 1), (6, o_oi), (9, o_aload 0 1), (10, o_new 1 8 dv1), (13, o_dup), (14, o_ci 256 0), (17, o_put 44 0), (20, o_aload 0 1), (21, o_iload 2 1), (22, o_put 43 1), (25, o_aload 0 1), (26, o_cv [(9, 408)] 0 3 true none), (29, o_vret)]])
abbrev cX5_advance : ByteArray := prog_10_method_3_code
def yX5_advance : MethodName := ⟨RX5, "advance", "()V"⟩
def I408 : Mi := ("TollRoad$Parser", (cX5_advance, (2, ([], ((Option.none : Option Jvm.ClassFile.FieldType), false)))))
def K408 : Mt := (([0], 2), lk2 [[(0, o_aload 0 1), (1, o_aload 0 1), (2, o_get 45), (5, o_cv [(9, 409)] 1 3 false none), (8, o_push 2 (.int 32)), (10, o_icmp (fun x y => decide (x = y)) 26), (13, o_aload 0 1), (14, o_aload 0 1), (15, o_get 45), (18, o_cv [(9, 409)] 1 3 false none), (21, o_push 2 (.int 10)), (23, o_icmp (fun x y => decide (¬ x = y)) 39), (26, o_aload 0 1), (27, o_dup), (28, o_get 45), (31, o_push 1 (.int 1)), (32, o_iop (fun x y => x + y)), (33, o_put 45 1), (36, o_goto 0), (39, o_aload 0 1), (40, o_aload 0 1), (41, o_get 45), (44, o_put 46 1), (47, o_aload 0 1), (48, o_push 1 (.int 0)), (49, o_put 49 1), (52, o_aload 0 1), (53, o_aload 0 1), (54, o_aload 0 1), (55, o_get 45), (58, o_cv [(9, 409)] 1 3 false none), (61, o_i2l), (62, o_push 3 (.long 48))],
  [(65, o_push 3 (.long 57)), (68, o_cs 165 3 false none), (71, o_put 47 5), (74, o_aload 0 1), (75, o_aload 0 1), (76, o_aload 0 1), (77, o_get 45), (80, o_cv [(9, 409)] 1 3 false none), (83, o_push 2 (.int 59)), (85, o_icmp (fun x y => decide (¬ x = y)) 92), (88, o_push 1 (.int 1)), (89, o_goto 93), (92, o_push 1 (.int 0)), (93, o_put 48 5), (96, o_new 4 4 dv4), (99, o_dup), (100, o_ci 111 0), (103, o_astore 1 1), (104, o_aload 0 1), (105, o_get 47), (108, o_if (fun x => decide (x = 0)) 173), (111, o_aload 0 1), (112, o_aload 0 1), (113, o_get 45), (116, o_cv [(9, 409)] 1 3 false none), (119, o_i2l), (120, o_push 3 (.long 48)), (123, o_push 3 (.long 57)), (126, o_cs 165 3 false none)],
  [(129, o_if (fun x => decide (x = 0)) 173), (132, o_aload 0 1), (133, o_push 2 (.int 1000000)), (135, o_push 2 (.int 10)), (137, o_aload 0 1), (138, o_get 49), (141, o_iop (fun x y => x * y)), (142, o_aload 0 1), (143, o_aload 0 1), (144, o_get 45), (147, o_cv [(9, 409)] 1 3 false none), (150, o_iop (fun x y => x + y)), (151, o_push 2 (.int 48)), (153, o_iop (fun x y => x - y)), (154, o_cs 7 2 false none), (157, o_put 49 1), (160, o_aload 0 1), (161, o_dup), (162, o_get 45), (165, o_push 1 (.int 1)), (166, o_iop (fun x y => x + y)), (167, o_put 45 1), (170, o_goto 104), (173, o_aload 0 1), (174, o_aload 0 1), (175, o_get 45), (178, o_cv [(9, 409)] 1 3 false none), (181, o_i2l), (182, o_push 3 (.long 97)), (185, o_push 3 (.long 122)), (188, o_cs 165 3 false none), (191, o_if (fun x => decide (x = 0)) 228)],
  [(194, o_aload 0 1), (195, o_get 47), (198, o_if (fun x => decide (¬ x = 0)) 228), (201, o_aload 1 1), (202, o_aload 0 1), (203, o_aload 0 1), (204, o_get 45), (207, o_cv [(9, 409)] 1 3 false none), (210, o_ii (fun x => (x.toUInt32 % 65536).toInt32)), (211, o_cv [(4, 114)] 1 3 false none), (214, o_pop), (215, o_aload 0 1), (216, o_dup), (217, o_get 45), (220, o_push 1 (.int 1)), (221, o_iop (fun x y => x + y)), (222, o_put 45 1), (225, o_goto 173), (228, o_aload 0 1), (229, o_dup), (230, o_get 45), (233, o_aload 0 1), (234, o_get 45), (237, o_aload 0 1), (238, o_get 46), (241, o_icmp (fun x y => decide (¬ x = y)) 259), (244, o_aload 0 1), (245, o_get 45), (248, o_aload 0 1), (249, o_get 43), (252, o_icmp (fun x y => decide (y ≤ x)) 259), (255, o_push 1 (.int 1))],
  [(256, o_goto 260), (259, o_push 1 (.int 0)), (260, o_iop (fun x y => x + y)), (261, o_put 45 1), (264, o_aload 0 1), (265, o_aload 1 1), (266, o_cs 166 1 false none), (269, o_put 50 1), (272, o_vret)]])
abbrev cX5_byteAt : ByteArray := prog_10_method_2_code
def yX5_byteAt : MethodName := ⟨RX5, "byteAt", "(I)I"⟩
def I409 : Mi := ("TollRoad$Parser", (cX5_byteAt, (2, ([], ((Option.some Jvm.ClassFile.FieldType.int), false)))))
def K409 : Mt := (([0, 1], 2), lk2 [[(0, o_iload 1 1), (1, o_aload 0 1), (2, o_get 43), (5, o_icmp (fun x y => decide (y ≤ x)) 24), (8, o_aload 0 1), (9, o_get 51), (12, o_get 2), (15, o_iload 1 1), (16, o_rdI 1), (17, o_push 3 (.int 255)), (20, o_iop (fun x y => x &&& y)), (21, o_goto 25), (24, o_push 1 (.int (-1))), (25, o_ret 1)]])
abbrev cX5_statements : ByteArray := prog_10_method_7_code
def yX5_statements : MethodName := ⟨RX5, "statements", "()I"⟩
def I410 : Mi := ("TollRoad$Parser", (cX5_statements, (2, ([], ((Option.some Jvm.ClassFile.FieldType.int), false)))))
def K410 : Mt := (([0], 2), lk2 [[(0, o_push 1 (.int 0)), (1, o_istore 1 1), (2, o_aload 0 1), (3, o_get 46), (6, o_aload 0 1), (7, o_get 43), (10, o_icmp (fun x y => decide (y ≤ x)) 36), (13, o_aload 0 1), (14, o_cv [(9, 411)] 0 3 true none), (17, o_aload 0 1), (18, o_aload 0 1), (19, o_get 48), (22, o_push 1 (.int 1)), (23, o_cv [(9, 412)] 2 3 true none), (26, o_aload 0 1), (27, o_cv [(9, 408)] 0 3 true none), (30, o_iinc 1 1), (33, o_goto 2), (36, o_iload 1 1), (37, o_ret 1)]])
abbrev cX5_statement : ByteArray := prog_10_method_8_code
def yX5_statement : MethodName := ⟨RX5, "statement", "()V"⟩
def I411 : Mi := ("TollRoad$Parser", (cX5_statement, (7, ([], ((Option.none : Option Jvm.ClassFile.FieldType), false)))))
def K411 : Mt := (([0], 7), lk2 [[(0, o_aload 0 1), (1, o_get 50), (4, o_sw (swt 0 [40, 90, 126, 189, 225] 276)), (40, o_aload 0 1), (41, o_aload 0 1), (42, o_get 44), (45, o_get 6), (48, o_get 15), (51, o_push 2 (.int 12)), (53, o_icmp (fun x y => decide (y ≤ x)) 60), (56, o_push 1 (.int 1)), (57, o_goto 61), (60, o_push 1 (.int 0)), (61, o_push 1 (.int 3)), (62, o_cv [(9, 412)] 2 3 true none)],
  [(65, o_aload 0 1), (66, o_cv [(9, 408)] 0 3 true none), (69, o_aload 0 1), (70, o_get 44), (73, o_get 6), (76, o_aload 0 1), (77, o_push 1 (.int 0)), (78, o_push 2 (.int 99)), (80, o_cv [(9, 413)] 2 3 false none), (83, o_cv [(2, 283)] 1 3 false none), (86, o_istore 1 1), (87, o_goto 289), (90, o_aload 0 1), (91, o_aload 0 1), (92, o_get 44), (95, o_get 6), (98, o_get 17), (101, o_push 2 (.int 40)), (103, o_icmp (fun x y => decide (y ≤ x)) 110), (106, o_push 1 (.int 1)), (107, o_goto 111), (110, o_push 1 (.int 0)), (111, o_push 1 (.int 3)), (112, o_cv [(9, 412)] 2 3 true none), (115, o_aload 0 1), (116, o_cv [(9, 408)] 0 3 true none), (119, o_aload 0 1), (120, o_cv [(9, 415)] 0 3 true none), (123, o_goto 289), (126, o_aload 0 1), (127, o_aload 0 1)],
  [(128, o_get 44), (131, o_get 9), (134, o_push 2 (.int 8)), (136, o_icmp (fun x y => decide (y ≤ x)) 143), (139, o_push 1 (.int 1)), (140, o_goto 144), (143, o_push 1 (.int 0)), (144, o_push 1 (.int 3)), (145, o_cv [(9, 412)] 2 3 true none), (148, o_aload 0 1), (149, o_cv [(9, 408)] 0 3 true none), (152, o_aload 0 1), (153, o_push 1 (.int 0)), (154, o_push 2 (.int 100000)), (156, o_cv [(9, 413)] 2 3 false none), (159, o_istore 2 1), (160, o_aload 0 1), (161, o_push 1 (.int 0)), (162, o_push 2 (.int 50)), (164, o_cv [(9, 413)] 2 3 false none), (167, o_istore 3 1), (168, o_aload 0 1), (169, o_get 44), (172, o_iload 2 1), (173, o_iload 3 1), (174, o_aload 0 1), (175, o_push 1 (.int 0)), (176, o_push 2 (.int 50)), (178, o_cv [(9, 413)] 2 3 false none), (181, o_cv [(1, 258)] 3 3 false none), (184, o_istore 4 2), (186, o_goto 289), (189, o_aload 0 1), (190, o_aload 0 1), (191, o_get 44)],
  [(194, o_get 10), (197, o_cv [(3, 42)] 0 3 false none), (200, o_push 2 (.int 15)), (202, o_icmp (fun x y => decide (y ≤ x)) 209), (205, o_push 1 (.int 1)), (206, o_goto 210), (209, o_push 1 (.int 0)), (210, o_push 1 (.int 3)), (211, o_cv [(9, 412)] 2 3 true none), (214, o_aload 0 1), (215, o_cv [(9, 408)] 0 3 true none), (218, o_aload 0 1), (219, o_cv [(9, 416)] 0 3 true none), (222, o_goto 289), (225, o_aload 0 1), (226, o_cv [(9, 408)] 0 3 true none), (229, o_aload 0 1), (230, o_push 1 (.int 0)), (231, o_push 2 (.int 7)), (233, o_cv [(9, 413)] 2 3 false none), (236, o_istore 5 2), (238, o_iload 5 2), (240, o_cs 222 1 false none), (243, o_astore 6 2), (245, o_aload 0 1), (246, o_get 44), (249, o_get 7), (252, o_iload 5 2), (254, o_aload 0 1), (255, o_aload 6 2)],
  [(257, o_cv [(14, 225)] 0 5 false none), (262, o_aload 6 2), (264, o_cv [(14, 226)] 0 5 false none), (269, o_cv [(9, 413)] 2 3 false none), (272, o_wrI 0), (273, o_goto 289), (276, o_new 10 8 dv10), (279, o_dup), (280, o_push 1 (.int 1)), (281, o_aload 0 1), (282, o_get 46), (285, o_ci 417 2), (288, o_athrow), (289, o_vret)]])
abbrev cX5_require : ByteArray := prog_10_method_4_code
def yX5_require : MethodName := ⟨RX5, "require", "(ZI)V"⟩
def I412 : Mi := ("TollRoad$Parser", (cX5_require, (3, ([], ((Option.none : Option Jvm.ClassFile.FieldType), false)))))
def K412 : Mt := (([0, 1, 1], 3), lk2 [[(0, o_iload 1 1), (1, o_if (fun x => decide (¬ x = 0)) 17), (4, o_new 10 8 dv10), (7, o_dup), (8, o_iload 2 1), (9, o_aload 0 1), (10, o_get 46), (13, o_ci 417 2), (16, o_athrow), (17, o_vret)]])
abbrev cX5_number : ByteArray := prog_10_method_6_code
def yX5_number : MethodName := ⟨RX5, "number", "(II)I"⟩
def I413 : Mi := ("TollRoad$Parser", (cX5_number, (4, ([], ((Option.some Jvm.ClassFile.FieldType.int), false)))))
def K413 : Mt := (([0, 1, 1], 4), lk2 [[(0, o_aload 0 1), (1, o_iload 1 1), (2, o_iload 2 1), (3, o_cv [(9, 414)] 2 3 false none), (6, o_istore 3 1), (7, o_aload 0 1), (8, o_cv [(9, 408)] 0 3 true none), (11, o_iload 3 1), (12, o_ret 1)]])
abbrev cX5_look : ByteArray := prog_10_method_5_code
def yX5_look : MethodName := ⟨RX5, "look", "(II)I"⟩
def I414 : Mi := ("TollRoad$Parser", (cX5_look, (3, ([], ((Option.some Jvm.ClassFile.FieldType.int), false)))))
def K414 : Mt := (([0, 1, 1], 3), lk2 [[(0, o_aload 0 1), (1, o_aload 0 1), (2, o_get 47), (5, o_push 1 (.int 1)), (6, o_cv [(9, 412)] 2 3 true none), (9, o_aload 0 1), (10, o_aload 0 1), (11, o_get 49), (14, o_i2l), (15, o_iload 1 1), (16, o_i2l), (17, o_iload 2 1), (18, o_i2l), (19, o_cs 165 3 false none), (22, o_push 1 (.int 2)), (23, o_cv [(9, 412)] 2 3 true none), (26, o_aload 0 1), (27, o_get 49), (30, o_ret 1)]])
abbrev cX5_road : ByteArray := prog_10_method_9_code
def yX5_road : MethodName := ⟨RX5, "road", "()V"⟩
def I415 : Mi := ("TollRoad$Parser", (cX5_road, (5, ([], ((Option.none : Option Jvm.ClassFile.FieldType), false)))))
def K415 : Mt := (([0], 5), lk2 [[(0, o_aload 0 1), (1, o_push 1 (.int 0)), (2, o_aload 0 1), (3, o_get 44), (6, o_get 6), (9, o_get 15), (12, o_push 1 (.int 1)), (13, o_iop (fun x y => x - y)), (14, o_cv [(9, 413)] 2 3 false none), (17, o_istore 1 1), (18, o_aload 0 1), (19, o_push 1 (.int 0)), (20, o_aload 0 1), (21, o_get 44), (24, o_get 6), (27, o_get 15), (30, o_push 1 (.int 1)), (31, o_iop (fun x y => x - y)), (32, o_cv [(9, 414)] 2 3 false none), (35, o_istore 2 1), (36, o_aload 0 1), (37, o_iload 1 1), (38, o_iload 2 1), (39, o_icmp (fun x y => decide (x = y)) 61), (42, o_aload 0 1), (43, o_get 44), (46, o_get 6), (49, o_iload 1 1), (50, o_iload 2 1), (51, o_cv [(2, 284)] 2 3 false none), (54, o_ifnonnull 61), (57, o_push 1 (.int 1)), (58, o_goto 62), (61, o_push 1 (.int 0)), (62, o_push 1 (.int 4)), (63, o_cv [(9, 412)] 2 3 true none)],
  [(66, o_aload 0 1), (67, o_cv [(9, 408)] 0 3 true none), (70, o_aload 0 1), (71, o_push 1 (.int 1)), (72, o_push 2 (.int 60)), (74, o_cv [(9, 413)] 2 3 false none), (77, o_istore 3 1), (78, o_aload 0 1), (79, o_get 44), (82, o_get 6), (85, o_iload 1 1), (86, o_iload 2 1), (87, o_iload 3 1), (88, o_aload 0 1), (89, o_push 1 (.int 0)), (90, o_push 3 (.int 999)), (93, o_cv [(9, 413)] 2 3 false none), (96, o_cv [(2, 285)] 4 3 false none), (99, o_istore 4 2), (101, o_vret)]])
abbrev cX5_vehicle : ByteArray := prog_10_method_10_code
def yX5_vehicle : MethodName := ⟨RX5, "vehicle", "()V"⟩
def I416 : Mi := ("TollRoad$Parser", (cX5_vehicle, (4, ([], ((Option.none : Option Jvm.ClassFile.FieldType), false)))))
def K416 : Mt := (([0], 4), lk2 [[(0, o_aload 0 1), (1, o_push 1 (.int 1)), (2, o_push 1 (.int 4)), (3, o_cv [(9, 413)] 2 3 false none), (6, o_istore 1 1), (7, o_push 1 (.int (-1))), (8, o_istore 2 1), (9, o_aload 0 1), (10, o_get 50), (13, o_push 1 (.int 2)), (14, o_icmp (fun x y => decide (¬ x = y)) 36), (17, o_aload 0 1), (18, o_cv [(9, 408)] 0 3 true none), (21, o_aload 0 1), (22, o_push 1 (.int 0)), (23, o_aload 0 1), (24, o_get 44), (27, o_get 9), (30, o_push 1 (.int 1)), (31, o_iop (fun x y => x - y)), (32, o_cv [(9, 413)] 2 3 false none), (35, o_istore 2 1), (36, o_aload 0 1), (37, o_get 44), (40, o_iload 1 1), (41, o_iload 2 1), (42, o_cv [(1, 259)] 2 3 false none), (45, o_istore 3 1), (46, o_vret)]])
abbrev cX6_init : ByteArray := prog_16_method_1_code
def yX6_init : MethodName := ⟨RX6, "<init>", "(II)V"⟩
def I417 : Mi := ("TollRoad$TextError", (cX6_init, (3, ([], ((Option.none : Option Jvm.ClassFile.FieldType), true)))))
def K417 : Mt := (([0, 1, 1], 3), lk2 [[(0, o_aload 0 1), (1, o_push 1 .null), (2, o_push 1 .null), (3, o_push 1 (.int 0)), (4, o_push 1 (.int 0)), (5, o_ci 100 4), (8, o_aload 0 1), (9, o_iload 1 1), (10, o_put 58 1), (13, o_aload 0 1), (14, o_iload 2 1), (15, o_put 59 1), (18, o_vret)]])
abbrev cX7_init : ByteArray := prog_13_method_1_code
def yX7_init : MethodName := ⟨RX7, "<init>", "(III)V"⟩
def I418 : Mi := ("TollRoad$Road", (cX7_init, (4, ([], ((Option.none : Option Jvm.ClassFile.FieldType), true)))))
def K418 : Mt := (([0, 1, 1, 1], 4), lk2 [[(0, o_aload 0 1), (1, o_oi), (4, o_aload 0 1), (5, o_iload 1 1), (6, o_put 60 1), (9, o_aload 0 1), (10, o_iload 2 1), (11, o_put 61 1), (14, o_aload 0 1), (15, o_iload 3 1), (16, o_put 62 1), (19, o_vret)]])
abbrev cX8_init : ByteArray := prog_2_method_1_code
def yX8_init : MethodName := ⟨RX8, "<init>", "(III)V"⟩
def I419 : Mi := ("TollRoad$Account", (cX8_init, (4, ([], ((Option.none : Option Jvm.ClassFile.FieldType), true)))))
def K419 : Mt := (([0, 1, 1, 1], 4), lk2 [[(0, o_aload 0 1), (1, o_oi), (4, o_aload 0 1), (5, o_iload 1 1), (6, o_put 63 1), (9, o_aload 0 1), (10, o_iload 2 1), (11, o_put 64 1), (14, o_aload 0 1), (15, o_iload 3 1), (16, o_put 65 1), (19, o_vret)]])
abbrev cX8_reduction : ByteArray := prog_2_method_3_code
def yX8_reduction : MethodName := ⟨RX8, "reduction", "(I)I"⟩
def I420 : Mi := ("TollRoad$Account", (cX8_reduction, (2, ([], ((Option.some Jvm.ClassFile.FieldType.int), false)))))
def K420 : Mt := (([0, 1], 2), lk2 [[(0, o_aload 0 1), (1, o_get 66), (4, o_iload 1 1), (5, o_iop (fun x y => x + y)), (6, o_aload 0 1), (7, o_get 65), (10, o_icmp (fun x y => decide (x < y)) 20), (13, o_aload 0 1), (14, o_get 64), (17, o_goto 21), (20, o_push 1 (.int 0)), (21, o_ret 1)]])
abbrev cX8_charge : ByteArray := prog_2_method_4_code
def yX8_charge : MethodName := ⟨RX8, "charge", "(I)V"⟩
def I421 : Mi := ("TollRoad$Account", (cX8_charge, (2, ([], ((Option.none : Option Jvm.ClassFile.FieldType), false)))))
def K421 : Mt := (([0, 1], 2), lk2 [[(0, o_aload 0 1), (1, o_dup), (2, o_get 63), (5, o_iload 1 1), (6, o_iop (fun x y => x - y)), (7, o_put 63 1), (10, o_aload 0 1), (11, o_dup), (12, o_get 67), (15, o_iload 1 1), (16, o_iop (fun x y => x + y)), (17, o_put 67 1), (20, o_aload 0 1), (21, o_dup), (22, o_get 66), (25, o_push 1 (.int 1)), (26, o_iop (fun x y => x + y)), (27, o_put 66 1), (30, o_vret)]])
abbrev cX8_refund : ByteArray := prog_2_method_5_code
def yX8_refund : MethodName := ⟨RX8, "refund", "(I)V"⟩
def I422 : Mi := ("TollRoad$Account", (cX8_refund, (2, ([], ((Option.none : Option Jvm.ClassFile.FieldType), false)))))
def K422 : Mt := (([0, 1], 2), lk2 [[(0, o_aload 0 1), (1, o_dup), (2, o_get 63), (5, o_iload 1 1), (6, o_iop (fun x y => x + y)), (7, o_put 63 1), (10, o_aload 0 1), (11, o_dup), (12, o_get 68), (15, o_iload 1 1), (16, o_iop (fun x y => x + y)), (17, o_put 68 1), (20, o_vret)]])
abbrev cX8_copy : ByteArray := prog_2_method_2_code
def yX8_copy : MethodName := ⟨RX8, "copy", "()LTollRoad$Account;"⟩
def I423 : Mi := ("TollRoad$Account", (cX8_copy, (2, ([], ((Option.some (Jvm.ClassFile.FieldType.object "TollRoad$Account")), false)))))
def K423 : Mt := (([0], 2), lk2 [[(0, o_new 12 6 dv12), (3, o_dup), (4, o_aload 0 1), (5, o_get 63), (8, o_aload 0 1), (9, o_get 64), (12, o_aload 0 1), (13, o_get 65), (16, o_ci 419 3), (19, o_astore 1 1), (20, o_aload 1 1), (21, o_aload 0 1), (22, o_get 66), (25, o_put 66 1), (28, o_aload 1 1), (29, o_aload 0 1), (30, o_get 67), (33, o_put 67 1), (36, o_aload 1 1), (37, o_aload 0 1), (38, o_get 68), (41, o_put 68 1), (44, o_aload 1 1), (45, o_ret 0)]])
abbrev cX9_init : ByteArray := prog_18_method_1_code
def yX9_init : MethodName := ⟨RX9, "<init>", "(II)V"⟩
def I424 : Mi := ("TollRoad$Vehicle", (cX9_init, (3, ([], ((Option.none : Option Jvm.ClassFile.FieldType), true)))))
def K424 : Mt := (([0, 1, 1], 3), lk2 [[(0, o_aload 0 1), (1, o_oi), (4, o_aload 0 1), (5, o_push 1 (.int (-1))), (6, o_put 73 1), (9, o_aload 0 1), (10, o_iload 1 1), (11, o_put 69 1), (14, o_aload 0 1), (15, o_iload 2 1), (16, o_put 70 1), (19, o_vret)]])
abbrev cX9_copy : ByteArray := prog_18_method_2_code
def yX9_copy : MethodName := ⟨RX9, "copy", "()LTollRoad$Vehicle;"⟩
def I425 : Mi := ("TollRoad$Vehicle", (cX9_copy, (2, ([], ((Option.some (Jvm.ClassFile.FieldType.object "TollRoad$Vehicle")), false)))))
def K425 : Mt := (([0], 2), lk2 [[(0, o_new 13 6 dv13), (3, o_dup), (4, o_aload 0 1), (5, o_get 69), (8, o_aload 0 1), (9, o_get 70), (12, o_ci 424 2), (15, o_astore 1 1), (16, o_aload 1 1), (17, o_aload 0 1), (18, o_get 71), (21, o_put 71 1), (24, o_aload 1 1), (25, o_aload 0 1), (26, o_get 72), (29, o_put 72 1), (32, o_aload 1 1), (33, o_aload 0 1), (34, o_get 73), (37, o_put 73 1), (40, o_aload 1 1), (41, o_aload 0 1), (42, o_get 74), (45, o_put 74 1), (48, o_aload 1 1), (49, o_ret 0)]])
def K_ : Mt := (([], 0), fun _ => none)
def TB : Tb := tget [[K0, K1, K2, K3, K4, K5, K6, K7, K8, K9, K10, K11, K12, K13, K14, K15],
  [K16, K17, K18, K19, K20, K21, K22, K23, K24, K25, K26, K27, K28, K29, K30, K31],
  [K32, K33, K34, K35, K36, K37, K38, K39, K40, K41, K42, K43, K44, K45, K46, K47],
  [K48, K49, K50, K51, K52, K53, K54, K55, K56, K57, K58, K59, K60, K61, K62, K63],
  [K64, K65, K66, K67, K68, K69, K70, K71, K72, K73, K74, K75, K76, K77, K78, K79],
  [K80, K81, K82, K83, K84, K85, K86, K87, K88, K89, K90, K91, K92, K93, K94, K95],
  [K96, K97, K98, K99, K100, K101, K102, K103, K104, K105, K106, K107, K108, K109, K110, K111],
  [K112, K113, K114, K115, K116, K117, K118, K119, K120, K121, K122, K123, K124, K125, K126, K127],
  [K128, K129, K130, K131, K132, K133, K134, K135, K136, K137, K138, K139, K140, K141, K142, K143],
  [K144, K145, K146, K147, K148, K149, K150, K151, K152, K153, K154, K155, K156, K157, K158, K159],
  [K160, K161, K162, K163, K164, K165, K166, K167, K168, K169, K170, K171, K172, K173, K174, K175],
  [K176, K177, K178, K179, K180, K181, K182, K183, K184, K185, K186, K187, K188, K189, K190, K191],
  [K192, K193, K194, K195, K196, K197, K198, K199, K200, K201, K202, K203, K204, K205, K206, K207],
  [K208, K209, K210, K211, K212, K213, K214, K215, K216, K217, K218, K219, K220, K221, K222, K223],
  [K224, K225, K226, K227, K228, K229, K230, K231, K232, K233, K234, K235, K236, K237, K238, K239],
  [K240, K241, K242, K243, K244, K245, K246, K247, K248, K249, K250, K251, K252, K253, K254, K255],
  [K256, K257, K258, K259, K260, K261, K262, K263, K264, K265, K266, K267, K268, K269, K270, K271],
  [K272, K273, K274, K275, K276, K277, K278, K279, K280, K281, K282, K283, K284, K285, K286, K287],
  [K288, K289, K290, K291, K292, K293, K294, K295, K296, K297, K298, K299, K300, K301, K302, K303],
  [K304, K305, K306, K307, K308, K309, K310, K311, K312, K313, K314, K315, K316, K317, K318, K319],
  [K320, K321, K322, K323, K324, K325, K326, K327, K328, K329, K330, K331, K332, K333, K334, K335],
  [K336, K337, K338, K339, K340, K341, K342, K343, K344, K345, K346, K347, K348, K349, K350, K351],
  [K352, K353, K354, K355, K356, K357, K358, K359, K360, K361, K362, K363, K364, K365, K366, K367],
  [K368, K369, K370, K371, K372, K373, K374, K375, K376, K377, K378, K379, K380, K381, K382, K383],
  [K384, K385, K386, K387, K388, K389, K390, K391, K392, K393, K394, K395, K396, K397, K398, K399],
  [K400, K401, K402, K403, K404, K405, K406, K407, K408, K409, K410, K411, K412, K413, K414, K415],
  [K416, K417, K418, K419, K420, K421, K422, K423, K424, K425, K_, K_, K_, K_, K_, K_]] K_
def NT : Nt := tget [[(yJ0_init, ws_ yJ0_init cJ0_init 1 (Option.none : Option Jvm.ClassFile.FieldType)), (yJ1_init, ws_ yJ1_init cJ1_init 1 (Option.none : Option Jvm.ClassFile.FieldType)), (yJ11_newLength, ws_ yJ11_newLength cJ11_newLength 4 (Option.some Jvm.ClassFile.FieldType.int)), (yJ11_vectorizedHashCode, ws_ yJ11_vectorizedHashCode cJ11_vectorizedHashCode 5 (Option.some Jvm.ClassFile.FieldType.int)), (yJ11_signedHashCode, ws_ yJ11_signedHashCode cJ11_signedHashCode 6 (Option.some Jvm.ClassFile.FieldType.int)), (yJ11_hashCode_2, ws_ yJ11_hashCode_2 cJ11_hashCode_2 6 (Option.some Jvm.ClassFile.FieldType.int)), (yJ12_max, ws_ yJ12_max cJ12_max 2 (Option.some Jvm.ClassFile.FieldType.int)), (yJ12_min, ws_ yJ12_min cJ12_min 2 (Option.some Jvm.ClassFile.FieldType.int)), (yJ12_abs, ws_ yJ12_abs cJ12_abs 1 (Option.some Jvm.ClassFile.FieldType.int)), (yJ13_copyOf, ws_ yJ13_copyOf cJ13_copyOf 3 (Option.some (Jvm.ClassFile.FieldType.array Jvm.ClassFile.FieldType.byte))), (yJ13_copyOfRange, ws_ yJ13_copyOfRange cJ13_copyOfRange 3 (Option.some (Jvm.ClassFile.FieldType.array Jvm.ClassFile.FieldType.byte))), (yJ13_copyOfRangeByte, ws_ yJ13_copyOfRangeByte cJ13_copyOfRangeByte 5 (Option.some (Jvm.ClassFile.FieldType.array Jvm.ClassFile.FieldType.byte))), (yJ13_checkLength, ws_ yJ13_checkLength cJ13_checkLength 2 (Option.none : Option Jvm.ClassFile.FieldType)), (yJ13_copyOf_2, ws_ yJ13_copyOf_2 cJ13_copyOf_2 2 (Option.some (Jvm.ClassFile.FieldType.array (Jvm.ClassFile.FieldType.object "java/lang/Object")))), (yJ13_copyOf_3, ws_ yJ13_copyOf_3 cJ13_copyOf_3 4 (Option.some (Jvm.ClassFile.FieldType.array (Jvm.ClassFile.FieldType.object "java/lang/Object")))), (yJ14_checkIndex, ws_ yJ14_checkIndex cJ14_checkIndex 3 (Option.some Jvm.ClassFile.FieldType.int))],
  [(yJ15_hashCode, ws_ yJ15_hashCode cJ15_hashCode 1 (Option.some Jvm.ClassFile.FieldType.int)), (yJ15_equals, ws_ yJ15_equals cJ15_equals 3 (Option.some Jvm.ClassFile.FieldType.boolean)), (yJ15_canEncode, ws_ yJ15_canEncode cJ15_canEncode 1 (Option.some Jvm.ClassFile.FieldType.boolean)), (yJ15_charAt, ws_ yJ15_charAt cJ15_charAt 2 (Option.some Jvm.ClassFile.FieldType.char)), (yJ16_init, ws_ yJ16_init cJ16_init 1 (Option.none : Option Jvm.ClassFile.FieldType)), (yJ17_intValue, ws_ yJ17_intValue cJ17_intValue 1 (Option.some Jvm.ClassFile.FieldType.int)), (yJ17_compareTo, ws_ yJ17_compareTo cJ17_compareTo 2 (Option.some Jvm.ClassFile.FieldType.int)), (yJ17_compareTo_2, ws_ yJ17_compareTo_2 cJ17_compareTo_2 2 (Option.some Jvm.ClassFile.FieldType.int)), (yJ17_compare, ws_ yJ17_compare cJ17_compare 2 (Option.some Jvm.ClassFile.FieldType.int)), (yJ17_valueOf, ws_ yJ17_valueOf cJ17_valueOf 1 (Option.some (Jvm.ClassFile.FieldType.object "java/lang/Integer"))), (yJ17_init, ws_ yJ17_init cJ17_init 2 (Option.none : Option Jvm.ClassFile.FieldType)), (yJ18_init, ws_ yJ18_init cJ18_init 1 (Option.none : Option Jvm.ClassFile.FieldType)), (yJ19_init, ws_ yJ19_init cJ19_init 1 (Option.none : Option Jvm.ClassFile.FieldType)), (yJ19_get, ws_ yJ19_get cJ19_get 3 (Option.some (Jvm.ClassFile.FieldType.object "java/lang/Object"))), (yJ19_getNode, ws_ yJ19_getNode cJ19_getNode 8 (Option.some (Jvm.ClassFile.FieldType.object "java/util/HashMap$Node"))), (yJ19_hash, ws_ yJ19_hash cJ19_hash 2 (Option.some Jvm.ClassFile.FieldType.int))],
  [(yJ19_put, ws_ yJ19_put cJ19_put 3 (Option.some (Jvm.ClassFile.FieldType.object "java/lang/Object"))), (yJ19_putVal, ws_ yJ19_putVal cJ19_putVal 13 (Option.some (Jvm.ClassFile.FieldType.object "java/lang/Object"))), (yJ19_resize, ws_ yJ19_resize cJ19_resize 14 (Option.some (Jvm.ClassFile.FieldType.array (Jvm.ClassFile.FieldType.object "java/util/HashMap$Node")))), (yJ19_newNode, ws_ yJ19_newNode cJ19_newNode 5 (Option.some (Jvm.ClassFile.FieldType.object "java/util/HashMap$Node"))), (yJ19_afterNodeAccess, ws_ yJ19_afterNodeAccess cJ19_afterNodeAccess 2 (Option.none : Option Jvm.ClassFile.FieldType)), (yJ19_afterNodeInsertion, ws_ yJ19_afterNodeInsertion cJ19_afterNodeInsertion 2 (Option.none : Option Jvm.ClassFile.FieldType)), (yJ19_entrySet, ws_ yJ19_entrySet cJ19_entrySet 2 (Option.some (Jvm.ClassFile.FieldType.object "java/util/Set"))), (yJ2_init, ws_ yJ2_init cJ2_init 2 (Option.none : Option Jvm.ClassFile.FieldType)), (yJ2_iterator, ws_ yJ2_iterator cJ2_iterator 1 (Option.some (Jvm.ClassFile.FieldType.object "java/util/Iterator"))), (yJ2_isEmpty, ws_ yJ2_isEmpty cJ2_isEmpty 1 (Option.some Jvm.ClassFile.FieldType.boolean)), (yJ2_size, ws_ yJ2_size cJ2_size 1 (Option.some Jvm.ClassFile.FieldType.int)), (yJ2_add, ws_ yJ2_add cJ2_add 2 (Option.some Jvm.ClassFile.FieldType.boolean)), (yJ2_add_2, ws_ yJ2_add_2 cJ2_add_2 4 (Option.none : Option Jvm.ClassFile.FieldType)), (yJ2_grow, ws_ yJ2_grow cJ2_grow 1 (Option.some (Jvm.ClassFile.FieldType.array (Jvm.ClassFile.FieldType.object "java/lang/Object")))), (yJ2_grow_2, ws_ yJ2_grow_2 cJ2_grow_2 4 (Option.some (Jvm.ClassFile.FieldType.array (Jvm.ClassFile.FieldType.object "java/lang/Object")))), (yJ2_get, ws_ yJ2_get cJ2_get 2 (Option.some (Jvm.ClassFile.FieldType.object "java/lang/Object")))],
  [(yJ2_elementData, ws_ yJ2_elementData cJ2_elementData 2 (Option.some (Jvm.ClassFile.FieldType.object "java/lang/Object"))), (yJ23_init, ws_ yJ23_init cJ23_init 2 (Option.none : Option Jvm.ClassFile.FieldType)), (yJ23_hasNext, ws_ yJ23_hasNext cJ23_hasNext 1 (Option.some Jvm.ClassFile.FieldType.boolean)), (yJ23_next, ws_ yJ23_next cJ23_next 3 (Option.some (Jvm.ClassFile.FieldType.object "java/lang/Object"))), (yJ23_checkForComodification, ws_ yJ23_checkForComodification cJ23_checkForComodification 1 (Option.none : Option Jvm.ClassFile.FieldType)), (yJ25_successor, ws_ yJ25_successor cJ25_successor 3 (Option.some (Jvm.ClassFile.FieldType.object "java/util/TreeMap$Entry"))), (yJ25_init, ws_ yJ25_init cJ25_init 1 (Option.none : Option Jvm.ClassFile.FieldType)), (yJ25_put, ws_ yJ25_put cJ25_put 3 (Option.some (Jvm.ClassFile.FieldType.object "java/lang/Object"))), (yJ25_put_2, ws_ yJ25_put_2 cJ25_put_2 10 (Option.some (Jvm.ClassFile.FieldType.object "java/lang/Object"))), (yJ25_addEntryToEmptyMap, ws_ yJ25_addEntryToEmptyMap cJ25_addEntryToEmptyMap 3 (Option.none : Option Jvm.ClassFile.FieldType)), (yJ25_compare, ws_ yJ25_compare cJ25_compare 3 (Option.some Jvm.ClassFile.FieldType.int)), (yJ25_addEntry, ws_ yJ25_addEntry cJ25_addEntry 6 (Option.none : Option Jvm.ClassFile.FieldType)), (yJ25_fixAfterInsertion, ws_ yJ25_fixAfterInsertion cJ25_fixAfterInsertion 3 (Option.none : Option Jvm.ClassFile.FieldType)), (yJ25_parentOf, ws_ yJ25_parentOf cJ25_parentOf 1 (Option.some (Jvm.ClassFile.FieldType.object "java/util/TreeMap$Entry"))), (yJ25_leftOf, ws_ yJ25_leftOf cJ25_leftOf 1 (Option.some (Jvm.ClassFile.FieldType.object "java/util/TreeMap$Entry"))), (yJ25_rightOf, ws_ yJ25_rightOf cJ25_rightOf 1 (Option.some (Jvm.ClassFile.FieldType.object "java/util/TreeMap$Entry")))],
  [(yJ25_colorOf, ws_ yJ25_colorOf cJ25_colorOf 1 (Option.some Jvm.ClassFile.FieldType.boolean)), (yJ25_setColor, ws_ yJ25_setColor cJ25_setColor 2 (Option.none : Option Jvm.ClassFile.FieldType)), (yJ25_rotateLeft, ws_ yJ25_rotateLeft cJ25_rotateLeft 3 (Option.none : Option Jvm.ClassFile.FieldType)), (yJ25_rotateRight, ws_ yJ25_rotateRight cJ25_rotateRight 3 (Option.none : Option Jvm.ClassFile.FieldType)), (yJ25_values, ws_ yJ25_values cJ25_values 2 (Option.some (Jvm.ClassFile.FieldType.object "java/util/Collection"))), (yJ25_getFirstEntry, ws_ yJ25_getFirstEntry cJ25_getFirstEntry 2 (Option.some (Jvm.ClassFile.FieldType.object "java/util/TreeMap$Entry"))), (yJ26_checkIndex, ws_ yJ26_checkIndex cJ26_checkIndex 2 (Option.some Jvm.ClassFile.FieldType.int)), (yJ26_requireNonNull, ws_ yJ26_requireNonNull cJ26_requireNonNull 1 (Option.some (Jvm.ClassFile.FieldType.object "java/lang/Object"))), (yJ27_init, ws_ yJ27_init cJ27_init 1 (Option.none : Option Jvm.ClassFile.FieldType)), (yJ28_init, ws_ yJ28_init cJ28_init 3 (Option.none : Option Jvm.ClassFile.FieldType)), (yJ28_add, ws_ yJ28_add cJ28_add 2 (Option.some Jvm.ClassFile.FieldType.boolean)), (yJ28_offer, ws_ yJ28_offer cJ28_offer 3 (Option.some Jvm.ClassFile.FieldType.boolean)), (yJ28_grow, ws_ yJ28_grow cJ28_grow 4 (Option.none : Option Jvm.ClassFile.FieldType)), (yJ28_siftUp, ws_ yJ28_siftUp cJ28_siftUp 3 (Option.none : Option Jvm.ClassFile.FieldType)), (yJ28_siftUpUsingComparator, ws_ yJ28_siftUpUsingComparator cJ28_siftUpUsingComparator 6 (Option.none : Option Jvm.ClassFile.FieldType)), (yJ28_size, ws_ yJ28_size cJ28_size 1 (Option.some Jvm.ClassFile.FieldType.int))],
  [(yJ28_poll, ws_ yJ28_poll cJ28_poll 6 (Option.some (Jvm.ClassFile.FieldType.object "java/lang/Object"))), (yJ28_siftDownUsingComparator, ws_ yJ28_siftDownUsingComparator cJ28_siftDownUsingComparator 9 (Option.none : Option Jvm.ClassFile.FieldType)), (yJ3_init_3, ws_ yJ3_init_3 cJ3_init_3 5 (Option.none : Option Jvm.ClassFile.FieldType)), (yJ32_init, ws_ yJ32_init cJ32_init 4 (Option.none : Option Jvm.ClassFile.FieldType)), (yJ33_init, ws_ yJ33_init cJ33_init 2 (Option.none : Option Jvm.ClassFile.FieldType)), (yJ33_iterator, ws_ yJ33_iterator cJ33_iterator 1 (Option.some (Jvm.ClassFile.FieldType.object "java/util/Iterator"))), (yJ34_hasNext, ws_ yJ34_hasNext cJ34_hasNext 1 (Option.some Jvm.ClassFile.FieldType.boolean)), (yJ34_nextNode, ws_ yJ34_nextNode cJ34_nextNode 3 (Option.some (Jvm.ClassFile.FieldType.object "java/util/HashMap$Node"))), (yJ34_init, ws_ yJ34_init cJ34_init 3 (Option.none : Option Jvm.ClassFile.FieldType)), (yJ35_next, ws_ yJ35_next cJ35_next 1 (Option.some (Jvm.ClassFile.FieldType.object "java/lang/Object"))), (yJ35_next_2, ws_ yJ35_next_2 cJ35_next_2 1 (Option.some (Jvm.ClassFile.FieldType.object "java/util/Map$Entry"))), (yJ35_init, ws_ yJ35_init cJ35_init 2 (Option.none : Option Jvm.ClassFile.FieldType)), (yJ37_hasNext, ws_ yJ37_hasNext cJ37_hasNext 1 (Option.some Jvm.ClassFile.FieldType.boolean)), (yJ37_nextEntry, ws_ yJ37_nextEntry cJ37_nextEntry 2 (Option.some (Jvm.ClassFile.FieldType.object "java/util/TreeMap$Entry"))), (yJ37_init, ws_ yJ37_init cJ37_init 3 (Option.none : Option Jvm.ClassFile.FieldType)), (yJ38_next, ws_ yJ38_next cJ38_next 1 (Option.some (Jvm.ClassFile.FieldType.object "java/lang/Object")))],
  [(yJ38_init, ws_ yJ38_init cJ38_init 3 (Option.none : Option Jvm.ClassFile.FieldType)), (yJ39_init, ws_ yJ39_init cJ39_init 5 (Option.none : Option Jvm.ClassFile.FieldType)), (yJ39_getKey, ws_ yJ39_getKey cJ39_getKey 1 (Option.some (Jvm.ClassFile.FieldType.object "java/lang/Object"))), (yJ39_getValue, ws_ yJ39_getValue cJ39_getValue 1 (Option.some (Jvm.ClassFile.FieldType.object "java/lang/Object"))), (yJ4_init_2, ws_ yJ4_init_2 cJ4_init_2 5 (Option.none : Option Jvm.ClassFile.FieldType)), (yJ42_init, ws_ yJ42_init cJ42_init 1 (Option.none : Option Jvm.ClassFile.FieldType)), (yJ43_iterator, ws_ yJ43_iterator cJ43_iterator 1 (Option.some (Jvm.ClassFile.FieldType.object "java/util/Iterator"))), (yJ43_init, ws_ yJ43_init cJ43_init 2 (Option.none : Option Jvm.ClassFile.FieldType)), (yJ7_init, ws_ yJ7_init cJ7_init 2 (Option.none : Option Jvm.ClassFile.FieldType)), (yJ7_ensureCapacityInternal, ws_ yJ7_ensureCapacityInternal cJ7_ensureCapacityInternal 3 (Option.none : Option Jvm.ClassFile.FieldType)), (yJ7_newCapacity, ws_ yJ7_newCapacity cJ7_newCapacity 6 (Option.some Jvm.ClassFile.FieldType.int)), (yJ7_isLatin1, ws_ yJ7_isLatin1 cJ7_isLatin1 1 (Option.some Jvm.ClassFile.FieldType.boolean)), (yJ7_getValue, ws_ yJ7_getValue cJ7_getValue 1 (Option.some (Jvm.ClassFile.FieldType.array Jvm.ClassFile.FieldType.byte))), (yJ7_length, ws_ yJ7_length cJ7_length 1 (Option.some Jvm.ClassFile.FieldType.int)), (yJ7_append_3, ws_ yJ7_append_3 cJ7_append_3 2 (Option.some (Jvm.ClassFile.FieldType.object "java/lang/AbstractStringBuilder"))), (yJ8_init, ws_ yJ8_init cJ8_init 1 (Option.none : Option Jvm.ClassFile.FieldType))],
  [(yJ8_toString, ws_ yJ8_toString cJ8_toString 1 (Option.some (Jvm.ClassFile.FieldType.object "java/lang/String"))), (yJ8_length, ws_ yJ8_length cJ8_length 1 (Option.some Jvm.ClassFile.FieldType.int)), (yJ8_append_3, ws_ yJ8_append_3 cJ8_append_3 2 (Option.some (Jvm.ClassFile.FieldType.object "java/lang/StringBuilder"))), (yJ9_length, ws_ yJ9_length cJ9_length 1 (Option.some Jvm.ClassFile.FieldType.int)), (yJ9_coder, ws_ yJ9_coder cJ9_coder 1 (Option.some Jvm.ClassFile.FieldType.byte)), (yJ9_init, ws_ yJ9_init cJ9_init 2 (Option.none : Option Jvm.ClassFile.FieldType)), (yJ9_init_2, ws_ yJ9_init_2 cJ9_init_2 5 (Option.none : Option Jvm.ClassFile.FieldType)), (yJ9_hashCode, ws_ yJ9_hashCode cJ9_hashCode 2 (Option.some Jvm.ClassFile.FieldType.int)), (yJ9_isLatin1, ws_ yJ9_isLatin1 cJ9_isLatin1 1 (Option.some Jvm.ClassFile.FieldType.boolean)), (yJ9_equals, ws_ yJ9_equals cJ9_equals 3 (Option.some Jvm.ClassFile.FieldType.boolean)), (yJ9_checkIndex, ws_ yJ9_checkIndex cJ9_checkIndex 2 (Option.none : Option Jvm.ClassFile.FieldType)), (yJ9_charAt, ws_ yJ9_charAt cJ9_charAt 2 (Option.some Jvm.ClassFile.FieldType.char)), (x, ws_ x cL_law 10 (Option.some Jvm.ClassFile.FieldType.boolean)), (yX0_appendText, wsW_ yX0_appendText cX0_appendText 4 (Option.some Jvm.ClassFile.FieldType.int) [(0, 9, 12, 13)]), (yX0_truncateText, wsW_ yX0_truncateText cX0_truncateText 4 (Option.some Jvm.ClassFile.FieldType.int) [(0, 9, 12, 18)]), (yX0_addGantry, wsW_ yX0_addGantry cX0_addGantry 4 (Option.some Jvm.ClassFile.FieldType.int) [(0, 9, 12, 18), (0, 9, 15, 13)])],
  [(yX0_addRoad, wsW_ yX0_addRoad cX0_addRoad 7 (Option.some Jvm.ClassFile.FieldType.int) [(0, 14, 17, 27), (0, 14, 21, 18), (0, 14, 25, 13)]), (yX0_addAccount, wsW_ yX0_addAccount cX0_addAccount 6 (Option.some Jvm.ClassFile.FieldType.int) [(0, 12, 15, 18), (0, 12, 19, 13)]), (yX0_addVehicle, wsW_ yX0_addVehicle cX0_addVehicle 5 (Option.some Jvm.ClassFile.FieldType.int) [(0, 10, 13, 27), (0, 10, 17, 18), (0, 10, 21, 13)]), (yX0_set, wsW_ yX0_set cX0_set 5 (Option.some Jvm.ClassFile.FieldType.int) [(0, 10, 13, 18)]), (yX0_count, wsW_ yX0_count cX0_count 4 (Option.some Jvm.ClassFile.FieldType.int) [(0, 9, 12, 18)]), (yX0_account, wsW_ yX0_account cX0_account 5 (Option.some Jvm.ClassFile.FieldType.int) [(0, 10, 13, 27), (0, 10, 17, 18)]), (yX0_pay, wsW_ yX0_pay cX0_pay 5 (Option.some Jvm.ClassFile.FieldType.int) [(0, 10, 13, 27), (0, 10, 17, 18)]), (yX0_vehicle, wsW_ yX0_vehicle cX0_vehicle 5 (Option.some Jvm.ClassFile.FieldType.int) [(0, 10, 13, 27), (0, 10, 17, 18)]), (yX0_setAccount, wsW_ yX0_setAccount cX0_setAccount 5 (Option.some Jvm.ClassFile.FieldType.int) [(0, 10, 13, 27)]), (yX0_route, wsW_ yX0_route cX0_route 7 (Option.some Jvm.ClassFile.FieldType.int) [(0, 14, 17, 27), (0, 14, 21, 18)]), (yX0_routeGantry, wsW_ yX0_routeGantry cX0_routeGantry 7 (Option.some Jvm.ClassFile.FieldType.int) [(0, 14, 17, 27), (0, 14, 21, 18)]), (yX0_leastToll, wsW_ yX0_leastToll cX0_leastToll 5 (Option.some Jvm.ClassFile.FieldType.int) [(0, 10, 13, 27)]), (yX0_tagRead, wsW_ yX0_tagRead cX0_tagRead 6 (Option.some Jvm.ClassFile.FieldType.int) [(0, 12, 15, 27), (0, 12, 19, 18), (0, 12, 23, 13)]), (yX0_imageRead, wsW_ yX0_imageRead cX0_imageRead 7 (Option.some Jvm.ClassFile.FieldType.int) [(0, 14, 17, 27), (0, 14, 21, 18), (0, 14, 25, 13)]), (yX0_read, wsW_ yX0_read cX0_read 5 (Option.some Jvm.ClassFile.FieldType.int) [(0, 10, 13, 27), (0, 10, 17, 18)]), (yX0_review, wsW_ yX0_review cX0_review 4 (Option.some Jvm.ClassFile.FieldType.int) [(0, 9, 12, 27)])],
  [(yX0_decide, wsW_ yX0_decide cX0_decide 4 (Option.some Jvm.ClassFile.FieldType.int) [(0, 9, 12, 27), (0, 9, 15, 13)]), (yX0_correct, wsW_ yX0_correct cX0_correct 5 (Option.some Jvm.ClassFile.FieldType.int) [(0, 10, 13, 27), (0, 10, 17, 13)]), (yX0_trips, wsW_ yX0_trips cX0_trips 4 (Option.some Jvm.ClassFile.FieldType.int) [(0, 9, 12, 27)]), (yX0_trip, wsW_ yX0_trip cX0_trip 6 (Option.some Jvm.ClassFile.FieldType.int) [(0, 12, 15, 27), (0, 12, 19, 18)]), (yX0_tripGantry, wsW_ yX0_tripGantry cX0_tripGantry 6 (Option.some Jvm.ClassFile.FieldType.int) [(0, 12, 15, 27)]), (yX0_bill, wsW_ yX0_bill cX0_bill 5 (Option.some Jvm.ClassFile.FieldType.int) [(0, 10, 13, 27), (0, 10, 17, 18)]), (yX0_billAll, wsW_ yX0_billAll cX0_billAll 4 (Option.some Jvm.ClassFile.FieldType.int) [(0, 9, 12, 18)]), (yX0_due, wsW_ yX0_due cX0_due 5 (Option.some Jvm.ClassFile.FieldType.int) [(0, 10, 13, 27), (0, 10, 17, 18)]), (yX0_billed, wsW_ yX0_billed cX0_billed 5 (Option.some Jvm.ClassFile.FieldType.int) [(0, 10, 13, 27), (0, 10, 17, 18)]), (yX0_billedGantry, wsW_ yX0_billedGantry cX0_billedGantry 5 (Option.some Jvm.ClassFile.FieldType.int) [(0, 10, 13, 27)]), (yX0_dispute, wsW_ yX0_dispute cX0_dispute 5 (Option.some Jvm.ClassFile.FieldType.int) [(0, 10, 13, 27), (0, 10, 17, 18), (0, 10, 21, 13)]), (yX0_disputable, wsW_ yX0_disputable cX0_disputable 4 (Option.some Jvm.ClassFile.FieldType.int) [(0, 9, 12, 18)]), (yX0_gantry, wsW_ yX0_gantry cX0_gantry 5 (Option.some Jvm.ClassFile.FieldType.int) [(0, 10, 13, 27), (0, 10, 17, 18)]), (yX0_missRate, wsW_ yX0_missRate cX0_missRate 4 (Option.some Jvm.ClassFile.FieldType.int) [(0, 9, 12, 27)]), (yX0_save, wsW_ yX0_save cX0_save 3 (Option.some Jvm.ClassFile.FieldType.int) [(0, 5, 8, 18)]), (yX0_restore, wsW_ yX0_restore cX0_restore 3 (Option.some Jvm.ClassFile.FieldType.int) [(0, 5, 8, 18), (0, 5, 11, 13)])],
  [(yX1_init, ws_ yX1_init cX1_init 1 (Option.none : Option Jvm.ClassFile.FieldType)), (yX1_revenue, ws_ yX1_revenue cX1_revenue 5 (Option.some Jvm.ClassFile.FieldType.long)), (yX1_worstGantry, ws_ yX1_worstGantry cX1_worstGantry 5 (Option.some Jvm.ClassFile.FieldType.int)), (yX1_meanAmount, ws_ yX1_meanAmount cX1_meanAmount 5 (Option.some Jvm.ClassFile.FieldType.double)), (yX1_load, wsW_ yX1_load cX1_load 3 (Option.some Jvm.ClassFile.FieldType.int) [(28, 42, 43, 462)]), (yX1_isBetween, ws_ yX1_isBetween cX1_isBetween 6 (Option.some Jvm.ClassFile.FieldType.boolean)), (yX1_wordOf, ws_ yX1_wordOf cX1_wordOf 3 (Option.some Jvm.ClassFile.FieldType.int)), (yX1_errorCode, ws_ yX1_errorCode cX1_errorCode 1 (Option.some Jvm.ClassFile.FieldType.int)), (yX1_errorPosition, ws_ yX1_errorPosition cX1_errorPosition 1 (Option.some Jvm.ClassFile.FieldType.int)), (yX1_appendText, ws_ yX1_appendText cX1_appendText 3 (Option.some Jvm.ClassFile.FieldType.int)), (yX1_checkState, ws_ yX1_checkState cX1_checkState 1 (Option.none : Option Jvm.ClassFile.FieldType)), (yX1_truncateText, ws_ yX1_truncateText cX1_truncateText 2 (Option.some Jvm.ClassFile.FieldType.int)), (yX1_checkArgument, ws_ yX1_checkArgument cX1_checkArgument 1 (Option.none : Option Jvm.ClassFile.FieldType)), (yX1_addGantry, ws_ yX1_addGantry cX1_addGantry 2 (Option.some Jvm.ClassFile.FieldType.int)), (yX1_addRoad, ws_ yX1_addRoad cX1_addRoad 5 (Option.some Jvm.ClassFile.FieldType.int)), (yX1_checkGantry, ws_ yX1_checkGantry cX1_checkGantry 2 (Option.none : Option Jvm.ClassFile.FieldType))],
  [(yX1_checkIndex, ws_ yX1_checkIndex cX1_checkIndex 1 (Option.none : Option Jvm.ClassFile.FieldType)), (yX1_addAccount, ws_ yX1_addAccount cX1_addAccount 4 (Option.some Jvm.ClassFile.FieldType.int)), (yX1_addVehicle, ws_ yX1_addVehicle cX1_addVehicle 3 (Option.some Jvm.ClassFile.FieldType.int)), (yX1_checkAccount, ws_ yX1_checkAccount cX1_checkAccount 2 (Option.none : Option Jvm.ClassFile.FieldType)), (yX1_set, ws_ yX1_set cX1_set 5 (Option.some Jvm.ClassFile.FieldType.int)), (yX1_count, ws_ yX1_count cX1_count 2 (Option.some Jvm.ClassFile.FieldType.int)), (yX1_waiting, ws_ yX1_waiting cX1_waiting 4 (Option.some Jvm.ClassFile.FieldType.int)), (yX1_disputes, ws_ yX1_disputes cX1_disputes 5 (Option.some Jvm.ClassFile.FieldType.int)), (yX1_account, ws_ yX1_account cX1_account 4 (Option.some Jvm.ClassFile.FieldType.int)), (yX1_accountAt, ws_ yX1_accountAt cX1_accountAt 2 (Option.some (Jvm.ClassFile.FieldType.object "TollRoad$Account"))), (yX1_pay, ws_ yX1_pay cX1_pay 4 (Option.some Jvm.ClassFile.FieldType.int)), (yX1_vehicle, ws_ yX1_vehicle cX1_vehicle 4 (Option.some Jvm.ClassFile.FieldType.int)), (yX1_vehicleAt, ws_ yX1_vehicleAt cX1_vehicleAt 2 (Option.some (Jvm.ClassFile.FieldType.object "TollRoad$Vehicle"))), (yX1_setAccount, ws_ yX1_setAccount cX1_setAccount 5 (Option.some Jvm.ClassFile.FieldType.int)), (yX1_route, ws_ yX1_route cX1_route 6 (Option.some Jvm.ClassFile.FieldType.int)), (yX1_checkEnds, ws_ yX1_checkEnds cX1_checkEnds 3 (Option.none : Option Jvm.ClassFile.FieldType))],
  [(yX1_routeOf, ws_ yX1_routeOf cX1_routeOf 5 (Option.some (Jvm.ClassFile.FieldType.object "TollRoad$Route"))), (yX1_routeGantry, ws_ yX1_routeGantry cX1_routeGantry 6 (Option.some Jvm.ClassFile.FieldType.int)), (yX1_leastToll, ws_ yX1_leastToll cX1_leastToll 3 (Option.some Jvm.ClassFile.FieldType.int)), (yX1_tagRead, ws_ yX1_tagRead cX1_tagRead 5 (Option.some Jvm.ClassFile.FieldType.int)), (yX1_imageRead, ws_ yX1_imageRead cX1_imageRead 6 (Option.some Jvm.ClassFile.FieldType.int)), (yX1_read, ws_ yX1_read cX1_read 4 (Option.some Jvm.ClassFile.FieldType.int)), (yX1_readAt, ws_ yX1_readAt cX1_readAt 2 (Option.some (Jvm.ClassFile.FieldType.object "TollRoad$Read"))), (yX1_review, ws_ yX1_review cX1_review 5 (Option.some Jvm.ClassFile.FieldType.int)), (yX1_reviews, ws_ yX1_reviews cX1_reviews 4 (Option.some (Jvm.ClassFile.FieldType.object "java/util/PriorityQueue"))), (yX1_decide, ws_ yX1_decide cX1_decide 3 (Option.some Jvm.ClassFile.FieldType.int)), (yX1_correct, ws_ yX1_correct cX1_correct 5 (Option.some Jvm.ClassFile.FieldType.int)), (yX1_trips, ws_ yX1_trips cX1_trips 3 (Option.some Jvm.ClassFile.FieldType.int)), (yX1_trip, ws_ yX1_trip cX1_trip 5 (Option.some Jvm.ClassFile.FieldType.int)), (yX1_tripAt, ws_ yX1_tripAt cX1_tripAt 5 (Option.some (Jvm.ClassFile.FieldType.object "TollRoad$Trip"))), (yX1_tripGantry, ws_ yX1_tripGantry cX1_tripGantry 5 (Option.some Jvm.ClassFile.FieldType.int)), (yX1_bill, ws_ yX1_bill cX1_bill 4 (Option.some Jvm.ClassFile.FieldType.int))],
  [(yX1_isUntil, ws_ yX1_isUntil cX1_isUntil 1 (Option.some Jvm.ClassFile.FieldType.boolean)), (yX1_billAll, ws_ yX1_billAll cX1_billAll 4 (Option.some Jvm.ClassFile.FieldType.int)), (yX1_due, ws_ yX1_due cX1_due 4 (Option.some Jvm.ClassFile.FieldType.int)), (yX1_billed, ws_ yX1_billed cX1_billed 4 (Option.some Jvm.ClassFile.FieldType.int)), (yX1_billAt, ws_ yX1_billAt cX1_billAt 2 (Option.some (Jvm.ClassFile.FieldType.object "TollRoad$Bill"))), (yX1_billedGantry, ws_ yX1_billedGantry cX1_billedGantry 4 (Option.some Jvm.ClassFile.FieldType.int)), (yX1_dispute, ws_ yX1_dispute cX1_dispute 4 (Option.some Jvm.ClassFile.FieldType.int)), (yX1_disputable, ws_ yX1_disputable cX1_disputable 5 (Option.some Jvm.ClassFile.FieldType.int)), (yX1_gantry, ws_ yX1_gantry cX1_gantry 3 (Option.some Jvm.ClassFile.FieldType.int)), (yX1_readsAt, ws_ yX1_readsAt cX1_readsAt 5 (Option.some Jvm.ClassFile.FieldType.int)), (yX1_visits, ws_ yX1_visits cX1_visits 2 (Option.some Jvm.ClassFile.FieldType.int)), (yX1_missRate, ws_ yX1_missRate cX1_missRate 3 (Option.some Jvm.ClassFile.FieldType.float)), (yX1_save, ws_ yX1_save cX1_save 2 (Option.none : Option Jvm.ClassFile.FieldType)), (yX1_restore, ws_ yX1_restore cX1_restore 2 (Option.none : Option Jvm.ClassFile.FieldType)), (yX10_of, ws_ yX10_of cX10_of 5 (Option.some (Jvm.ClassFile.FieldType.object "TollRoad$Bounds"))), (yX10_has, ws_ yX10_has cX10_has 2 (Option.some Jvm.ClassFile.FieldType.boolean))],
  [(yX11_init, ws_ yX11_init cX11_init 3 (Option.none : Option Jvm.ClassFile.FieldType)), (yX11_low, ws_ yX11_low cX11_low 1 (Option.some Jvm.ClassFile.FieldType.int)), (yX11_high, ws_ yX11_high cX11_high 1 (Option.some Jvm.ClassFile.FieldType.int)), (yX12_init, ws_ yX12_init cX12_init 4 (Option.none : Option Jvm.ClassFile.FieldType)), (yX12_search, ws_ yX12_search cX12_search 1 (Option.some (Jvm.ClassFile.FieldType.object "TollRoad$Search"))), (yX12_go, ws_ yX12_go cX12_go 10 (Option.none : Option Jvm.ClassFile.FieldType)), (yX12_isFound, ws_ yX12_isFound cX12_isFound 1 (Option.some Jvm.ClassFile.FieldType.boolean)), (yX13_init, ws_ yX13_init cX13_init 6 (Option.none : Option Jvm.ClassFile.FieldType)), (yX13_takes, ws_ yX13_takes cX13_takes 7 (Option.some Jvm.ClassFile.FieldType.boolean)), (yX14_takes, ws_ yX14_takes cX14_takes 5 (Option.some Jvm.ClassFile.FieldType.boolean)), (yX14_init, ws_ yX14_init cX14_init 4 (Option.none : Option Jvm.ClassFile.FieldType)), (yX15_init, ws_ yX15_init cX15_init 5 (Option.none : Option Jvm.ClassFile.FieldType)), (yX15_of, ws_ yX15_of cX15_of 2 (Option.some Jvm.ClassFile.FieldType.int)), (yX15_copy, ws_ yX15_copy cX15_copy 2 (Option.some (Jvm.ClassFile.FieldType.object "TollRoad$Read"))), (yX16_init, ws_ yX16_init cX16_init 2 (Option.none : Option Jvm.ClassFile.FieldType)), (yX16_compare, ws_ yX16_compare cX16_compare 3 (Option.some Jvm.ClassFile.FieldType.int))],
  [(yX16_compare_2, ws_ yX16_compare_2 cX16_compare_2 3 (Option.some Jvm.ClassFile.FieldType.int)), (yX16_size, ws_ yX16_size cX16_size 2 (Option.some Jvm.ClassFile.FieldType.int)), (yX17_takes, ws_ yX17_takes cX17_takes 9 (Option.some Jvm.ClassFile.FieldType.boolean)), (yX17_init, ws_ yX17_init cX17_init 3 (Option.none : Option Jvm.ClassFile.FieldType)), (yX17_from, ws_ yX17_from cX17_from 1 (Option.some Jvm.ClassFile.FieldType.int)), (yX17_to, ws_ yX17_to cX17_to 1 (Option.some Jvm.ClassFile.FieldType.int)), (yX17_toll, ws_ yX17_toll cX17_toll 1 (Option.some Jvm.ClassFile.FieldType.int)), (yX17_imageCount, ws_ yX17_imageCount cX17_imageCount 3 (Option.some Jvm.ClassFile.FieldType.int)), (yX17_marks, ws_ yX17_marks cX17_marks 6 (Option.some (Jvm.ClassFile.FieldType.array Jvm.ClassFile.FieldType.boolean))), (yX18_init, ws_ yX18_init cX18_init 7 (Option.none : Option Jvm.ClassFile.FieldType)), (yX18_discount, ws_ yX18_discount cX18_discount 2 (Option.some Jvm.ClassFile.FieldType.int)), (yX18_imageReads, ws_ yX18_imageReads cX18_imageReads 1 (Option.some Jvm.ClassFile.FieldType.int)), (yX18_amountWith, ws_ yX18_amountWith cX18_amountWith 2 (Option.some Jvm.ClassFile.FieldType.int)), (yX18_copy, ws_ yX18_copy cX18_copy 2 (Option.some (Jvm.ClassFile.FieldType.object "TollRoad$Bill"))), (yX19_amount, ws_ yX19_amount cX19_amount 4 (Option.some Jvm.ClassFile.FieldType.int)), (yX19_discount, ws_ yX19_discount cX19_discount 2 (Option.some Jvm.ClassFile.FieldType.int))],
  [(yX2_init, ws_ yX2_init cX2_init 1 (Option.none : Option Jvm.ClassFile.FieldType)), (yX2_marked, ws_ yX2_marked cX2_marked 4 (Option.some Jvm.ClassFile.FieldType.int)), (yX2_addAccount, ws_ yX2_addAccount cX2_addAccount 4 (Option.some Jvm.ClassFile.FieldType.int)), (yX2_addVehicle, ws_ yX2_addVehicle cX2_addVehicle 3 (Option.some Jvm.ClassFile.FieldType.int)), (yX2_readsWith, ws_ yX2_readsWith cX2_readsWith 6 (Option.some Jvm.ClassFile.FieldType.int)), (yX2_leastToll, ws_ yX2_leastToll cX2_leastToll 4 (Option.some Jvm.ClassFile.FieldType.int)), (yX2_add, ws_ yX2_add cX2_add 4 (Option.some Jvm.ClassFile.FieldType.int)), (yX2_count, ws_ yX2_count cX2_count 3 (Option.none : Option Jvm.ClassFile.FieldType)), (yX2_trips, ws_ yX2_trips cX2_trips 7 (Option.some (Jvm.ClassFile.FieldType.object "java/util/ArrayList"))), (yX2_bill, ws_ yX2_bill cX2_bill 5 (Option.some Jvm.ClassFile.FieldType.int)), (yX2_isEarly, ws_ yX2_isEarly cX2_isEarly 3 (Option.some Jvm.ClassFile.FieldType.boolean)), (yX2_bill_2, ws_ yX2_bill_2 cX2_bill_2 7 (Option.some (Jvm.ClassFile.FieldType.object "TollRoad$Bill"))), (yX2_accountOf, ws_ yX2_accountOf cX2_accountOf 2 (Option.some (Jvm.ClassFile.FieldType.object "TollRoad$Account"))), (yX2_reductionOf, wsW_ yX2_reductionOf cX2_reductionOf 4 (Option.some Jvm.ClassFile.FieldType.int) [(0, 5, 6, 136)]), (yX2_close, wsW_ yX2_close cX2_close 7 (Option.none : Option Jvm.ClassFile.FieldType) [(24, 32, 35, 136)]), (yX2_mark, ws_ yX2_mark cX2_mark 5 (Option.none : Option Jvm.ClassFile.FieldType))],
  [(yX2_due, ws_ yX2_due cX2_due 6 (Option.some Jvm.ClassFile.FieldType.int)), (yX2_dispute, wsW_ yX2_dispute cX2_dispute 6 (Option.some Jvm.ClassFile.FieldType.int) [(41, 47, 50, 136)]), (yX2_refund, ws_ yX2_refund cX2_refund 3 (Option.some Jvm.ClassFile.FieldType.int)), (yX2_refundForOther, ws_ yX2_refundForOther cX2_refundForOther 4 (Option.some Jvm.ClassFile.FieldType.int)), (yX2_refundForRoute, ws_ yX2_refundForRoute cX2_refundForRoute 5 (Option.some Jvm.ClassFile.FieldType.int)), (yX2_refundForImages, ws_ yX2_refundForImages cX2_refundForImages 3 (Option.some Jvm.ClassFile.FieldType.int)), (yX2_copy, ws_ yX2_copy cX2_copy 4 (Option.some (Jvm.ClassFile.FieldType.object "TollRoad$World"))), (yX20_init, ws_ yX20_init cX20_init 3 (Option.none : Option Jvm.ClassFile.FieldType)), (yX20_hashCode, ws_ yX20_hashCode cX20_hashCode 1 (Option.some Jvm.ClassFile.FieldType.int)), (yX20_equals, ws_ yX20_equals cX20_equals 2 (Option.some Jvm.ClassFile.FieldType.boolean)), (yX3_init, ws_ yX3_init cX3_init 1 (Option.none : Option Jvm.ClassFile.FieldType)), (yX3_addGantry, ws_ yX3_addGantry cX3_addGantry 2 (Option.some Jvm.ClassFile.FieldType.int)), (yX3_road, ws_ yX3_road cX3_road 3 (Option.some (Jvm.ClassFile.FieldType.object "TollRoad$Road"))), (yX3_add, ws_ yX3_add cX3_add 5 (Option.some Jvm.ClassFile.FieldType.int)), (yX3_copy, ws_ yX3_copy cX3_copy 2 (Option.some (Jvm.ClassFile.FieldType.object "TollRoad$Network"))), (yX4_init, ws_ yX4_init cX4_init 1 (Option.none : Option Jvm.ClassFile.FieldType))],
  [(yX4_clear, ws_ yX4_clear cX4_clear 2 (Option.none : Option Jvm.ClassFile.FieldType)), (yX4_thrown, ws_ yX4_thrown cX4_thrown 1 (Option.some Jvm.ClassFile.FieldType.int)), (yX4_appendText, ws_ yX4_appendText cX4_appendText 3 (Option.some Jvm.ClassFile.FieldType.int)), (yX4_fail, ws_ yX4_fail cX4_fail 2 (Option.some Jvm.ClassFile.FieldType.int)), (yX4_truncateText, ws_ yX4_truncateText cX4_truncateText 2 (Option.some Jvm.ClassFile.FieldType.int)), (yX4_isBetween, ws_ yX4_isBetween cX4_isBetween 3 (Option.some Jvm.ClassFile.FieldType.boolean)), (yX4_load, ws_ yX4_load cX4_load 2 (Option.some Jvm.ClassFile.FieldType.int)), (yX4_copy, ws_ yX4_copy cX4_copy 5 (Option.none : Option Jvm.ClassFile.FieldType)), (yX4_nextToken, ws_ yX4_nextToken cX4_nextToken 2 (Option.none : Option Jvm.ClassFile.FieldType)), (yX4_byteAt, ws_ yX4_byteAt cX4_byteAt 2 (Option.some Jvm.ClassFile.FieldType.int)), (yX4_isLetter, ws_ yX4_isLetter cX4_isLetter 1 (Option.some Jvm.ClassFile.FieldType.boolean)), (yX4_isDigit, ws_ yX4_isDigit cX4_isDigit 1 (Option.some Jvm.ClassFile.FieldType.boolean)), (yX4_isFine, ws_ yX4_isFine cX4_isFine 1 (Option.some Jvm.ClassFile.FieldType.boolean)), (yX4_parseStatement, ws_ yX4_parseStatement cX4_parseStatement 1 (Option.none : Option Jvm.ClassFile.FieldType)), (yX4_isWord, ws_ yX4_isWord cX4_isWord 5 (Option.some Jvm.ClassFile.FieldType.boolean)), (yX4_parseGantry, ws_ yX4_parseGantry cX4_parseGantry 3 (Option.none : Option Jvm.ClassFile.FieldType))],
  [(yX4_require, ws_ yX4_require cX4_require 3 (Option.none : Option Jvm.ClassFile.FieldType)), (yX4_advance, ws_ yX4_advance cX4_advance 1 (Option.none : Option Jvm.ClassFile.FieldType)), (yX4_parseNumber, ws_ yX4_parseNumber cX4_parseNumber 4 (Option.some Jvm.ClassFile.FieldType.int)), (yX4_look, ws_ yX4_look cX4_look 3 (Option.none : Option Jvm.ClassFile.FieldType)), (yX4_appendGantry, ws_ yX4_appendGantry cX4_appendGantry 2 (Option.some Jvm.ClassFile.FieldType.int)), (yX4_parseRoad, ws_ yX4_parseRoad cX4_parseRoad 6 (Option.none : Option Jvm.ClassFile.FieldType)), (yX4_roadFrom, ws_ yX4_roadFrom cX4_roadFrom 4 (Option.some Jvm.ClassFile.FieldType.int)), (yX4_appendRoad, ws_ yX4_appendRoad cX4_appendRoad 6 (Option.some Jvm.ClassFile.FieldType.int)), (yX4_parseAccount, ws_ yX4_parseAccount cX4_parseAccount 5 (Option.none : Option Jvm.ClassFile.FieldType)), (yX4_appendAccount, ws_ yX4_appendAccount cX4_appendAccount 5 (Option.some Jvm.ClassFile.FieldType.int)), (yX4_raise, ws_ yX4_raise cX4_raise 4 (Option.none : Option Jvm.ClassFile.FieldType)), (yX4_parseVehicle, ws_ yX4_parseVehicle cX4_parseVehicle 4 (Option.none : Option Jvm.ClassFile.FieldType)), (yX4_accept, ws_ yX4_accept cX4_accept 3 (Option.some Jvm.ClassFile.FieldType.boolean)), (yX4_appendVehicle, ws_ yX4_appendVehicle cX4_appendVehicle 4 (Option.some Jvm.ClassFile.FieldType.int)), (yX4_parseSet, ws_ yX4_parseSet cX4_parseSet 3 (Option.none : Option Jvm.ClassFile.FieldType)), (yX4_errorCode, ws_ yX4_errorCode cX4_errorCode 1 (Option.some Jvm.ClassFile.FieldType.int))],
  [(yX4_errorPosition, ws_ yX4_errorPosition cX4_errorPosition 1 (Option.some Jvm.ClassFile.FieldType.int)), (yX4_addGantry, ws_ yX4_addGantry cX4_addGantry 2 (Option.some Jvm.ClassFile.FieldType.int)), (yX4_addRoad, ws_ yX4_addRoad cX4_addRoad 5 (Option.some Jvm.ClassFile.FieldType.int)), (yX4_isGantry, ws_ yX4_isGantry cX4_isGantry 2 (Option.some Jvm.ClassFile.FieldType.boolean)), (yX4_addAccount, ws_ yX4_addAccount cX4_addAccount 4 (Option.some Jvm.ClassFile.FieldType.int)), (yX4_addVehicle, ws_ yX4_addVehicle cX4_addVehicle 3 (Option.some Jvm.ClassFile.FieldType.int)), (yX4_isAccount, ws_ yX4_isAccount cX4_isAccount 2 (Option.some Jvm.ClassFile.FieldType.boolean)), (yX4_set, ws_ yX4_set cX4_set 4 (Option.some Jvm.ClassFile.FieldType.int)), (yX4_setting, ws_ yX4_setting cX4_setting 2 (Option.some Jvm.ClassFile.FieldType.int)), (yX4_count, ws_ yX4_count cX4_count 2 (Option.some Jvm.ClassFile.FieldType.int)), (yX4_readsIn, ws_ yX4_readsIn cX4_readsIn 4 (Option.some Jvm.ClassFile.FieldType.int)), (yX4_ofRead, ws_ yX4_ofRead cX4_ofRead 3 (Option.some Jvm.ClassFile.FieldType.int)), (yX4_disputed, ws_ yX4_disputed cX4_disputed 5 (Option.some Jvm.ClassFile.FieldType.int)), (yX4_ofBill, ws_ yX4_ofBill cX4_ofBill 3 (Option.some Jvm.ClassFile.FieldType.int)), (yX4_account, ws_ yX4_account cX4_account 3 (Option.some Jvm.ClassFile.FieldType.int)), (yX4_of, ws_ yX4_of cX4_of 3 (Option.some Jvm.ClassFile.FieldType.int))],
  [(yX4_pay, ws_ yX4_pay cX4_pay 3 (Option.some Jvm.ClassFile.FieldType.int)), (yX4_vehicle, ws_ yX4_vehicle cX4_vehicle 3 (Option.some Jvm.ClassFile.FieldType.int)), (yX4_isVehicle, ws_ yX4_isVehicle cX4_isVehicle 2 (Option.some Jvm.ClassFile.FieldType.boolean)), (yX4_ofVehicle, ws_ yX4_ofVehicle cX4_ofVehicle 3 (Option.some Jvm.ClassFile.FieldType.int)), (yX4_readsOf, ws_ yX4_readsOf cX4_readsOf 5 (Option.some Jvm.ClassFile.FieldType.int)), (yX4_latestBilled, ws_ yX4_latestBilled cX4_latestBilled 5 (Option.some Jvm.ClassFile.FieldType.int)), (yX4_billsOf, ws_ yX4_billsOf cX4_billsOf 4 (Option.some Jvm.ClassFile.FieldType.int)), (yX4_setAccount, ws_ yX4_setAccount cX4_setAccount 4 (Option.some Jvm.ClassFile.FieldType.int)), (yX4_route, ws_ yX4_route cX4_route 5 (Option.some Jvm.ClassFile.FieldType.int)), (yX4_goWays, ws_ yX4_goWays cX4_goWays 7 (Option.none : Option Jvm.ClassFile.FieldType)), (yX4_isOnWay, ws_ yX4_isOnWay cX4_isOnWay 4 (Option.some Jvm.ClassFile.FieldType.boolean)), (yX4_noteWay, ws_ yX4_noteWay cX4_noteWay 6 (Option.none : Option Jvm.ClassFile.FieldType)), (yX4_routeGantry, ws_ yX4_routeGantry cX4_routeGantry 5 (Option.some Jvm.ClassFile.FieldType.int)), (yX4_leastToll, ws_ yX4_leastToll cX4_leastToll 3 (Option.some Jvm.ClassFile.FieldType.int)), (yX4_leastTollOf, ws_ yX4_leastTollOf cX4_leastTollOf 3 (Option.some Jvm.ClassFile.FieldType.int)), (yX4_tagRead, ws_ yX4_tagRead cX4_tagRead 4 (Option.some Jvm.ClassFile.FieldType.int))],
  [(yX4_appendRead, ws_ yX4_appendRead cX4_appendRead 7 (Option.some Jvm.ClassFile.FieldType.int)), (yX4_putRead, ws_ yX4_putRead cX4_putRead 4 (Option.none : Option Jvm.ClassFile.FieldType)), (yX4_comeToCount, ws_ yX4_comeToCount cX4_comeToCount 3 (Option.none : Option Jvm.ClassFile.FieldType)), (yX4_imageRead, ws_ yX4_imageRead cX4_imageRead 5 (Option.some Jvm.ClassFile.FieldType.int)), (yX4_read, ws_ yX4_read cX4_read 3 (Option.some Jvm.ClassFile.FieldType.int)), (yX4_isRead, ws_ yX4_isRead cX4_isRead 2 (Option.some Jvm.ClassFile.FieldType.boolean)), (yX4_review, ws_ yX4_review cX4_review 2 (Option.some Jvm.ClassFile.FieldType.int)), (yX4_reviewAt, ws_ yX4_reviewAt cX4_reviewAt 5 (Option.some Jvm.ClassFile.FieldType.int)), (yX4_isAhead, ws_ yX4_isAhead cX4_isAhead 6 (Option.some Jvm.ClassFile.FieldType.boolean)), (yX4_decide, ws_ yX4_decide cX4_decide 3 (Option.some Jvm.ClassFile.FieldType.int)), (yX4_correct, ws_ yX4_correct cX4_correct 3 (Option.some Jvm.ClassFile.FieldType.int)), (yX4_trips, ws_ yX4_trips cX4_trips 2 (Option.some Jvm.ClassFile.FieldType.int)), (yX4_layTrips, ws_ yX4_layTrips cX4_layTrips 6 (Option.none : Option Jvm.ClassFile.FieldType)), (yX4_layOrder, ws_ yX4_layOrder cX4_layOrder 4 (Option.none : Option Jvm.ClassFile.FieldType)), (yX4_goesOn, ws_ yX4_goesOn cX4_goesOn 5 (Option.some Jvm.ClassFile.FieldType.boolean)), (yX4_addPlace, ws_ yX4_addPlace cX4_addPlace 3 (Option.none : Option Jvm.ClassFile.FieldType))],
  [(yX4_beginTrip, ws_ yX4_beginTrip cX4_beginTrip 2 (Option.none : Option Jvm.ClassFile.FieldType)), (yX4_trip, ws_ yX4_trip cX4_trip 4 (Option.some Jvm.ClassFile.FieldType.int)), (yX4_isTrip, ws_ yX4_isTrip cX4_isTrip 3 (Option.some Jvm.ClassFile.FieldType.boolean)), (yX4_timeOf, ws_ yX4_timeOf cX4_timeOf 5 (Option.some Jvm.ClassFile.FieldType.int)), (yX4_readsOn, ws_ yX4_readsOn cX4_readsOn 6 (Option.some Jvm.ClassFile.FieldType.int)), (yX4_placesOf, ws_ yX4_placesOf cX4_placesOf 2 (Option.some Jvm.ClassFile.FieldType.int)), (yX4_missingOf, ws_ yX4_missingOf cX4_missingOf 4 (Option.some Jvm.ClassFile.FieldType.int)), (yX4_tripGantry, ws_ yX4_tripGantry cX4_tripGantry 4 (Option.some Jvm.ClassFile.FieldType.int)), (yX4_bill, ws_ yX4_bill cX4_bill 3 (Option.some Jvm.ClassFile.FieldType.int)), (yX4_billOne, ws_ yX4_billOne cX4_billOne 4 (Option.some Jvm.ClassFile.FieldType.int)), (yX4_isEarly, ws_ yX4_isEarly cX4_isEarly 3 (Option.some Jvm.ClassFile.FieldType.boolean)), (yX4_billTrip, ws_ yX4_billTrip cX4_billTrip 9 (Option.none : Option Jvm.ClassFile.FieldType)), (yX4_got, ws_ yX4_got cX4_got 3 (Option.some Jvm.ClassFile.FieldType.int)), (yX4_percentOf, ws_ yX4_percentOf cX4_percentOf 4 (Option.some Jvm.ClassFile.FieldType.int)), (yX4_amountOf, ws_ yX4_amountOf cX4_amountOf 6 (Option.some Jvm.ClassFile.FieldType.int)), (yX4_putBill, ws_ yX4_putBill cX4_putBill 4 (Option.none : Option Jvm.ClassFile.FieldType))],
  [(yX4_keepPlaces, ws_ yX4_keepPlaces cX4_keepPlaces 4 (Option.none : Option Jvm.ClassFile.FieldType)), (yX4_charge, ws_ yX4_charge cX4_charge 4 (Option.none : Option Jvm.ClassFile.FieldType)), (yX4_billAll, ws_ yX4_billAll cX4_billAll 4 (Option.some Jvm.ClassFile.FieldType.int)), (yX4_due, ws_ yX4_due cX4_due 5 (Option.some Jvm.ClassFile.FieldType.int)), (yX4_billed, ws_ yX4_billed cX4_billed 3 (Option.some Jvm.ClassFile.FieldType.int)), (yX4_isBill, ws_ yX4_isBill cX4_isBill 2 (Option.some Jvm.ClassFile.FieldType.boolean)), (yX4_billedGantry, ws_ yX4_billedGantry cX4_billedGantry 3 (Option.some Jvm.ClassFile.FieldType.int)), (yX4_dispute, ws_ yX4_dispute cX4_dispute 5 (Option.some Jvm.ClassFile.FieldType.int)), (yX4_refundFor, ws_ yX4_refundFor cX4_refundFor 5 (Option.some Jvm.ClassFile.FieldType.int)), (yX4_leastSure, ws_ yX4_leastSure cX4_leastSure 4 (Option.some Jvm.ClassFile.FieldType.int)), (yX4_routeRefund, ws_ yX4_routeRefund cX4_routeRefund 6 (Option.some Jvm.ClassFile.FieldType.int)), (yX4_newAmount, ws_ yX4_newAmount cX4_newAmount 3 (Option.some Jvm.ClassFile.FieldType.int)), (yX4_disputable, ws_ yX4_disputable cX4_disputable 4 (Option.some Jvm.ClassFile.FieldType.int)), (yX4_revenue, ws_ yX4_revenue cX4_revenue 1 (Option.some Jvm.ClassFile.FieldType.long)), (yX4_amounts, ws_ yX4_amounts cX4_amounts 5 (Option.some Jvm.ClassFile.FieldType.long)), (yX4_gantry, ws_ yX4_gantry cX4_gantry 3 (Option.some Jvm.ClassFile.FieldType.int))],
  [(yX4_readsAt, ws_ yX4_readsAt cX4_readsAt 5 (Option.some Jvm.ClassFile.FieldType.int)), (yX4_placesAt, ws_ yX4_placesAt cX4_placesAt 6 (Option.some Jvm.ClassFile.FieldType.int)), (yX4_missRate, ws_ yX4_missRate cX4_missRate 3 (Option.some Jvm.ClassFile.FieldType.float)), (yX4_worstGantry, ws_ yX4_worstGantry cX4_worstGantry 5 (Option.some Jvm.ClassFile.FieldType.int)), (yX4_meanAmount, ws_ yX4_meanAmount cX4_meanAmount 1 (Option.some Jvm.ClassFile.FieldType.double)), (yX4_save, ws_ yX4_save cX4_save 2 (Option.none : Option Jvm.ClassFile.FieldType)), (yX4_restore, ws_ yX4_restore cX4_restore 2 (Option.none : Option Jvm.ClassFile.FieldType)), (yX5_init, ws_ yX5_init cX5_init 3 (Option.none : Option Jvm.ClassFile.FieldType)), (yX5_advance, ws_ yX5_advance cX5_advance 2 (Option.none : Option Jvm.ClassFile.FieldType)), (yX5_byteAt, ws_ yX5_byteAt cX5_byteAt 2 (Option.some Jvm.ClassFile.FieldType.int)), (yX5_statements, ws_ yX5_statements cX5_statements 2 (Option.some Jvm.ClassFile.FieldType.int)), (yX5_statement, ws_ yX5_statement cX5_statement 7 (Option.none : Option Jvm.ClassFile.FieldType)), (yX5_require, ws_ yX5_require cX5_require 3 (Option.none : Option Jvm.ClassFile.FieldType)), (yX5_number, ws_ yX5_number cX5_number 4 (Option.some Jvm.ClassFile.FieldType.int)), (yX5_look, ws_ yX5_look cX5_look 3 (Option.some Jvm.ClassFile.FieldType.int)), (yX5_road, ws_ yX5_road cX5_road 5 (Option.none : Option Jvm.ClassFile.FieldType))],
  [(yX5_vehicle, ws_ yX5_vehicle cX5_vehicle 4 (Option.none : Option Jvm.ClassFile.FieldType)), (yX6_init, ws_ yX6_init cX6_init 3 (Option.none : Option Jvm.ClassFile.FieldType)), (yX7_init, ws_ yX7_init cX7_init 4 (Option.none : Option Jvm.ClassFile.FieldType)), (yX8_init, ws_ yX8_init cX8_init 4 (Option.none : Option Jvm.ClassFile.FieldType)), (yX8_reduction, ws_ yX8_reduction cX8_reduction 2 (Option.some Jvm.ClassFile.FieldType.int)), (yX8_charge, ws_ yX8_charge cX8_charge 2 (Option.none : Option Jvm.ClassFile.FieldType)), (yX8_refund, ws_ yX8_refund cX8_refund 2 (Option.none : Option Jvm.ClassFile.FieldType)), (yX8_copy, ws_ yX8_copy cX8_copy 2 (Option.some (Jvm.ClassFile.FieldType.object "TollRoad$Account"))), (yX9_init, ws_ yX9_init cX9_init 3 (Option.none : Option Jvm.ClassFile.FieldType)), (yX9_copy, ws_ yX9_copy cX9_copy 2 (Option.some (Jvm.ClassFile.FieldType.object "TollRoad$Vehicle"))), (x, []), (x, []), (x, []), (x, []), (x, []), (x, [])]] (x, [])
def IT : Nat → Mi := tget [[I0, I1, I2, I3, I4, I5, I6, I7, I8, I9, I10, I11, I12, I13, I14, I15],
  [I16, I17, I18, I19, I20, I21, I22, I23, I24, I25, I26, I27, I28, I29, I30, I31],
  [I32, I33, I34, I35, I36, I37, I38, I39, I40, I41, I42, I43, I44, I45, I46, I47],
  [I48, I49, I50, I51, I52, I53, I54, I55, I56, I57, I58, I59, I60, I61, I62, I63],
  [I64, I65, I66, I67, I68, I69, I70, I71, I72, I73, I74, I75, I76, I77, I78, I79],
  [I80, I81, I82, I83, I84, I85, I86, I87, I88, I89, I90, I91, I92, I93, I94, I95],
  [I96, I97, I98, I99, I100, I101, I102, I103, I104, I105, I106, I107, I108, I109, I110, I111],
  [I112, I113, I114, I115, I116, I117, I118, I119, I120, I121, I122, I123, I124, I125, I126, I127],
  [I128, I129, I130, I131, I132, I133, I134, I135, I136, I137, I138, I139, I140, I141, I142, I143],
  [I144, I145, I146, I147, I148, I149, I150, I151, I152, I153, I154, I155, I156, I157, I158, I159],
  [I160, I161, I162, I163, I164, I165, I166, I167, I168, I169, I170, I171, I172, I173, I174, I175],
  [I176, I177, I178, I179, I180, I181, I182, I183, I184, I185, I186, I187, I188, I189, I190, I191],
  [I192, I193, I194, I195, I196, I197, I198, I199, I200, I201, I202, I203, I204, I205, I206, I207],
  [I208, I209, I210, I211, I212, I213, I214, I215, I216, I217, I218, I219, I220, I221, I222, I223],
  [I224, I225, I226, I227, I228, I229, I230, I231, I232, I233, I234, I235, I236, I237, I238, I239],
  [I240, I241, I242, I243, I244, I245, I246, I247, I248, I249, I250, I251, I252, I253, I254, I255],
  [I256, I257, I258, I259, I260, I261, I262, I263, I264, I265, I266, I267, I268, I269, I270, I271],
  [I272, I273, I274, I275, I276, I277, I278, I279, I280, I281, I282, I283, I284, I285, I286, I287],
  [I288, I289, I290, I291, I292, I293, I294, I295, I296, I297, I298, I299, I300, I301, I302, I303],
  [I304, I305, I306, I307, I308, I309, I310, I311, I312, I313, I314, I315, I316, I317, I318, I319],
  [I320, I321, I322, I323, I324, I325, I326, I327, I328, I329, I330, I331, I332, I333, I334, I335],
  [I336, I337, I338, I339, I340, I341, I342, I343, I344, I345, I346, I347, I348, I349, I350, I351],
  [I352, I353, I354, I355, I356, I357, I358, I359, I360, I361, I362, I363, I364, I365, I366, I367],
  [I368, I369, I370, I371, I372, I373, I374, I375, I376, I377, I378, I379, I380, I381, I382, I383],
  [I384, I385, I386, I387, I388, I389, I390, I391, I392, I393, I394, I395, I396, I397, I398, I399],
  [I400, I401, I402, I403, I404, I405, I406, I407, I408, I409, I410, I411, I412, I413, I414, I415],
  [I416, I417, I418, I419, I420, I421, I422, I423, I424, I425, I0, I0, I0, I0, I0, I0]] I0
def OkP (y : Nat) (pc : Nat) (op : Op) : Prop := OpOK NT (IT y) pc op ∧ OpM op
/-! what goes on behind a value read, a place written, a call: opaque for the simplifier -/
noncomputable def kv (o : Option Value) (d y pc : Nat) (L : Lc) (st : List Value) (A : Hp) : Rv := o.bind fun v => exG TB d y pc L (v :: st) A
noncomputable def ki (o : Option Int32) (d y pc : Nat) (L : Lc) (st : List Value) (A : Hp) : Rv := o.bind fun v => exG TB d y pc L (.int v :: st) A
noncomputable def kj (o : Option Int64) (d y pc : Nat) (L : Lc) (st : List Value) (A : Hp) : Rv := o.bind fun v => exG TB d y pc L (.long v :: st) A
noncomputable def kd (o : Option UInt64) (d y pc : Nat) (L : Lc) (st : List Value) (A : Hp) : Rv := o.bind fun v => exG TB d y pc L (.double v :: st) A
noncomputable def kq (o : Option (Option Nat)) (d y pc : Nat) (L : Lc) (st : List Value) (A : Hp) : Rv := o.bind fun v => exG TB d y pc L (va_rf v :: st) A
noncomputable def ka (o : Option ArC) (p d y pc : Nat) (L : Lc) (st : List Value) (A : Hp) : Rv := o.bind fun c => exG TB d y pc L st (seta A p c)
noncomputable def kc (x : Rv) (d y pc : Nat) (L : Lc) (st : List Value) : Rv := afv x (fun v A1 => exG TB d y pc L (v :: st) A1) thr
noncomputable def kc0 (x : Rv) (d y pc : Nat) (L : Lc) (st : List Value) : Rv := af0 x (fun A1 => exG TB d y pc L st A1) thr
noncomputable def kch (l : List (Nat × Nat)) (x : Rv) (d y pc : Nat) (L : Lc) (st : List Value) : Rv := afv x (fun v A1 => exG TB d y pc L (v :: st) A1) (fun E q A1 => (lkn l E).bind fun h => exG TB d y h L [.ref q] A1)
noncomputable def kc0h (l : List (Nat × Nat)) (x : Rv) (d y pc : Nat) (L : Lc) (st : List Value) : Rv := af0 x (fun A1 => exG TB d y pc L st A1) (fun E q A1 => (lkn l E).bind fun h => exG TB d y h L [.ref q] A1)
noncomputable def kw (o : Option Nat) (as : List Value) (d y pc : Nat) (L : Lc) (st : List Value) (A : Hp) : Rv := o.bind fun z => kc (evG TB d z as A) d y pc L st
noncomputable def kw0 (o : Option Nat) (as : List Value) (d y pc : Nat) (L : Lc) (st : List Value) (A : Hp) : Rv := o.bind fun z => kc0 (evG TB d z as A) d y pc L st
noncomputable def kwh (l : List (Nat × Nat)) (o : Option Nat) (as : List Value) (d y pc : Nat) (L : Lc) (st : List Value) (A : Hp) : Rv := o.bind fun z => kch l (evG TB d z as A) d y pc L st
noncomputable def kw0h (l : List (Nat × Nat)) (o : Option Nat) (as : List Value) (d y pc : Nat) (L : Lc) (st : List Value) (A : Hp) : Rv := o.bind fun z => kc0h l (evG TB d z as A) d y pc L st
section
variable {d y pc p z E q h : Nat} {L : Lc} {st as : List Value} {A : Hp} {l : List (Nat × Nat)}
theorem kv_s {v : Value} : kv (some v) d y pc L st A = exG TB d y pc L (v :: st) A := rfl
theorem ki_s {v : Int32} : ki (some v) d y pc L st A = exG TB d y pc L (.int v :: st) A := rfl
theorem kj_s {v : Int64} : kj (some v) d y pc L st A = exG TB d y pc L (.long v :: st) A := rfl
theorem kd_s {v : UInt64} : kd (some v) d y pc L st A = exG TB d y pc L (.double v :: st) A := rfl
theorem kq_s {v : Nat} : kq (some (some v)) d y pc L st A = exG TB d y pc L (.ref v :: st) A := rfl
theorem kq_n : kq (some none) d y pc L st A = exG TB d y pc L (.null :: st) A := rfl
theorem kq_o {v : Option Nat} : kq (some v) d y pc L st A = exG TB d y pc L (va_rf v :: st) A := rfl
theorem ka_s {c : ArC} : ka (some c) p d y pc L st A = exG TB d y pc L st (seta A p c) := rfl
theorem kc_r {v : Value} : kc (some (.inl (some v), A)) d y pc L st = exG TB d y pc L (v :: st) A := rfl
theorem kc_t : kc (some (.inr (E, q), A)) d y pc L st = some (.inr (E, q), A) := rfl
theorem kc0_r : kc0 (some (.inl none, A)) d y pc L st = exG TB d y pc L st A := rfl
theorem kc0_t : kc0 (some (.inr (E, q), A)) d y pc L st = some (.inr (E, q), A) := rfl
theorem kch_r {v : Value} : kch l (some (.inl (some v), A)) d y pc L st = exG TB d y pc L (v :: st) A := rfl
theorem kch_t (e : lkn l E = some h) : kch l (some (.inr (E, q), A)) d y pc L st = exG TB d y h L [.ref q] A := by
  unfold kch
  rw [afv_t, e]
  rfl
theorem kc0h_r : kc0h l (some (.inl none, A)) d y pc L st = exG TB d y pc L st A := rfl
theorem kc0h_t (e : lkn l E = some h) : kc0h l (some (.inr (E, q), A)) d y pc L st = exG TB d y h L [.ref q] A := by
  unfold kc0h
  rw [af0_t, e]
  rfl
theorem kw_s : kw (some z) as d y pc L st A = kc (evG TB d z as A) d y pc L st := rfl
theorem kw0_s : kw0 (some z) as d y pc L st A = kc0 (evG TB d z as A) d y pc L st := rfl
theorem kwh_s : kwh l (some z) as d y pc L st A = kch l (evG TB d z as A) d y pc L st := rfl
theorem kw0h_s : kw0h l (some z) as d y pc L st A = kc0h l (evG TB d z as A) d y pc L st := rfl
end
